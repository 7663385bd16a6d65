set_option maxRecDepth 100000
theorem dJ0_init_0 : decode cJ0_init 0 = .ok (.aload_n 0, 1) := by decide +kernel
theorem dJ0_init_1 : decode cJ0_init 1 = .ok (.invokespecial 1, 3) := by decide +kernel
theorem dJ0_init_4 : decode cJ0_init 4 = .ok (.return_, 1) := by decide +kernel
def dkwJ1_init_0 : List UInt8 := [42, 183, 0, 1, 42, 3, 181, 0, 7, 177]
abbrev dktJ1_init_0 : List UInt8 := dkwJ1_init_0 ++ []
theorem dksJ1_init_0 : cJ1_init.data.toList.drop 0 = dktJ1_init_0 := by decide +kernel
theorem dJ1_init_0 : decode cJ1_init 0 = .ok (.aload_n 0, 1) := dk_42 (dk_at dksJ1_init_0 0 rfl rfl)
theorem dJ1_init_1 : decode cJ1_init 1 = .ok (.invokespecial 1, 3) := dk_183 0 1 (dk_at dksJ1_init_0 1 rfl rfl)
theorem dJ1_init_4 : decode cJ1_init 4 = .ok (.aload_n 0, 1) := dk_42 (dk_at dksJ1_init_0 4 rfl rfl)
theorem dJ1_init_5 : decode cJ1_init 5 = .ok (.iconst 0, 1) := dk_3 (dk_at dksJ1_init_0 5 rfl rfl)
theorem dJ1_init_6 : decode cJ1_init 6 = .ok (.putfield 7, 3) := dk_181 0 7 (dk_at dksJ1_init_0 6 rfl rfl)
theorem dJ1_init_9 : decode cJ1_init 9 = .ok (.return_, 1) := dk_177 (dk_at dksJ1_init_0 9 rfl rfl)
def dkwJ10_checkFromToIndex_0 : List UInt8 := [26, 155, 0, 13, 26, 27, 163, 0, 8, 27, 28, 164, 0, 11, 45, 26, 27, 28, 184, 0, 99, 191, 26, 172]
abbrev dktJ10_checkFromToIndex_0 : List UInt8 := dkwJ10_checkFromToIndex_0 ++ []
theorem dksJ10_checkFromToIndex_0 : cJ10_checkFromToIndex.data.toList.drop 0 = dktJ10_checkFromToIndex_0 := by decide +kernel
theorem dJ10_checkFromToIndex_0 : decode cJ10_checkFromToIndex 0 = .ok (.iload_n 0, 1) := dk_26 (dk_at dksJ10_checkFromToIndex_0 0 rfl rfl)
theorem dJ10_checkFromToIndex_1 : decode cJ10_checkFromToIndex 1 = .ok (.ifCond .lt 13, 3) := dk_155 0 13 (dk_at dksJ10_checkFromToIndex_0 1 rfl rfl)
theorem dJ10_checkFromToIndex_4 : decode cJ10_checkFromToIndex 4 = .ok (.iload_n 0, 1) := dk_26 (dk_at dksJ10_checkFromToIndex_0 4 rfl rfl)
theorem dJ10_checkFromToIndex_5 : decode cJ10_checkFromToIndex 5 = .ok (.iload_n 1, 1) := dk_27 (dk_at dksJ10_checkFromToIndex_0 5 rfl rfl)
theorem dJ10_checkFromToIndex_6 : decode cJ10_checkFromToIndex 6 = .ok (.if_icmp .gt 8, 3) := dk_163 0 8 (dk_at dksJ10_checkFromToIndex_0 6 rfl rfl)
theorem dJ10_checkFromToIndex_9 : decode cJ10_checkFromToIndex 9 = .ok (.iload_n 1, 1) := dk_27 (dk_at dksJ10_checkFromToIndex_0 9 rfl rfl)
theorem dJ10_checkFromToIndex_10 : decode cJ10_checkFromToIndex 10 = .ok (.iload_n 2, 1) := dk_28 (dk_at dksJ10_checkFromToIndex_0 10 rfl rfl)
theorem dJ10_checkFromToIndex_11 : decode cJ10_checkFromToIndex 11 = .ok (.if_icmp .le 11, 3) := dk_164 0 11 (dk_at dksJ10_checkFromToIndex_0 11 rfl rfl)
theorem dJ10_checkFromToIndex_14 : decode cJ10_checkFromToIndex 14 = .ok (.aload_n 3, 1) := dk_45 (dk_at dksJ10_checkFromToIndex_0 14 rfl rfl)
theorem dJ10_checkFromToIndex_15 : decode cJ10_checkFromToIndex 15 = .ok (.iload_n 0, 1) := dk_26 (dk_at dksJ10_checkFromToIndex_0 15 rfl rfl)
theorem dJ10_checkFromToIndex_16 : decode cJ10_checkFromToIndex 16 = .ok (.iload_n 1, 1) := dk_27 (dk_at dksJ10_checkFromToIndex_0 16 rfl rfl)
theorem dJ10_checkFromToIndex_17 : decode cJ10_checkFromToIndex 17 = .ok (.iload_n 2, 1) := dk_28 (dk_at dksJ10_checkFromToIndex_0 17 rfl rfl)
theorem dJ10_checkFromToIndex_18 : decode cJ10_checkFromToIndex 18 = .ok (.invokestatic 99, 3) := dk_184 0 99 (dk_at dksJ10_checkFromToIndex_0 18 rfl rfl)
theorem dJ10_checkFromToIndex_21 : decode cJ10_checkFromToIndex 21 = .ok (.athrow, 1) := dk_191 (dk_at dksJ10_checkFromToIndex_0 21 rfl rfl)
theorem dJ10_checkFromToIndex_22 : decode cJ10_checkFromToIndex 22 = .ok (.iload_n 0, 1) := dk_26 (dk_at dksJ10_checkFromToIndex_0 22 rfl rfl)
theorem dJ10_checkFromToIndex_23 : decode cJ10_checkFromToIndex 23 = .ok (.ireturn, 1) := dk_172 (dk_at dksJ10_checkFromToIndex_0 23 rfl rfl)
def dkwJ10_checkIndex_0 : List UInt8 := [26, 155, 0, 8, 26, 27, 161, 0, 10, 44, 26, 27, 184, 0, 95, 191, 26, 172]
abbrev dktJ10_checkIndex_0 : List UInt8 := dkwJ10_checkIndex_0 ++ []
theorem dksJ10_checkIndex_0 : cJ10_checkIndex.data.toList.drop 0 = dktJ10_checkIndex_0 := by decide +kernel
theorem dJ10_checkIndex_0 : decode cJ10_checkIndex 0 = .ok (.iload_n 0, 1) := dk_26 (dk_at dksJ10_checkIndex_0 0 rfl rfl)
theorem dJ10_checkIndex_1 : decode cJ10_checkIndex 1 = .ok (.ifCond .lt 8, 3) := dk_155 0 8 (dk_at dksJ10_checkIndex_0 1 rfl rfl)
theorem dJ10_checkIndex_4 : decode cJ10_checkIndex 4 = .ok (.iload_n 0, 1) := dk_26 (dk_at dksJ10_checkIndex_0 4 rfl rfl)
theorem dJ10_checkIndex_5 : decode cJ10_checkIndex 5 = .ok (.iload_n 1, 1) := dk_27 (dk_at dksJ10_checkIndex_0 5 rfl rfl)
theorem dJ10_checkIndex_6 : decode cJ10_checkIndex 6 = .ok (.if_icmp .lt 10, 3) := dk_161 0 10 (dk_at dksJ10_checkIndex_0 6 rfl rfl)
theorem dJ10_checkIndex_9 : decode cJ10_checkIndex 9 = .ok (.aload_n 2, 1) := dk_44 (dk_at dksJ10_checkIndex_0 9 rfl rfl)
theorem dJ10_checkIndex_10 : decode cJ10_checkIndex 10 = .ok (.iload_n 0, 1) := dk_26 (dk_at dksJ10_checkIndex_0 10 rfl rfl)
theorem dJ10_checkIndex_11 : decode cJ10_checkIndex 11 = .ok (.iload_n 1, 1) := dk_27 (dk_at dksJ10_checkIndex_0 11 rfl rfl)
theorem dJ10_checkIndex_12 : decode cJ10_checkIndex 12 = .ok (.invokestatic 95, 3) := dk_184 0 95 (dk_at dksJ10_checkIndex_0 12 rfl rfl)
theorem dJ10_checkIndex_15 : decode cJ10_checkIndex 15 = .ok (.athrow, 1) := dk_191 (dk_at dksJ10_checkIndex_0 15 rfl rfl)
theorem dJ10_checkIndex_16 : decode cJ10_checkIndex 16 = .ok (.iload_n 0, 1) := dk_26 (dk_at dksJ10_checkIndex_0 16 rfl rfl)
theorem dJ10_checkIndex_17 : decode cJ10_checkIndex 17 = .ok (.ireturn, 1) := dk_172 (dk_at dksJ10_checkIndex_0 17 rfl rfl)
def dkwJ11_isValidCodePoint_0 : List UInt8 := [26, 16, 16, 124, 60, 27, 16, 17, 162, 0, 7, 4, 167, 0, 4, 3, 172]
abbrev dktJ11_isValidCodePoint_0 : List UInt8 := dkwJ11_isValidCodePoint_0 ++ []
theorem dksJ11_isValidCodePoint_0 : cJ11_isValidCodePoint.data.toList.drop 0 = dktJ11_isValidCodePoint_0 := by decide +kernel
theorem dJ11_isValidCodePoint_0 : decode cJ11_isValidCodePoint 0 = .ok (.iload_n 0, 1) := dk_26 (dk_at dksJ11_isValidCodePoint_0 0 rfl rfl)
theorem dJ11_isValidCodePoint_1 : decode cJ11_isValidCodePoint 1 = .ok (.bipush 16, 2) := dk_16 16 (dk_at dksJ11_isValidCodePoint_0 1 rfl rfl)
theorem dJ11_isValidCodePoint_3 : decode cJ11_isValidCodePoint 3 = .ok (.iushr, 1) := dk_124 (dk_at dksJ11_isValidCodePoint_0 3 rfl rfl)
theorem dJ11_isValidCodePoint_4 : decode cJ11_isValidCodePoint 4 = .ok (.istore_n 1, 1) := dk_60 (dk_at dksJ11_isValidCodePoint_0 4 rfl rfl)
theorem dJ11_isValidCodePoint_5 : decode cJ11_isValidCodePoint 5 = .ok (.iload_n 1, 1) := dk_27 (dk_at dksJ11_isValidCodePoint_0 5 rfl rfl)
theorem dJ11_isValidCodePoint_6 : decode cJ11_isValidCodePoint 6 = .ok (.bipush 17, 2) := dk_16 17 (dk_at dksJ11_isValidCodePoint_0 6 rfl rfl)
theorem dJ11_isValidCodePoint_8 : decode cJ11_isValidCodePoint 8 = .ok (.if_icmp .ge 7, 3) := dk_162 0 7 (dk_at dksJ11_isValidCodePoint_0 8 rfl rfl)
theorem dJ11_isValidCodePoint_11 : decode cJ11_isValidCodePoint 11 = .ok (.iconst 1, 1) := dk_4 (dk_at dksJ11_isValidCodePoint_0 11 rfl rfl)
theorem dJ11_isValidCodePoint_12 : decode cJ11_isValidCodePoint 12 = .ok (.goto 4, 3) := dk_167 0 4 (dk_at dksJ11_isValidCodePoint_0 12 rfl rfl)
theorem dJ11_isValidCodePoint_15 : decode cJ11_isValidCodePoint 15 = .ok (.iconst 0, 1) := dk_3 (dk_at dksJ11_isValidCodePoint_0 15 rfl rfl)
theorem dJ11_isValidCodePoint_16 : decode cJ11_isValidCodePoint 16 = .ok (.ireturn, 1) := dk_172 (dk_at dksJ11_isValidCodePoint_0 16 rfl rfl)
def dkwJ11_highSurrogate_0 : List UInt8 := [26, 16, 10, 124, 18, 110, 96, 146, 172]
abbrev dktJ11_highSurrogate_0 : List UInt8 := dkwJ11_highSurrogate_0 ++ []
theorem dksJ11_highSurrogate_0 : cJ11_highSurrogate.data.toList.drop 0 = dktJ11_highSurrogate_0 := by decide +kernel
theorem dJ11_highSurrogate_0 : decode cJ11_highSurrogate 0 = .ok (.iload_n 0, 1) := dk_26 (dk_at dksJ11_highSurrogate_0 0 rfl rfl)
theorem dJ11_highSurrogate_1 : decode cJ11_highSurrogate 1 = .ok (.bipush 10, 2) := dk_16 10 (dk_at dksJ11_highSurrogate_0 1 rfl rfl)
theorem dJ11_highSurrogate_3 : decode cJ11_highSurrogate 3 = .ok (.iushr, 1) := dk_124 (dk_at dksJ11_highSurrogate_0 3 rfl rfl)
theorem dJ11_highSurrogate_4 : decode cJ11_highSurrogate 4 = .ok (.ldc 110, 2) := dk_18 110 (dk_at dksJ11_highSurrogate_0 4 rfl rfl)
theorem dJ11_highSurrogate_6 : decode cJ11_highSurrogate 6 = .ok (.iadd, 1) := dk_96 (dk_at dksJ11_highSurrogate_0 6 rfl rfl)
theorem dJ11_highSurrogate_7 : decode cJ11_highSurrogate 7 = .ok (.i2c, 1) := dk_146 (dk_at dksJ11_highSurrogate_0 7 rfl rfl)
theorem dJ11_highSurrogate_8 : decode cJ11_highSurrogate 8 = .ok (.ireturn, 1) := dk_172 (dk_at dksJ11_highSurrogate_0 8 rfl rfl)
def dkwJ11_lowSurrogate_0 : List UInt8 := [26, 17, 3, 255, 126, 18, 76, 96, 146, 172]
abbrev dktJ11_lowSurrogate_0 : List UInt8 := dkwJ11_lowSurrogate_0 ++ []
theorem dksJ11_lowSurrogate_0 : cJ11_lowSurrogate.data.toList.drop 0 = dktJ11_lowSurrogate_0 := by decide +kernel
theorem dJ11_lowSurrogate_0 : decode cJ11_lowSurrogate 0 = .ok (.iload_n 0, 1) := dk_26 (dk_at dksJ11_lowSurrogate_0 0 rfl rfl)
theorem dJ11_lowSurrogate_1 : decode cJ11_lowSurrogate 1 = .ok (.sipush 1023, 3) := dk_17 3 255 (dk_at dksJ11_lowSurrogate_0 1 rfl rfl)
theorem dJ11_lowSurrogate_4 : decode cJ11_lowSurrogate 4 = .ok (.iand, 1) := dk_126 (dk_at dksJ11_lowSurrogate_0 4 rfl rfl)
theorem dJ11_lowSurrogate_5 : decode cJ11_lowSurrogate 5 = .ok (.ldc 76, 2) := dk_18 76 (dk_at dksJ11_lowSurrogate_0 5 rfl rfl)
theorem dJ11_lowSurrogate_7 : decode cJ11_lowSurrogate 7 = .ok (.iadd, 1) := dk_96 (dk_at dksJ11_lowSurrogate_0 7 rfl rfl)
theorem dJ11_lowSurrogate_8 : decode cJ11_lowSurrogate 8 = .ok (.i2c, 1) := dk_146 (dk_at dksJ11_lowSurrogate_0 8 rfl rfl)
theorem dJ11_lowSurrogate_9 : decode cJ11_lowSurrogate 9 = .ok (.ireturn, 1) := dk_172 (dk_at dksJ11_lowSurrogate_0 9 rfl rfl)
def dkwJ12_newLength_1 : List UInt8 := [184, 0, 201, 172]
abbrev dktJ12_newLength_1 : List UInt8 := dkwJ12_newLength_1 ++ []
def dkwJ12_newLength_0 : List UInt8 := [26, 27, 28, 184, 0, 194, 96, 62, 3, 29, 162, 0, 11, 29, 18, 200, 163, 0, 5, 29, 172, 26, 27]
abbrev dktJ12_newLength_0 : List UInt8 := dkwJ12_newLength_0 ++ dktJ12_newLength_1
theorem dksJ12_newLength_0 : cJ12_newLength.data.toList.drop 0 = dktJ12_newLength_0 := by decide +kernel
theorem dksJ12_newLength_1 : cJ12_newLength.data.toList.drop 23 = dktJ12_newLength_1 := dk_seg dksJ12_newLength_0 23 rfl rfl
theorem dJ12_newLength_0 : decode cJ12_newLength 0 = .ok (.iload_n 0, 1) := dk_26 (dk_at dksJ12_newLength_0 0 rfl rfl)
theorem dJ12_newLength_1 : decode cJ12_newLength 1 = .ok (.iload_n 1, 1) := dk_27 (dk_at dksJ12_newLength_0 1 rfl rfl)
theorem dJ12_newLength_2 : decode cJ12_newLength 2 = .ok (.iload_n 2, 1) := dk_28 (dk_at dksJ12_newLength_0 2 rfl rfl)
theorem dJ12_newLength_3 : decode cJ12_newLength 3 = .ok (.invokestatic 194, 3) := dk_184 0 194 (dk_at dksJ12_newLength_0 3 rfl rfl)
theorem dJ12_newLength_6 : decode cJ12_newLength 6 = .ok (.iadd, 1) := dk_96 (dk_at dksJ12_newLength_0 6 rfl rfl)
theorem dJ12_newLength_7 : decode cJ12_newLength 7 = .ok (.istore_n 3, 1) := dk_62 (dk_at dksJ12_newLength_0 7 rfl rfl)
theorem dJ12_newLength_8 : decode cJ12_newLength 8 = .ok (.iconst 0, 1) := dk_3 (dk_at dksJ12_newLength_0 8 rfl rfl)
theorem dJ12_newLength_9 : decode cJ12_newLength 9 = .ok (.iload_n 3, 1) := dk_29 (dk_at dksJ12_newLength_0 9 rfl rfl)
theorem dJ12_newLength_10 : decode cJ12_newLength 10 = .ok (.if_icmp .ge 11, 3) := dk_162 0 11 (dk_at dksJ12_newLength_0 10 rfl rfl)
theorem dJ12_newLength_13 : decode cJ12_newLength 13 = .ok (.iload_n 3, 1) := dk_29 (dk_at dksJ12_newLength_0 13 rfl rfl)
theorem dJ12_newLength_14 : decode cJ12_newLength 14 = .ok (.ldc 200, 2) := dk_18 200 (dk_at dksJ12_newLength_0 14 rfl rfl)
theorem dJ12_newLength_16 : decode cJ12_newLength 16 = .ok (.if_icmp .gt 5, 3) := dk_163 0 5 (dk_at dksJ12_newLength_0 16 rfl rfl)
theorem dJ12_newLength_19 : decode cJ12_newLength 19 = .ok (.iload_n 3, 1) := dk_29 (dk_at dksJ12_newLength_0 19 rfl rfl)
theorem dJ12_newLength_20 : decode cJ12_newLength 20 = .ok (.ireturn, 1) := dk_172 (dk_at dksJ12_newLength_0 20 rfl rfl)
theorem dJ12_newLength_21 : decode cJ12_newLength 21 = .ok (.iload_n 0, 1) := dk_26 (dk_at dksJ12_newLength_0 21 rfl rfl)
theorem dJ12_newLength_22 : decode cJ12_newLength 22 = .ok (.iload_n 1, 1) := dk_27 (dk_at dksJ12_newLength_0 22 rfl rfl)
theorem dJ12_newLength_23 : decode cJ12_newLength 23 = .ok (.invokestatic 201, 3) := dk_184 0 201 (dk_at dksJ12_newLength_1 0 rfl rfl)
theorem dJ12_newLength_26 : decode cJ12_newLength 26 = .ok (.ireturn, 1) := dk_172 (dk_at dksJ12_newLength_1 3 rfl rfl)
def dkwJ12_hugeLength_2 : List UInt8 := [191, 28, 18, 200, 163, 0, 6, 18, 200, 172, 28, 172]
abbrev dktJ12_hugeLength_2 : List UInt8 := dkwJ12_hugeLength_2 ++ []
def dkwJ12_hugeLength_1 : List UInt8 := [26, 182, 0, 98, 18, 208, 182, 0, 94, 27, 182, 0, 98, 18, 210, 182, 0, 94, 182, 0, 101, 183, 0, 212]
abbrev dktJ12_hugeLength_1 : List UInt8 := dkwJ12_hugeLength_1 ++ dktJ12_hugeLength_2
def dkwJ12_hugeLength_0 : List UInt8 := [26, 27, 96, 61, 28, 156, 0, 44, 187, 0, 204, 89, 187, 0, 89, 89, 183, 0, 91, 18, 206, 182, 0, 94]
abbrev dktJ12_hugeLength_0 : List UInt8 := dkwJ12_hugeLength_0 ++ dktJ12_hugeLength_1
theorem dksJ12_hugeLength_0 : cJ12_hugeLength.data.toList.drop 0 = dktJ12_hugeLength_0 := by decide +kernel
theorem dksJ12_hugeLength_1 : cJ12_hugeLength.data.toList.drop 24 = dktJ12_hugeLength_1 := dk_seg dksJ12_hugeLength_0 24 rfl rfl
theorem dksJ12_hugeLength_2 : cJ12_hugeLength.data.toList.drop 48 = dktJ12_hugeLength_2 := dk_seg dksJ12_hugeLength_1 24 rfl rfl
theorem dJ12_hugeLength_0 : decode cJ12_hugeLength 0 = .ok (.iload_n 0, 1) := dk_26 (dk_at dksJ12_hugeLength_0 0 rfl rfl)
theorem dJ12_hugeLength_1 : decode cJ12_hugeLength 1 = .ok (.iload_n 1, 1) := dk_27 (dk_at dksJ12_hugeLength_0 1 rfl rfl)
theorem dJ12_hugeLength_2 : decode cJ12_hugeLength 2 = .ok (.iadd, 1) := dk_96 (dk_at dksJ12_hugeLength_0 2 rfl rfl)
theorem dJ12_hugeLength_3 : decode cJ12_hugeLength 3 = .ok (.istore_n 2, 1) := dk_61 (dk_at dksJ12_hugeLength_0 3 rfl rfl)
theorem dJ12_hugeLength_4 : decode cJ12_hugeLength 4 = .ok (.iload_n 2, 1) := dk_28 (dk_at dksJ12_hugeLength_0 4 rfl rfl)
theorem dJ12_hugeLength_5 : decode cJ12_hugeLength 5 = .ok (.ifCond .ge 44, 3) := dk_156 0 44 (dk_at dksJ12_hugeLength_0 5 rfl rfl)
theorem dJ12_hugeLength_8 : decode cJ12_hugeLength 8 = .ok (.new 204, 3) := dk_187 0 204 (dk_at dksJ12_hugeLength_0 8 rfl rfl)
theorem dJ12_hugeLength_11 : decode cJ12_hugeLength 11 = .ok (.dup, 1) := dk_89 (dk_at dksJ12_hugeLength_0 11 rfl rfl)
theorem dJ12_hugeLength_12 : decode cJ12_hugeLength 12 = .ok (.new 89, 3) := dk_187 0 89 (dk_at dksJ12_hugeLength_0 12 rfl rfl)
theorem dJ12_hugeLength_15 : decode cJ12_hugeLength 15 = .ok (.dup, 1) := dk_89 (dk_at dksJ12_hugeLength_0 15 rfl rfl)
theorem dJ12_hugeLength_16 : decode cJ12_hugeLength 16 = .ok (.invokespecial 91, 3) := dk_183 0 91 (dk_at dksJ12_hugeLength_0 16 rfl rfl)
theorem dJ12_hugeLength_19 : decode cJ12_hugeLength 19 = .ok (.ldc 206, 2) := dk_18 206 (dk_at dksJ12_hugeLength_0 19 rfl rfl)
theorem dJ12_hugeLength_21 : decode cJ12_hugeLength 21 = .ok (.invokevirtual 94, 3) := dk_182 0 94 (dk_at dksJ12_hugeLength_0 21 rfl rfl)
theorem dJ12_hugeLength_24 : decode cJ12_hugeLength 24 = .ok (.iload_n 0, 1) := dk_26 (dk_at dksJ12_hugeLength_1 0 rfl rfl)
theorem dJ12_hugeLength_25 : decode cJ12_hugeLength 25 = .ok (.invokevirtual 98, 3) := dk_182 0 98 (dk_at dksJ12_hugeLength_1 1 rfl rfl)
theorem dJ12_hugeLength_28 : decode cJ12_hugeLength 28 = .ok (.ldc 208, 2) := dk_18 208 (dk_at dksJ12_hugeLength_1 4 rfl rfl)
theorem dJ12_hugeLength_30 : decode cJ12_hugeLength 30 = .ok (.invokevirtual 94, 3) := dk_182 0 94 (dk_at dksJ12_hugeLength_1 6 rfl rfl)
theorem dJ12_hugeLength_33 : decode cJ12_hugeLength 33 = .ok (.iload_n 1, 1) := dk_27 (dk_at dksJ12_hugeLength_1 9 rfl rfl)
theorem dJ12_hugeLength_34 : decode cJ12_hugeLength 34 = .ok (.invokevirtual 98, 3) := dk_182 0 98 (dk_at dksJ12_hugeLength_1 10 rfl rfl)
theorem dJ12_hugeLength_37 : decode cJ12_hugeLength 37 = .ok (.ldc 210, 2) := dk_18 210 (dk_at dksJ12_hugeLength_1 13 rfl rfl)
theorem dJ12_hugeLength_39 : decode cJ12_hugeLength 39 = .ok (.invokevirtual 94, 3) := dk_182 0 94 (dk_at dksJ12_hugeLength_1 15 rfl rfl)
theorem dJ12_hugeLength_42 : decode cJ12_hugeLength 42 = .ok (.invokevirtual 101, 3) := dk_182 0 101 (dk_at dksJ12_hugeLength_1 18 rfl rfl)
theorem dJ12_hugeLength_45 : decode cJ12_hugeLength 45 = .ok (.invokespecial 212, 3) := dk_183 0 212 (dk_at dksJ12_hugeLength_1 21 rfl rfl)
theorem dJ12_hugeLength_48 : decode cJ12_hugeLength 48 = .ok (.athrow, 1) := dk_191 (dk_at dksJ12_hugeLength_2 0 rfl rfl)
theorem dJ12_hugeLength_49 : decode cJ12_hugeLength 49 = .ok (.iload_n 2, 1) := dk_28 (dk_at dksJ12_hugeLength_2 1 rfl rfl)
theorem dJ12_hugeLength_50 : decode cJ12_hugeLength 50 = .ok (.ldc 200, 2) := dk_18 200 (dk_at dksJ12_hugeLength_2 2 rfl rfl)
theorem dJ12_hugeLength_52 : decode cJ12_hugeLength 52 = .ok (.if_icmp .gt 6, 3) := dk_163 0 6 (dk_at dksJ12_hugeLength_2 4 rfl rfl)
theorem dJ12_hugeLength_55 : decode cJ12_hugeLength 55 = .ok (.ldc 200, 2) := dk_18 200 (dk_at dksJ12_hugeLength_2 7 rfl rfl)
theorem dJ12_hugeLength_57 : decode cJ12_hugeLength 57 = .ok (.ireturn, 1) := dk_172 (dk_at dksJ12_hugeLength_2 9 rfl rfl)
theorem dJ12_hugeLength_58 : decode cJ12_hugeLength 58 = .ok (.iload_n 2, 1) := dk_28 (dk_at dksJ12_hugeLength_2 10 rfl rfl)
theorem dJ12_hugeLength_59 : decode cJ12_hugeLength 59 = .ok (.ireturn, 1) := dk_172 (dk_at dksJ12_hugeLength_2 11 rfl rfl)
def dkwJ13_copyOf_0 : List UInt8 := [42, 27, 42, 182, 0, 86, 184, 1, 44, 176]
abbrev dktJ13_copyOf_0 : List UInt8 := dkwJ13_copyOf_0 ++ []
theorem dksJ13_copyOf_0 : cJ13_copyOf.data.toList.drop 0 = dktJ13_copyOf_0 := by decide +kernel
theorem dJ13_copyOf_0 : decode cJ13_copyOf 0 = .ok (.aload_n 0, 1) := dk_42 (dk_at dksJ13_copyOf_0 0 rfl rfl)
theorem dJ13_copyOf_1 : decode cJ13_copyOf 1 = .ok (.iload_n 1, 1) := dk_27 (dk_at dksJ13_copyOf_0 1 rfl rfl)
theorem dJ13_copyOf_2 : decode cJ13_copyOf 2 = .ok (.aload_n 0, 1) := dk_42 (dk_at dksJ13_copyOf_0 2 rfl rfl)
theorem dJ13_copyOf_3 : decode cJ13_copyOf 3 = .ok (.invokevirtual 86, 3) := dk_182 0 86 (dk_at dksJ13_copyOf_0 3 rfl rfl)
theorem dJ13_copyOf_6 : decode cJ13_copyOf 6 = .ok (.invokestatic 300, 3) := dk_184 1 44 (dk_at dksJ13_copyOf_0 6 rfl rfl)
theorem dJ13_copyOf_9 : decode cJ13_copyOf 9 = .ok (.areturn, 1) := dk_176 (dk_at dksJ13_copyOf_0 9 rfl rfl)
def dkwJ13_copyOf_2_1 : List UInt8 := [78, 42, 3, 45, 3, 42, 190, 27, 184, 1, 48, 184, 0, 150, 45, 176]
abbrev dktJ13_copyOf_2_1 : List UInt8 := dkwJ13_copyOf_2_1 ++ []
def dkwJ13_copyOf_2_0 : List UInt8 := [44, 18, 110, 166, 0, 10, 27, 189, 0, 2, 167, 0, 14, 44, 182, 0, 90, 27, 184, 0, 95, 192, 0, 110]
abbrev dktJ13_copyOf_2_0 : List UInt8 := dkwJ13_copyOf_2_0 ++ dktJ13_copyOf_2_1
theorem dksJ13_copyOf_2_0 : cJ13_copyOf_2.data.toList.drop 0 = dktJ13_copyOf_2_0 := by decide +kernel
theorem dksJ13_copyOf_2_1 : cJ13_copyOf_2.data.toList.drop 24 = dktJ13_copyOf_2_1 := dk_seg dksJ13_copyOf_2_0 24 rfl rfl
theorem dJ13_copyOf_2_0 : decode cJ13_copyOf_2 0 = .ok (.aload_n 2, 1) := dk_44 (dk_at dksJ13_copyOf_2_0 0 rfl rfl)
theorem dJ13_copyOf_2_1 : decode cJ13_copyOf_2 1 = .ok (.ldc 110, 2) := dk_18 110 (dk_at dksJ13_copyOf_2_0 1 rfl rfl)
theorem dJ13_copyOf_2_3 : decode cJ13_copyOf_2 3 = .ok (.if_acmp .ne 10, 3) := dk_166 0 10 (dk_at dksJ13_copyOf_2_0 3 rfl rfl)
theorem dJ13_copyOf_2_6 : decode cJ13_copyOf_2 6 = .ok (.iload_n 1, 1) := dk_27 (dk_at dksJ13_copyOf_2_0 6 rfl rfl)
theorem dJ13_copyOf_2_7 : decode cJ13_copyOf_2 7 = .ok (.anewarray 2, 3) := dk_189 0 2 (dk_at dksJ13_copyOf_2_0 7 rfl rfl)
theorem dJ13_copyOf_2_10 : decode cJ13_copyOf_2 10 = .ok (.goto 14, 3) := dk_167 0 14 (dk_at dksJ13_copyOf_2_0 10 rfl rfl)
theorem dJ13_copyOf_2_13 : decode cJ13_copyOf_2 13 = .ok (.aload_n 2, 1) := dk_44 (dk_at dksJ13_copyOf_2_0 13 rfl rfl)
theorem dJ13_copyOf_2_14 : decode cJ13_copyOf_2 14 = .ok (.invokevirtual 90, 3) := dk_182 0 90 (dk_at dksJ13_copyOf_2_0 14 rfl rfl)
theorem dJ13_copyOf_2_17 : decode cJ13_copyOf_2 17 = .ok (.iload_n 1, 1) := dk_27 (dk_at dksJ13_copyOf_2_0 17 rfl rfl)
theorem dJ13_copyOf_2_18 : decode cJ13_copyOf_2 18 = .ok (.invokestatic 95, 3) := dk_184 0 95 (dk_at dksJ13_copyOf_2_0 18 rfl rfl)
theorem dJ13_copyOf_2_21 : decode cJ13_copyOf_2 21 = .ok (.checkcast 110, 3) := dk_192 0 110 (dk_at dksJ13_copyOf_2_0 21 rfl rfl)
theorem dJ13_copyOf_2_24 : decode cJ13_copyOf_2 24 = .ok (.astore_n 3, 1) := dk_78 (dk_at dksJ13_copyOf_2_1 0 rfl rfl)
theorem dJ13_copyOf_2_25 : decode cJ13_copyOf_2 25 = .ok (.aload_n 0, 1) := dk_42 (dk_at dksJ13_copyOf_2_1 1 rfl rfl)
theorem dJ13_copyOf_2_26 : decode cJ13_copyOf_2 26 = .ok (.iconst 0, 1) := dk_3 (dk_at dksJ13_copyOf_2_1 2 rfl rfl)
theorem dJ13_copyOf_2_27 : decode cJ13_copyOf_2 27 = .ok (.aload_n 3, 1) := dk_45 (dk_at dksJ13_copyOf_2_1 3 rfl rfl)
theorem dJ13_copyOf_2_28 : decode cJ13_copyOf_2 28 = .ok (.iconst 0, 1) := dk_3 (dk_at dksJ13_copyOf_2_1 4 rfl rfl)
theorem dJ13_copyOf_2_29 : decode cJ13_copyOf_2 29 = .ok (.aload_n 0, 1) := dk_42 (dk_at dksJ13_copyOf_2_1 5 rfl rfl)
theorem dJ13_copyOf_2_30 : decode cJ13_copyOf_2 30 = .ok (.arraylength, 1) := dk_190 (dk_at dksJ13_copyOf_2_1 6 rfl rfl)
theorem dJ13_copyOf_2_31 : decode cJ13_copyOf_2 31 = .ok (.iload_n 1, 1) := dk_27 (dk_at dksJ13_copyOf_2_1 7 rfl rfl)
theorem dJ13_copyOf_2_32 : decode cJ13_copyOf_2 32 = .ok (.invokestatic 304, 3) := dk_184 1 48 (dk_at dksJ13_copyOf_2_1 8 rfl rfl)
theorem dJ13_copyOf_2_35 : decode cJ13_copyOf_2 35 = .ok (.invokestatic 150, 3) := dk_184 0 150 (dk_at dksJ13_copyOf_2_1 11 rfl rfl)
theorem dJ13_copyOf_2_38 : decode cJ13_copyOf_2 38 = .ok (.aload_n 3, 1) := dk_45 (dk_at dksJ13_copyOf_2_1 14 rfl rfl)
theorem dJ13_copyOf_2_39 : decode cJ13_copyOf_2 39 = .ok (.areturn, 1) := dk_176 (dk_at dksJ13_copyOf_2_1 15 rfl rfl)
def dkwJ14_checkIndex_0 : List UInt8 := [26, 27, 1, 184, 0, 105, 172]
abbrev dktJ14_checkIndex_0 : List UInt8 := dkwJ14_checkIndex_0 ++ []
theorem dksJ14_checkIndex_0 : cJ14_checkIndex.data.toList.drop 0 = dktJ14_checkIndex_0 := by decide +kernel
theorem dJ14_checkIndex_0 : decode cJ14_checkIndex 0 = .ok (.iload_n 0, 1) := dk_26 (dk_at dksJ14_checkIndex_0 0 rfl rfl)
theorem dJ14_checkIndex_1 : decode cJ14_checkIndex 1 = .ok (.iload_n 1, 1) := dk_27 (dk_at dksJ14_checkIndex_0 1 rfl rfl)
theorem dJ14_checkIndex_2 : decode cJ14_checkIndex 2 = .ok (.aconst_null, 1) := dk_1 (dk_at dksJ14_checkIndex_0 2 rfl rfl)
theorem dJ14_checkIndex_3 : decode cJ14_checkIndex 3 = .ok (.invokestatic 105, 3) := dk_184 0 105 (dk_at dksJ14_checkIndex_0 3 rfl rfl)
theorem dJ14_checkIndex_6 : decode cJ14_checkIndex 6 = .ok (.ireturn, 1) := dk_172 (dk_at dksJ14_checkIndex_0 6 rfl rfl)
def dkwJ15_compare_0 : List UInt8 := [26, 27, 162, 0, 7, 2, 167, 0, 13, 26, 27, 160, 0, 7, 3, 167, 0, 4, 4, 172]
abbrev dktJ15_compare_0 : List UInt8 := dkwJ15_compare_0 ++ []
theorem dksJ15_compare_0 : cJ15_compare.data.toList.drop 0 = dktJ15_compare_0 := by decide +kernel
theorem dJ15_compare_0 : decode cJ15_compare 0 = .ok (.iload_n 0, 1) := dk_26 (dk_at dksJ15_compare_0 0 rfl rfl)
theorem dJ15_compare_1 : decode cJ15_compare 1 = .ok (.iload_n 1, 1) := dk_27 (dk_at dksJ15_compare_0 1 rfl rfl)
theorem dJ15_compare_2 : decode cJ15_compare 2 = .ok (.if_icmp .ge 7, 3) := dk_162 0 7 (dk_at dksJ15_compare_0 2 rfl rfl)
theorem dJ15_compare_5 : decode cJ15_compare 5 = .ok (.iconst (-1), 1) := dk_2 (dk_at dksJ15_compare_0 5 rfl rfl)
theorem dJ15_compare_6 : decode cJ15_compare 6 = .ok (.goto 13, 3) := dk_167 0 13 (dk_at dksJ15_compare_0 6 rfl rfl)
theorem dJ15_compare_9 : decode cJ15_compare 9 = .ok (.iload_n 0, 1) := dk_26 (dk_at dksJ15_compare_0 9 rfl rfl)
theorem dJ15_compare_10 : decode cJ15_compare 10 = .ok (.iload_n 1, 1) := dk_27 (dk_at dksJ15_compare_0 10 rfl rfl)
theorem dJ15_compare_11 : decode cJ15_compare 11 = .ok (.if_icmp .ne 7, 3) := dk_160 0 7 (dk_at dksJ15_compare_0 11 rfl rfl)
theorem dJ15_compare_14 : decode cJ15_compare 14 = .ok (.iconst 0, 1) := dk_3 (dk_at dksJ15_compare_0 14 rfl rfl)
theorem dJ15_compare_15 : decode cJ15_compare 15 = .ok (.goto 4, 3) := dk_167 0 4 (dk_at dksJ15_compare_0 15 rfl rfl)
theorem dJ15_compare_18 : decode cJ15_compare 18 = .ok (.iconst 1, 1) := dk_4 (dk_at dksJ15_compare_0 18 rfl rfl)
theorem dJ15_compare_19 : decode cJ15_compare 19 = .ok (.ireturn, 1) := dk_172 (dk_at dksJ15_compare_0 19 rfl rfl)
def dkwJ15_bitCount_2 : List UInt8 := [26, 16, 63, 126, 172]
abbrev dktJ15_bitCount_2 : List UInt8 := dkwJ15_bitCount_2 ++ []
def dkwJ15_bitCount_1 : List UInt8 := [26, 26, 7, 124, 96, 19, 1, 11, 126, 59, 26, 26, 16, 8, 124, 96, 59, 26, 26, 16, 16, 124, 96, 59]
abbrev dktJ15_bitCount_1 : List UInt8 := dkwJ15_bitCount_1 ++ dktJ15_bitCount_2
def dkwJ15_bitCount_0 : List UInt8 := [26, 26, 4, 124, 19, 1, 9, 126, 100, 59, 26, 19, 1, 10, 126, 26, 5, 124, 19, 1, 10, 126, 96, 59]
abbrev dktJ15_bitCount_0 : List UInt8 := dkwJ15_bitCount_0 ++ dktJ15_bitCount_1
theorem dksJ15_bitCount_0 : cJ15_bitCount.data.toList.drop 0 = dktJ15_bitCount_0 := by decide +kernel
theorem dksJ15_bitCount_1 : cJ15_bitCount.data.toList.drop 24 = dktJ15_bitCount_1 := dk_seg dksJ15_bitCount_0 24 rfl rfl
theorem dksJ15_bitCount_2 : cJ15_bitCount.data.toList.drop 48 = dktJ15_bitCount_2 := dk_seg dksJ15_bitCount_1 24 rfl rfl
theorem dJ15_bitCount_0 : decode cJ15_bitCount 0 = .ok (.iload_n 0, 1) := dk_26 (dk_at dksJ15_bitCount_0 0 rfl rfl)
theorem dJ15_bitCount_1 : decode cJ15_bitCount 1 = .ok (.iload_n 0, 1) := dk_26 (dk_at dksJ15_bitCount_0 1 rfl rfl)
theorem dJ15_bitCount_2 : decode cJ15_bitCount 2 = .ok (.iconst 1, 1) := dk_4 (dk_at dksJ15_bitCount_0 2 rfl rfl)
theorem dJ15_bitCount_3 : decode cJ15_bitCount 3 = .ok (.iushr, 1) := dk_124 (dk_at dksJ15_bitCount_0 3 rfl rfl)
theorem dJ15_bitCount_4 : decode cJ15_bitCount 4 = .ok (.ldc_w 265, 3) := dk_19 1 9 (dk_at dksJ15_bitCount_0 4 rfl rfl)
theorem dJ15_bitCount_7 : decode cJ15_bitCount 7 = .ok (.iand, 1) := dk_126 (dk_at dksJ15_bitCount_0 7 rfl rfl)
theorem dJ15_bitCount_8 : decode cJ15_bitCount 8 = .ok (.isub, 1) := dk_100 (dk_at dksJ15_bitCount_0 8 rfl rfl)
theorem dJ15_bitCount_9 : decode cJ15_bitCount 9 = .ok (.istore_n 0, 1) := dk_59 (dk_at dksJ15_bitCount_0 9 rfl rfl)
theorem dJ15_bitCount_10 : decode cJ15_bitCount 10 = .ok (.iload_n 0, 1) := dk_26 (dk_at dksJ15_bitCount_0 10 rfl rfl)
theorem dJ15_bitCount_11 : decode cJ15_bitCount 11 = .ok (.ldc_w 266, 3) := dk_19 1 10 (dk_at dksJ15_bitCount_0 11 rfl rfl)
theorem dJ15_bitCount_14 : decode cJ15_bitCount 14 = .ok (.iand, 1) := dk_126 (dk_at dksJ15_bitCount_0 14 rfl rfl)
theorem dJ15_bitCount_15 : decode cJ15_bitCount 15 = .ok (.iload_n 0, 1) := dk_26 (dk_at dksJ15_bitCount_0 15 rfl rfl)
theorem dJ15_bitCount_16 : decode cJ15_bitCount 16 = .ok (.iconst 2, 1) := dk_5 (dk_at dksJ15_bitCount_0 16 rfl rfl)
theorem dJ15_bitCount_17 : decode cJ15_bitCount 17 = .ok (.iushr, 1) := dk_124 (dk_at dksJ15_bitCount_0 17 rfl rfl)
theorem dJ15_bitCount_18 : decode cJ15_bitCount 18 = .ok (.ldc_w 266, 3) := dk_19 1 10 (dk_at dksJ15_bitCount_0 18 rfl rfl)
theorem dJ15_bitCount_21 : decode cJ15_bitCount 21 = .ok (.iand, 1) := dk_126 (dk_at dksJ15_bitCount_0 21 rfl rfl)
theorem dJ15_bitCount_22 : decode cJ15_bitCount 22 = .ok (.iadd, 1) := dk_96 (dk_at dksJ15_bitCount_0 22 rfl rfl)
theorem dJ15_bitCount_23 : decode cJ15_bitCount 23 = .ok (.istore_n 0, 1) := dk_59 (dk_at dksJ15_bitCount_0 23 rfl rfl)
theorem dJ15_bitCount_24 : decode cJ15_bitCount 24 = .ok (.iload_n 0, 1) := dk_26 (dk_at dksJ15_bitCount_1 0 rfl rfl)
theorem dJ15_bitCount_25 : decode cJ15_bitCount 25 = .ok (.iload_n 0, 1) := dk_26 (dk_at dksJ15_bitCount_1 1 rfl rfl)
theorem dJ15_bitCount_26 : decode cJ15_bitCount 26 = .ok (.iconst 4, 1) := dk_7 (dk_at dksJ15_bitCount_1 2 rfl rfl)
theorem dJ15_bitCount_27 : decode cJ15_bitCount 27 = .ok (.iushr, 1) := dk_124 (dk_at dksJ15_bitCount_1 3 rfl rfl)
theorem dJ15_bitCount_28 : decode cJ15_bitCount 28 = .ok (.iadd, 1) := dk_96 (dk_at dksJ15_bitCount_1 4 rfl rfl)
theorem dJ15_bitCount_29 : decode cJ15_bitCount 29 = .ok (.ldc_w 267, 3) := dk_19 1 11 (dk_at dksJ15_bitCount_1 5 rfl rfl)
theorem dJ15_bitCount_32 : decode cJ15_bitCount 32 = .ok (.iand, 1) := dk_126 (dk_at dksJ15_bitCount_1 8 rfl rfl)
theorem dJ15_bitCount_33 : decode cJ15_bitCount 33 = .ok (.istore_n 0, 1) := dk_59 (dk_at dksJ15_bitCount_1 9 rfl rfl)
theorem dJ15_bitCount_34 : decode cJ15_bitCount 34 = .ok (.iload_n 0, 1) := dk_26 (dk_at dksJ15_bitCount_1 10 rfl rfl)
theorem dJ15_bitCount_35 : decode cJ15_bitCount 35 = .ok (.iload_n 0, 1) := dk_26 (dk_at dksJ15_bitCount_1 11 rfl rfl)
theorem dJ15_bitCount_36 : decode cJ15_bitCount 36 = .ok (.bipush 8, 2) := dk_16 8 (dk_at dksJ15_bitCount_1 12 rfl rfl)
theorem dJ15_bitCount_38 : decode cJ15_bitCount 38 = .ok (.iushr, 1) := dk_124 (dk_at dksJ15_bitCount_1 14 rfl rfl)
theorem dJ15_bitCount_39 : decode cJ15_bitCount 39 = .ok (.iadd, 1) := dk_96 (dk_at dksJ15_bitCount_1 15 rfl rfl)
theorem dJ15_bitCount_40 : decode cJ15_bitCount 40 = .ok (.istore_n 0, 1) := dk_59 (dk_at dksJ15_bitCount_1 16 rfl rfl)
theorem dJ15_bitCount_41 : decode cJ15_bitCount 41 = .ok (.iload_n 0, 1) := dk_26 (dk_at dksJ15_bitCount_1 17 rfl rfl)
theorem dJ15_bitCount_42 : decode cJ15_bitCount 42 = .ok (.iload_n 0, 1) := dk_26 (dk_at dksJ15_bitCount_1 18 rfl rfl)
theorem dJ15_bitCount_43 : decode cJ15_bitCount 43 = .ok (.bipush 16, 2) := dk_16 16 (dk_at dksJ15_bitCount_1 19 rfl rfl)
theorem dJ15_bitCount_45 : decode cJ15_bitCount 45 = .ok (.iushr, 1) := dk_124 (dk_at dksJ15_bitCount_1 21 rfl rfl)
theorem dJ15_bitCount_46 : decode cJ15_bitCount 46 = .ok (.iadd, 1) := dk_96 (dk_at dksJ15_bitCount_1 22 rfl rfl)
theorem dJ15_bitCount_47 : decode cJ15_bitCount 47 = .ok (.istore_n 0, 1) := dk_59 (dk_at dksJ15_bitCount_1 23 rfl rfl)
theorem dJ15_bitCount_48 : decode cJ15_bitCount 48 = .ok (.iload_n 0, 1) := dk_26 (dk_at dksJ15_bitCount_2 0 rfl rfl)
theorem dJ15_bitCount_49 : decode cJ15_bitCount 49 = .ok (.bipush 63, 2) := dk_16 63 (dk_at dksJ15_bitCount_2 1 rfl rfl)
theorem dJ15_bitCount_51 : decode cJ15_bitCount 51 = .ok (.iand, 1) := dk_126 (dk_at dksJ15_bitCount_2 3 rfl rfl)
theorem dJ15_bitCount_52 : decode cJ15_bitCount 52 = .ok (.ireturn, 1) := dk_172 (dk_at dksJ15_bitCount_2 4 rfl rfl)
def dkwJ15_numberOfTrailingZeros_3 : List UInt8 := [5, 124, 59, 27, 26, 4, 124, 96, 172]
abbrev dktJ15_numberOfTrailingZeros_3 : List UInt8 := dkwJ15_numberOfTrailingZeros_3 ++ []
def dkwJ15_numberOfTrailingZeros_2 : List UInt8 := [124, 59, 26, 16, 16, 164, 0, 10, 132, 1, 4, 26, 7, 124, 59, 26, 7, 164, 0, 10, 132, 1, 2, 26]
abbrev dktJ15_numberOfTrailingZeros_2 : List UInt8 := dkwJ15_numberOfTrailingZeros_2 ++ dktJ15_numberOfTrailingZeros_3
def dkwJ15_numberOfTrailingZeros_1 : List UInt8 := [164, 0, 11, 132, 1, 16, 26, 16, 16, 124, 59, 26, 17, 1, 0, 164, 0, 11, 132, 1, 8, 26, 16, 8]
abbrev dktJ15_numberOfTrailingZeros_1 : List UInt8 := dkwJ15_numberOfTrailingZeros_1 ++ dktJ15_numberOfTrailingZeros_2
def dkwJ15_numberOfTrailingZeros_0 : List UInt8 := [26, 2, 130, 26, 4, 100, 126, 59, 26, 157, 0, 8, 26, 16, 32, 126, 172, 4, 60, 26, 19, 1, 8]
abbrev dktJ15_numberOfTrailingZeros_0 : List UInt8 := dkwJ15_numberOfTrailingZeros_0 ++ dktJ15_numberOfTrailingZeros_1
theorem dksJ15_numberOfTrailingZeros_0 : cJ15_numberOfTrailingZeros.data.toList.drop 0 = dktJ15_numberOfTrailingZeros_0 := by decide +kernel
theorem dksJ15_numberOfTrailingZeros_1 : cJ15_numberOfTrailingZeros.data.toList.drop 23 = dktJ15_numberOfTrailingZeros_1 := dk_seg dksJ15_numberOfTrailingZeros_0 23 rfl rfl
theorem dksJ15_numberOfTrailingZeros_2 : cJ15_numberOfTrailingZeros.data.toList.drop 47 = dktJ15_numberOfTrailingZeros_2 := dk_seg dksJ15_numberOfTrailingZeros_1 24 rfl rfl
theorem dksJ15_numberOfTrailingZeros_3 : cJ15_numberOfTrailingZeros.data.toList.drop 71 = dktJ15_numberOfTrailingZeros_3 := dk_seg dksJ15_numberOfTrailingZeros_2 24 rfl rfl
theorem dJ15_numberOfTrailingZeros_0 : decode cJ15_numberOfTrailingZeros 0 = .ok (.iload_n 0, 1) := dk_26 (dk_at dksJ15_numberOfTrailingZeros_0 0 rfl rfl)
theorem dJ15_numberOfTrailingZeros_1 : decode cJ15_numberOfTrailingZeros 1 = .ok (.iconst (-1), 1) := dk_2 (dk_at dksJ15_numberOfTrailingZeros_0 1 rfl rfl)
theorem dJ15_numberOfTrailingZeros_2 : decode cJ15_numberOfTrailingZeros 2 = .ok (.ixor, 1) := dk_130 (dk_at dksJ15_numberOfTrailingZeros_0 2 rfl rfl)
theorem dJ15_numberOfTrailingZeros_3 : decode cJ15_numberOfTrailingZeros 3 = .ok (.iload_n 0, 1) := dk_26 (dk_at dksJ15_numberOfTrailingZeros_0 3 rfl rfl)
theorem dJ15_numberOfTrailingZeros_4 : decode cJ15_numberOfTrailingZeros 4 = .ok (.iconst 1, 1) := dk_4 (dk_at dksJ15_numberOfTrailingZeros_0 4 rfl rfl)
theorem dJ15_numberOfTrailingZeros_5 : decode cJ15_numberOfTrailingZeros 5 = .ok (.isub, 1) := dk_100 (dk_at dksJ15_numberOfTrailingZeros_0 5 rfl rfl)
theorem dJ15_numberOfTrailingZeros_6 : decode cJ15_numberOfTrailingZeros 6 = .ok (.iand, 1) := dk_126 (dk_at dksJ15_numberOfTrailingZeros_0 6 rfl rfl)
theorem dJ15_numberOfTrailingZeros_7 : decode cJ15_numberOfTrailingZeros 7 = .ok (.istore_n 0, 1) := dk_59 (dk_at dksJ15_numberOfTrailingZeros_0 7 rfl rfl)
theorem dJ15_numberOfTrailingZeros_8 : decode cJ15_numberOfTrailingZeros 8 = .ok (.iload_n 0, 1) := dk_26 (dk_at dksJ15_numberOfTrailingZeros_0 8 rfl rfl)
theorem dJ15_numberOfTrailingZeros_9 : decode cJ15_numberOfTrailingZeros 9 = .ok (.ifCond .gt 8, 3) := dk_157 0 8 (dk_at dksJ15_numberOfTrailingZeros_0 9 rfl rfl)
theorem dJ15_numberOfTrailingZeros_12 : decode cJ15_numberOfTrailingZeros 12 = .ok (.iload_n 0, 1) := dk_26 (dk_at dksJ15_numberOfTrailingZeros_0 12 rfl rfl)
theorem dJ15_numberOfTrailingZeros_13 : decode cJ15_numberOfTrailingZeros 13 = .ok (.bipush 32, 2) := dk_16 32 (dk_at dksJ15_numberOfTrailingZeros_0 13 rfl rfl)
theorem dJ15_numberOfTrailingZeros_15 : decode cJ15_numberOfTrailingZeros 15 = .ok (.iand, 1) := dk_126 (dk_at dksJ15_numberOfTrailingZeros_0 15 rfl rfl)
theorem dJ15_numberOfTrailingZeros_16 : decode cJ15_numberOfTrailingZeros 16 = .ok (.ireturn, 1) := dk_172 (dk_at dksJ15_numberOfTrailingZeros_0 16 rfl rfl)
theorem dJ15_numberOfTrailingZeros_17 : decode cJ15_numberOfTrailingZeros 17 = .ok (.iconst 1, 1) := dk_4 (dk_at dksJ15_numberOfTrailingZeros_0 17 rfl rfl)
theorem dJ15_numberOfTrailingZeros_18 : decode cJ15_numberOfTrailingZeros 18 = .ok (.istore_n 1, 1) := dk_60 (dk_at dksJ15_numberOfTrailingZeros_0 18 rfl rfl)
theorem dJ15_numberOfTrailingZeros_19 : decode cJ15_numberOfTrailingZeros 19 = .ok (.iload_n 0, 1) := dk_26 (dk_at dksJ15_numberOfTrailingZeros_0 19 rfl rfl)
theorem dJ15_numberOfTrailingZeros_20 : decode cJ15_numberOfTrailingZeros 20 = .ok (.ldc_w 264, 3) := dk_19 1 8 (dk_at dksJ15_numberOfTrailingZeros_0 20 rfl rfl)
theorem dJ15_numberOfTrailingZeros_23 : decode cJ15_numberOfTrailingZeros 23 = .ok (.if_icmp .le 11, 3) := dk_164 0 11 (dk_at dksJ15_numberOfTrailingZeros_1 0 rfl rfl)
theorem dJ15_numberOfTrailingZeros_26 : decode cJ15_numberOfTrailingZeros 26 = .ok (.iinc 1 16, 3) := dk_132 1 16 (dk_at dksJ15_numberOfTrailingZeros_1 3 rfl rfl)
theorem dJ15_numberOfTrailingZeros_29 : decode cJ15_numberOfTrailingZeros 29 = .ok (.iload_n 0, 1) := dk_26 (dk_at dksJ15_numberOfTrailingZeros_1 6 rfl rfl)
theorem dJ15_numberOfTrailingZeros_30 : decode cJ15_numberOfTrailingZeros 30 = .ok (.bipush 16, 2) := dk_16 16 (dk_at dksJ15_numberOfTrailingZeros_1 7 rfl rfl)
theorem dJ15_numberOfTrailingZeros_32 : decode cJ15_numberOfTrailingZeros 32 = .ok (.iushr, 1) := dk_124 (dk_at dksJ15_numberOfTrailingZeros_1 9 rfl rfl)
theorem dJ15_numberOfTrailingZeros_33 : decode cJ15_numberOfTrailingZeros 33 = .ok (.istore_n 0, 1) := dk_59 (dk_at dksJ15_numberOfTrailingZeros_1 10 rfl rfl)
theorem dJ15_numberOfTrailingZeros_34 : decode cJ15_numberOfTrailingZeros 34 = .ok (.iload_n 0, 1) := dk_26 (dk_at dksJ15_numberOfTrailingZeros_1 11 rfl rfl)
theorem dJ15_numberOfTrailingZeros_35 : decode cJ15_numberOfTrailingZeros 35 = .ok (.sipush 256, 3) := dk_17 1 0 (dk_at dksJ15_numberOfTrailingZeros_1 12 rfl rfl)
theorem dJ15_numberOfTrailingZeros_38 : decode cJ15_numberOfTrailingZeros 38 = .ok (.if_icmp .le 11, 3) := dk_164 0 11 (dk_at dksJ15_numberOfTrailingZeros_1 15 rfl rfl)
theorem dJ15_numberOfTrailingZeros_41 : decode cJ15_numberOfTrailingZeros 41 = .ok (.iinc 1 8, 3) := dk_132 1 8 (dk_at dksJ15_numberOfTrailingZeros_1 18 rfl rfl)
theorem dJ15_numberOfTrailingZeros_44 : decode cJ15_numberOfTrailingZeros 44 = .ok (.iload_n 0, 1) := dk_26 (dk_at dksJ15_numberOfTrailingZeros_1 21 rfl rfl)
theorem dJ15_numberOfTrailingZeros_45 : decode cJ15_numberOfTrailingZeros 45 = .ok (.bipush 8, 2) := dk_16 8 (dk_at dksJ15_numberOfTrailingZeros_1 22 rfl rfl)
theorem dJ15_numberOfTrailingZeros_47 : decode cJ15_numberOfTrailingZeros 47 = .ok (.iushr, 1) := dk_124 (dk_at dksJ15_numberOfTrailingZeros_2 0 rfl rfl)
theorem dJ15_numberOfTrailingZeros_48 : decode cJ15_numberOfTrailingZeros 48 = .ok (.istore_n 0, 1) := dk_59 (dk_at dksJ15_numberOfTrailingZeros_2 1 rfl rfl)
theorem dJ15_numberOfTrailingZeros_49 : decode cJ15_numberOfTrailingZeros 49 = .ok (.iload_n 0, 1) := dk_26 (dk_at dksJ15_numberOfTrailingZeros_2 2 rfl rfl)
theorem dJ15_numberOfTrailingZeros_50 : decode cJ15_numberOfTrailingZeros 50 = .ok (.bipush 16, 2) := dk_16 16 (dk_at dksJ15_numberOfTrailingZeros_2 3 rfl rfl)
theorem dJ15_numberOfTrailingZeros_52 : decode cJ15_numberOfTrailingZeros 52 = .ok (.if_icmp .le 10, 3) := dk_164 0 10 (dk_at dksJ15_numberOfTrailingZeros_2 5 rfl rfl)
theorem dJ15_numberOfTrailingZeros_55 : decode cJ15_numberOfTrailingZeros 55 = .ok (.iinc 1 4, 3) := dk_132 1 4 (dk_at dksJ15_numberOfTrailingZeros_2 8 rfl rfl)
theorem dJ15_numberOfTrailingZeros_58 : decode cJ15_numberOfTrailingZeros 58 = .ok (.iload_n 0, 1) := dk_26 (dk_at dksJ15_numberOfTrailingZeros_2 11 rfl rfl)
theorem dJ15_numberOfTrailingZeros_59 : decode cJ15_numberOfTrailingZeros 59 = .ok (.iconst 4, 1) := dk_7 (dk_at dksJ15_numberOfTrailingZeros_2 12 rfl rfl)
theorem dJ15_numberOfTrailingZeros_60 : decode cJ15_numberOfTrailingZeros 60 = .ok (.iushr, 1) := dk_124 (dk_at dksJ15_numberOfTrailingZeros_2 13 rfl rfl)
theorem dJ15_numberOfTrailingZeros_61 : decode cJ15_numberOfTrailingZeros 61 = .ok (.istore_n 0, 1) := dk_59 (dk_at dksJ15_numberOfTrailingZeros_2 14 rfl rfl)
theorem dJ15_numberOfTrailingZeros_62 : decode cJ15_numberOfTrailingZeros 62 = .ok (.iload_n 0, 1) := dk_26 (dk_at dksJ15_numberOfTrailingZeros_2 15 rfl rfl)
theorem dJ15_numberOfTrailingZeros_63 : decode cJ15_numberOfTrailingZeros 63 = .ok (.iconst 4, 1) := dk_7 (dk_at dksJ15_numberOfTrailingZeros_2 16 rfl rfl)
theorem dJ15_numberOfTrailingZeros_64 : decode cJ15_numberOfTrailingZeros 64 = .ok (.if_icmp .le 10, 3) := dk_164 0 10 (dk_at dksJ15_numberOfTrailingZeros_2 17 rfl rfl)
theorem dJ15_numberOfTrailingZeros_67 : decode cJ15_numberOfTrailingZeros 67 = .ok (.iinc 1 2, 3) := dk_132 1 2 (dk_at dksJ15_numberOfTrailingZeros_2 20 rfl rfl)
theorem dJ15_numberOfTrailingZeros_70 : decode cJ15_numberOfTrailingZeros 70 = .ok (.iload_n 0, 1) := dk_26 (dk_at dksJ15_numberOfTrailingZeros_2 23 rfl rfl)
theorem dJ15_numberOfTrailingZeros_71 : decode cJ15_numberOfTrailingZeros 71 = .ok (.iconst 2, 1) := dk_5 (dk_at dksJ15_numberOfTrailingZeros_3 0 rfl rfl)
theorem dJ15_numberOfTrailingZeros_72 : decode cJ15_numberOfTrailingZeros 72 = .ok (.iushr, 1) := dk_124 (dk_at dksJ15_numberOfTrailingZeros_3 1 rfl rfl)
theorem dJ15_numberOfTrailingZeros_73 : decode cJ15_numberOfTrailingZeros 73 = .ok (.istore_n 0, 1) := dk_59 (dk_at dksJ15_numberOfTrailingZeros_3 2 rfl rfl)
theorem dJ15_numberOfTrailingZeros_74 : decode cJ15_numberOfTrailingZeros 74 = .ok (.iload_n 1, 1) := dk_27 (dk_at dksJ15_numberOfTrailingZeros_3 3 rfl rfl)
theorem dJ15_numberOfTrailingZeros_75 : decode cJ15_numberOfTrailingZeros 75 = .ok (.iload_n 0, 1) := dk_26 (dk_at dksJ15_numberOfTrailingZeros_3 4 rfl rfl)
theorem dJ15_numberOfTrailingZeros_76 : decode cJ15_numberOfTrailingZeros 76 = .ok (.iconst 1, 1) := dk_4 (dk_at dksJ15_numberOfTrailingZeros_3 5 rfl rfl)
theorem dJ15_numberOfTrailingZeros_77 : decode cJ15_numberOfTrailingZeros 77 = .ok (.iushr, 1) := dk_124 (dk_at dksJ15_numberOfTrailingZeros_3 6 rfl rfl)
theorem dJ15_numberOfTrailingZeros_78 : decode cJ15_numberOfTrailingZeros 78 = .ok (.iadd, 1) := dk_96 (dk_at dksJ15_numberOfTrailingZeros_3 7 rfl rfl)
theorem dJ15_numberOfTrailingZeros_79 : decode cJ15_numberOfTrailingZeros 79 = .ok (.ireturn, 1) := dk_172 (dk_at dksJ15_numberOfTrailingZeros_3 8 rfl rfl)
def dkwJ16_signum_0 : List UInt8 := [30, 16, 63, 123, 30, 117, 16, 63, 125, 129, 136, 172]
abbrev dktJ16_signum_0 : List UInt8 := dkwJ16_signum_0 ++ []
theorem dksJ16_signum_0 : cJ16_signum.data.toList.drop 0 = dktJ16_signum_0 := by decide +kernel
theorem dJ16_signum_0 : decode cJ16_signum 0 = .ok (.lload_n 0, 1) := dk_30 (dk_at dksJ16_signum_0 0 rfl rfl)
theorem dJ16_signum_1 : decode cJ16_signum 1 = .ok (.bipush 63, 2) := dk_16 63 (dk_at dksJ16_signum_0 1 rfl rfl)
theorem dJ16_signum_3 : decode cJ16_signum 3 = .ok (.lshr, 1) := dk_123 (dk_at dksJ16_signum_0 3 rfl rfl)
theorem dJ16_signum_4 : decode cJ16_signum 4 = .ok (.lload_n 0, 1) := dk_30 (dk_at dksJ16_signum_0 4 rfl rfl)
theorem dJ16_signum_5 : decode cJ16_signum 5 = .ok (.lneg, 1) := dk_117 (dk_at dksJ16_signum_0 5 rfl rfl)
theorem dJ16_signum_6 : decode cJ16_signum 6 = .ok (.bipush 63, 2) := dk_16 63 (dk_at dksJ16_signum_0 6 rfl rfl)
theorem dJ16_signum_8 : decode cJ16_signum 8 = .ok (.lushr, 1) := dk_125 (dk_at dksJ16_signum_0 8 rfl rfl)
theorem dJ16_signum_9 : decode cJ16_signum 9 = .ok (.lor, 1) := dk_129 (dk_at dksJ16_signum_0 9 rfl rfl)
theorem dJ16_signum_10 : decode cJ16_signum 10 = .ok (.l2i, 1) := dk_136 (dk_at dksJ16_signum_0 10 rfl rfl)
theorem dJ16_signum_11 : decode cJ16_signum 11 = .ok (.ireturn, 1) := dk_172 (dk_at dksJ16_signum_0 11 rfl rfl)
theorem dJ17_init_0 : decode cJ17_init 0 = .ok (.return_, 1) := by decide +kernel
def dkwJ2_init_0 : List UInt8 := [42, 183, 0, 1, 42, 178, 0, 39, 181, 0, 9, 177]
abbrev dktJ2_init_0 : List UInt8 := dkwJ2_init_0 ++ []
theorem dksJ2_init_0 : cJ2_init.data.toList.drop 0 = dktJ2_init_0 := by decide +kernel
theorem dJ2_init_0 : decode cJ2_init 0 = .ok (.aload_n 0, 1) := dk_42 (dk_at dksJ2_init_0 0 rfl rfl)
theorem dJ2_init_1 : decode cJ2_init 1 = .ok (.invokespecial 1, 3) := dk_183 0 1 (dk_at dksJ2_init_0 1 rfl rfl)
theorem dJ2_init_4 : decode cJ2_init 4 = .ok (.aload_n 0, 1) := dk_42 (dk_at dksJ2_init_0 4 rfl rfl)
theorem dJ2_init_5 : decode cJ2_init 5 = .ok (.getstatic 39, 3) := dk_178 0 39 (dk_at dksJ2_init_0 5 rfl rfl)
theorem dJ2_init_8 : decode cJ2_init 8 = .ok (.putfield 9, 3) := dk_181 0 9 (dk_at dksJ2_init_0 8 rfl rfl)
theorem dJ2_init_11 : decode cJ2_init 11 = .ok (.return_, 1) := dk_177 (dk_at dksJ2_init_0 11 rfl rfl)
def dkwJ2_clear_1 : List UInt8 := [181, 0, 48, 62, 29, 28, 162, 0, 13, 43, 29, 1, 83, 132, 3, 1, 167, 255, 244, 177]
abbrev dktJ2_clear_1 : List UInt8 := dkwJ2_clear_1 ++ []
def dkwJ2_clear_0 : List UInt8 := [42, 89, 180, 0, 63, 4, 96, 181, 0, 63, 42, 180, 0, 9, 76, 42, 180, 0, 48, 61, 42, 3, 90]
abbrev dktJ2_clear_0 : List UInt8 := dkwJ2_clear_0 ++ dktJ2_clear_1
theorem dksJ2_clear_0 : cJ2_clear.data.toList.drop 0 = dktJ2_clear_0 := by decide +kernel
theorem dksJ2_clear_1 : cJ2_clear.data.toList.drop 23 = dktJ2_clear_1 := dk_seg dksJ2_clear_0 23 rfl rfl
theorem dJ2_clear_0 : decode cJ2_clear 0 = .ok (.aload_n 0, 1) := dk_42 (dk_at dksJ2_clear_0 0 rfl rfl)
theorem dJ2_clear_1 : decode cJ2_clear 1 = .ok (.dup, 1) := dk_89 (dk_at dksJ2_clear_0 1 rfl rfl)
theorem dJ2_clear_2 : decode cJ2_clear 2 = .ok (.getfield 63, 3) := dk_180 0 63 (dk_at dksJ2_clear_0 2 rfl rfl)
theorem dJ2_clear_5 : decode cJ2_clear 5 = .ok (.iconst 1, 1) := dk_4 (dk_at dksJ2_clear_0 5 rfl rfl)
theorem dJ2_clear_6 : decode cJ2_clear 6 = .ok (.iadd, 1) := dk_96 (dk_at dksJ2_clear_0 6 rfl rfl)
theorem dJ2_clear_7 : decode cJ2_clear 7 = .ok (.putfield 63, 3) := dk_181 0 63 (dk_at dksJ2_clear_0 7 rfl rfl)
theorem dJ2_clear_10 : decode cJ2_clear 10 = .ok (.aload_n 0, 1) := dk_42 (dk_at dksJ2_clear_0 10 rfl rfl)
theorem dJ2_clear_11 : decode cJ2_clear 11 = .ok (.getfield 9, 3) := dk_180 0 9 (dk_at dksJ2_clear_0 11 rfl rfl)
theorem dJ2_clear_14 : decode cJ2_clear 14 = .ok (.astore_n 1, 1) := dk_76 (dk_at dksJ2_clear_0 14 rfl rfl)
theorem dJ2_clear_15 : decode cJ2_clear 15 = .ok (.aload_n 0, 1) := dk_42 (dk_at dksJ2_clear_0 15 rfl rfl)
theorem dJ2_clear_16 : decode cJ2_clear 16 = .ok (.getfield 48, 3) := dk_180 0 48 (dk_at dksJ2_clear_0 16 rfl rfl)
theorem dJ2_clear_19 : decode cJ2_clear 19 = .ok (.istore_n 2, 1) := dk_61 (dk_at dksJ2_clear_0 19 rfl rfl)
theorem dJ2_clear_20 : decode cJ2_clear 20 = .ok (.aload_n 0, 1) := dk_42 (dk_at dksJ2_clear_0 20 rfl rfl)
theorem dJ2_clear_21 : decode cJ2_clear 21 = .ok (.iconst 0, 1) := dk_3 (dk_at dksJ2_clear_0 21 rfl rfl)
theorem dJ2_clear_22 : decode cJ2_clear 22 = .ok (.dup_x1, 1) := dk_90 (dk_at dksJ2_clear_0 22 rfl rfl)
theorem dJ2_clear_23 : decode cJ2_clear 23 = .ok (.putfield 48, 3) := dk_181 0 48 (dk_at dksJ2_clear_1 0 rfl rfl)
theorem dJ2_clear_26 : decode cJ2_clear 26 = .ok (.istore_n 3, 1) := dk_62 (dk_at dksJ2_clear_1 3 rfl rfl)
theorem dJ2_clear_27 : decode cJ2_clear 27 = .ok (.iload_n 3, 1) := dk_29 (dk_at dksJ2_clear_1 4 rfl rfl)
theorem dJ2_clear_28 : decode cJ2_clear 28 = .ok (.iload_n 2, 1) := dk_28 (dk_at dksJ2_clear_1 5 rfl rfl)
theorem dJ2_clear_29 : decode cJ2_clear 29 = .ok (.if_icmp .ge 13, 3) := dk_162 0 13 (dk_at dksJ2_clear_1 6 rfl rfl)
theorem dJ2_clear_32 : decode cJ2_clear 32 = .ok (.aload_n 1, 1) := dk_43 (dk_at dksJ2_clear_1 9 rfl rfl)
theorem dJ2_clear_33 : decode cJ2_clear 33 = .ok (.iload_n 3, 1) := dk_29 (dk_at dksJ2_clear_1 10 rfl rfl)
theorem dJ2_clear_34 : decode cJ2_clear 34 = .ok (.aconst_null, 1) := dk_1 (dk_at dksJ2_clear_1 11 rfl rfl)
theorem dJ2_clear_35 : decode cJ2_clear 35 = .ok (.aastore, 1) := dk_83 (dk_at dksJ2_clear_1 12 rfl rfl)
theorem dJ2_clear_36 : decode cJ2_clear 36 = .ok (.iinc 3 1, 3) := dk_132 3 1 (dk_at dksJ2_clear_1 13 rfl rfl)
theorem dJ2_clear_39 : decode cJ2_clear 39 = .ok (.goto (-12), 3) := dk_167 255 244 (dk_at dksJ2_clear_1 16 rfl rfl)
theorem dJ2_clear_42 : decode cJ2_clear 42 = .ok (.return_, 1) := dk_177 (dk_at dksJ2_clear_1 19 rfl rfl)
theorem dJ2_size_0 : decode cJ2_size 0 = .ok (.aload_n 0, 1) := by decide +kernel
theorem dJ2_size_1 : decode cJ2_size 1 = .ok (.getfield 48, 3) := by decide +kernel
theorem dJ2_size_4 : decode cJ2_size 4 = .ok (.ireturn, 1) := by decide +kernel
def dkwJ2_add_1 : List UInt8 := [172]
abbrev dktJ2_add_1 : List UInt8 := dkwJ2_add_1 ++ []
def dkwJ2_add_0 : List UInt8 := [42, 89, 180, 0, 63, 4, 96, 181, 0, 63, 42, 43, 42, 180, 0, 9, 42, 180, 0, 48, 182, 0, 131, 4]
abbrev dktJ2_add_0 : List UInt8 := dkwJ2_add_0 ++ dktJ2_add_1
theorem dksJ2_add_0 : cJ2_add.data.toList.drop 0 = dktJ2_add_0 := by decide +kernel
theorem dksJ2_add_1 : cJ2_add.data.toList.drop 24 = dktJ2_add_1 := dk_seg dksJ2_add_0 24 rfl rfl
theorem dJ2_add_0 : decode cJ2_add 0 = .ok (.aload_n 0, 1) := dk_42 (dk_at dksJ2_add_0 0 rfl rfl)
theorem dJ2_add_1 : decode cJ2_add 1 = .ok (.dup, 1) := dk_89 (dk_at dksJ2_add_0 1 rfl rfl)
theorem dJ2_add_2 : decode cJ2_add 2 = .ok (.getfield 63, 3) := dk_180 0 63 (dk_at dksJ2_add_0 2 rfl rfl)
theorem dJ2_add_5 : decode cJ2_add 5 = .ok (.iconst 1, 1) := dk_4 (dk_at dksJ2_add_0 5 rfl rfl)
theorem dJ2_add_6 : decode cJ2_add 6 = .ok (.iadd, 1) := dk_96 (dk_at dksJ2_add_0 6 rfl rfl)
theorem dJ2_add_7 : decode cJ2_add 7 = .ok (.putfield 63, 3) := dk_181 0 63 (dk_at dksJ2_add_0 7 rfl rfl)
theorem dJ2_add_10 : decode cJ2_add 10 = .ok (.aload_n 0, 1) := dk_42 (dk_at dksJ2_add_0 10 rfl rfl)
theorem dJ2_add_11 : decode cJ2_add 11 = .ok (.aload_n 1, 1) := dk_43 (dk_at dksJ2_add_0 11 rfl rfl)
theorem dJ2_add_12 : decode cJ2_add 12 = .ok (.aload_n 0, 1) := dk_42 (dk_at dksJ2_add_0 12 rfl rfl)
theorem dJ2_add_13 : decode cJ2_add 13 = .ok (.getfield 9, 3) := dk_180 0 9 (dk_at dksJ2_add_0 13 rfl rfl)
theorem dJ2_add_16 : decode cJ2_add 16 = .ok (.aload_n 0, 1) := dk_42 (dk_at dksJ2_add_0 16 rfl rfl)
theorem dJ2_add_17 : decode cJ2_add 17 = .ok (.getfield 48, 3) := dk_180 0 48 (dk_at dksJ2_add_0 17 rfl rfl)
theorem dJ2_add_20 : decode cJ2_add 20 = .ok (.invokevirtual 131, 3) := dk_182 0 131 (dk_at dksJ2_add_0 20 rfl rfl)
theorem dJ2_add_23 : decode cJ2_add 23 = .ok (.iconst 1, 1) := dk_4 (dk_at dksJ2_add_0 23 rfl rfl)
theorem dJ2_add_24 : decode cJ2_add 24 = .ok (.ireturn, 1) := dk_172 (dk_at dksJ2_add_1 0 rfl rfl)
def dkwJ2_add_2_0 : List UInt8 := [29, 44, 190, 160, 0, 8, 42, 182, 0, 129, 77, 44, 29, 43, 83, 42, 29, 4, 96, 181, 0, 48, 177]
abbrev dktJ2_add_2_0 : List UInt8 := dkwJ2_add_2_0 ++ []
theorem dksJ2_add_2_0 : cJ2_add_2.data.toList.drop 0 = dktJ2_add_2_0 := by decide +kernel
theorem dJ2_add_2_0 : decode cJ2_add_2 0 = .ok (.iload_n 3, 1) := dk_29 (dk_at dksJ2_add_2_0 0 rfl rfl)
theorem dJ2_add_2_1 : decode cJ2_add_2 1 = .ok (.aload_n 2, 1) := dk_44 (dk_at dksJ2_add_2_0 1 rfl rfl)
theorem dJ2_add_2_2 : decode cJ2_add_2 2 = .ok (.arraylength, 1) := dk_190 (dk_at dksJ2_add_2_0 2 rfl rfl)
theorem dJ2_add_2_3 : decode cJ2_add_2 3 = .ok (.if_icmp .ne 8, 3) := dk_160 0 8 (dk_at dksJ2_add_2_0 3 rfl rfl)
theorem dJ2_add_2_6 : decode cJ2_add_2 6 = .ok (.aload_n 0, 1) := dk_42 (dk_at dksJ2_add_2_0 6 rfl rfl)
theorem dJ2_add_2_7 : decode cJ2_add_2 7 = .ok (.invokevirtual 129, 3) := dk_182 0 129 (dk_at dksJ2_add_2_0 7 rfl rfl)
theorem dJ2_add_2_10 : decode cJ2_add_2 10 = .ok (.astore_n 2, 1) := dk_77 (dk_at dksJ2_add_2_0 10 rfl rfl)
theorem dJ2_add_2_11 : decode cJ2_add_2 11 = .ok (.aload_n 2, 1) := dk_44 (dk_at dksJ2_add_2_0 11 rfl rfl)
theorem dJ2_add_2_12 : decode cJ2_add_2 12 = .ok (.iload_n 3, 1) := dk_29 (dk_at dksJ2_add_2_0 12 rfl rfl)
theorem dJ2_add_2_13 : decode cJ2_add_2 13 = .ok (.aload_n 1, 1) := dk_43 (dk_at dksJ2_add_2_0 13 rfl rfl)
theorem dJ2_add_2_14 : decode cJ2_add_2 14 = .ok (.aastore, 1) := dk_83 (dk_at dksJ2_add_2_0 14 rfl rfl)
theorem dJ2_add_2_15 : decode cJ2_add_2 15 = .ok (.aload_n 0, 1) := dk_42 (dk_at dksJ2_add_2_0 15 rfl rfl)
theorem dJ2_add_2_16 : decode cJ2_add_2 16 = .ok (.iload_n 3, 1) := dk_29 (dk_at dksJ2_add_2_0 16 rfl rfl)
theorem dJ2_add_2_17 : decode cJ2_add_2 17 = .ok (.iconst 1, 1) := dk_4 (dk_at dksJ2_add_2_0 17 rfl rfl)
theorem dJ2_add_2_18 : decode cJ2_add_2 18 = .ok (.iadd, 1) := dk_96 (dk_at dksJ2_add_2_0 18 rfl rfl)
theorem dJ2_add_2_19 : decode cJ2_add_2 19 = .ok (.putfield 48, 3) := dk_181 0 48 (dk_at dksJ2_add_2_0 19 rfl rfl)
theorem dJ2_add_2_22 : decode cJ2_add_2 22 = .ok (.return_, 1) := dk_177 (dk_at dksJ2_add_2_0 22 rfl rfl)
def dkwJ2_grow_0 : List UInt8 := [42, 42, 180, 0, 48, 4, 96, 182, 0, 69, 176]
abbrev dktJ2_grow_0 : List UInt8 := dkwJ2_grow_0 ++ []
theorem dksJ2_grow_0 : cJ2_grow.data.toList.drop 0 = dktJ2_grow_0 := by decide +kernel
theorem dJ2_grow_0 : decode cJ2_grow 0 = .ok (.aload_n 0, 1) := dk_42 (dk_at dksJ2_grow_0 0 rfl rfl)
theorem dJ2_grow_1 : decode cJ2_grow 1 = .ok (.aload_n 0, 1) := dk_42 (dk_at dksJ2_grow_0 1 rfl rfl)
theorem dJ2_grow_2 : decode cJ2_grow 2 = .ok (.getfield 48, 3) := dk_180 0 48 (dk_at dksJ2_grow_0 2 rfl rfl)
theorem dJ2_grow_5 : decode cJ2_grow 5 = .ok (.iconst 1, 1) := dk_4 (dk_at dksJ2_grow_0 5 rfl rfl)
theorem dJ2_grow_6 : decode cJ2_grow 6 = .ok (.iadd, 1) := dk_96 (dk_at dksJ2_grow_0 6 rfl rfl)
theorem dJ2_grow_7 : decode cJ2_grow 7 = .ok (.invokevirtual 69, 3) := dk_182 0 69 (dk_at dksJ2_grow_0 7 rfl rfl)
theorem dJ2_grow_10 : decode cJ2_grow 10 = .ok (.areturn, 1) := dk_176 (dk_at dksJ2_grow_0 10 rfl rfl)
def dkwJ2_grow_2_2 : List UInt8 := [27, 184, 0, 79, 189, 0, 7, 90, 181, 0, 9, 176]
abbrev dktJ2_grow_2_2 : List UInt8 := dkwJ2_grow_2_2 ++ []
def dkwJ2_grow_2_1 : List UInt8 := [28, 4, 122, 184, 0, 73, 62, 42, 42, 180, 0, 9, 29, 184, 0, 66, 90, 181, 0, 9, 176, 42, 16, 10]
abbrev dktJ2_grow_2_1 : List UInt8 := dkwJ2_grow_2_1 ++ dktJ2_grow_2_2
def dkwJ2_grow_2_0 : List UInt8 := [42, 180, 0, 9, 190, 61, 28, 157, 0, 13, 42, 180, 0, 9, 178, 0, 39, 165, 0, 28, 28, 27, 28, 100]
abbrev dktJ2_grow_2_0 : List UInt8 := dkwJ2_grow_2_0 ++ dktJ2_grow_2_1
theorem dksJ2_grow_2_0 : cJ2_grow_2.data.toList.drop 0 = dktJ2_grow_2_0 := by decide +kernel
theorem dksJ2_grow_2_1 : cJ2_grow_2.data.toList.drop 24 = dktJ2_grow_2_1 := dk_seg dksJ2_grow_2_0 24 rfl rfl
theorem dksJ2_grow_2_2 : cJ2_grow_2.data.toList.drop 48 = dktJ2_grow_2_2 := dk_seg dksJ2_grow_2_1 24 rfl rfl
theorem dJ2_grow_2_0 : decode cJ2_grow_2 0 = .ok (.aload_n 0, 1) := dk_42 (dk_at dksJ2_grow_2_0 0 rfl rfl)
theorem dJ2_grow_2_1 : decode cJ2_grow_2 1 = .ok (.getfield 9, 3) := dk_180 0 9 (dk_at dksJ2_grow_2_0 1 rfl rfl)
theorem dJ2_grow_2_4 : decode cJ2_grow_2 4 = .ok (.arraylength, 1) := dk_190 (dk_at dksJ2_grow_2_0 4 rfl rfl)
theorem dJ2_grow_2_5 : decode cJ2_grow_2 5 = .ok (.istore_n 2, 1) := dk_61 (dk_at dksJ2_grow_2_0 5 rfl rfl)
theorem dJ2_grow_2_6 : decode cJ2_grow_2 6 = .ok (.iload_n 2, 1) := dk_28 (dk_at dksJ2_grow_2_0 6 rfl rfl)
theorem dJ2_grow_2_7 : decode cJ2_grow_2 7 = .ok (.ifCond .gt 13, 3) := dk_157 0 13 (dk_at dksJ2_grow_2_0 7 rfl rfl)
theorem dJ2_grow_2_10 : decode cJ2_grow_2 10 = .ok (.aload_n 0, 1) := dk_42 (dk_at dksJ2_grow_2_0 10 rfl rfl)
theorem dJ2_grow_2_11 : decode cJ2_grow_2 11 = .ok (.getfield 9, 3) := dk_180 0 9 (dk_at dksJ2_grow_2_0 11 rfl rfl)
theorem dJ2_grow_2_14 : decode cJ2_grow_2 14 = .ok (.getstatic 39, 3) := dk_178 0 39 (dk_at dksJ2_grow_2_0 14 rfl rfl)
theorem dJ2_grow_2_17 : decode cJ2_grow_2 17 = .ok (.if_acmp .eq 28, 3) := dk_165 0 28 (dk_at dksJ2_grow_2_0 17 rfl rfl)
theorem dJ2_grow_2_20 : decode cJ2_grow_2 20 = .ok (.iload_n 2, 1) := dk_28 (dk_at dksJ2_grow_2_0 20 rfl rfl)
theorem dJ2_grow_2_21 : decode cJ2_grow_2 21 = .ok (.iload_n 1, 1) := dk_27 (dk_at dksJ2_grow_2_0 21 rfl rfl)
theorem dJ2_grow_2_22 : decode cJ2_grow_2 22 = .ok (.iload_n 2, 1) := dk_28 (dk_at dksJ2_grow_2_0 22 rfl rfl)
theorem dJ2_grow_2_23 : decode cJ2_grow_2 23 = .ok (.isub, 1) := dk_100 (dk_at dksJ2_grow_2_0 23 rfl rfl)
theorem dJ2_grow_2_24 : decode cJ2_grow_2 24 = .ok (.iload_n 2, 1) := dk_28 (dk_at dksJ2_grow_2_1 0 rfl rfl)
theorem dJ2_grow_2_25 : decode cJ2_grow_2 25 = .ok (.iconst 1, 1) := dk_4 (dk_at dksJ2_grow_2_1 1 rfl rfl)
theorem dJ2_grow_2_26 : decode cJ2_grow_2 26 = .ok (.ishr, 1) := dk_122 (dk_at dksJ2_grow_2_1 2 rfl rfl)
theorem dJ2_grow_2_27 : decode cJ2_grow_2 27 = .ok (.invokestatic 73, 3) := dk_184 0 73 (dk_at dksJ2_grow_2_1 3 rfl rfl)
theorem dJ2_grow_2_30 : decode cJ2_grow_2 30 = .ok (.istore_n 3, 1) := dk_62 (dk_at dksJ2_grow_2_1 6 rfl rfl)
theorem dJ2_grow_2_31 : decode cJ2_grow_2 31 = .ok (.aload_n 0, 1) := dk_42 (dk_at dksJ2_grow_2_1 7 rfl rfl)
theorem dJ2_grow_2_32 : decode cJ2_grow_2 32 = .ok (.aload_n 0, 1) := dk_42 (dk_at dksJ2_grow_2_1 8 rfl rfl)
theorem dJ2_grow_2_33 : decode cJ2_grow_2 33 = .ok (.getfield 9, 3) := dk_180 0 9 (dk_at dksJ2_grow_2_1 9 rfl rfl)
theorem dJ2_grow_2_36 : decode cJ2_grow_2 36 = .ok (.iload_n 3, 1) := dk_29 (dk_at dksJ2_grow_2_1 12 rfl rfl)
theorem dJ2_grow_2_37 : decode cJ2_grow_2 37 = .ok (.invokestatic 66, 3) := dk_184 0 66 (dk_at dksJ2_grow_2_1 13 rfl rfl)
theorem dJ2_grow_2_40 : decode cJ2_grow_2 40 = .ok (.dup_x1, 1) := dk_90 (dk_at dksJ2_grow_2_1 16 rfl rfl)
theorem dJ2_grow_2_41 : decode cJ2_grow_2 41 = .ok (.putfield 9, 3) := dk_181 0 9 (dk_at dksJ2_grow_2_1 17 rfl rfl)
theorem dJ2_grow_2_44 : decode cJ2_grow_2 44 = .ok (.areturn, 1) := dk_176 (dk_at dksJ2_grow_2_1 20 rfl rfl)
theorem dJ2_grow_2_45 : decode cJ2_grow_2 45 = .ok (.aload_n 0, 1) := dk_42 (dk_at dksJ2_grow_2_1 21 rfl rfl)
theorem dJ2_grow_2_46 : decode cJ2_grow_2 46 = .ok (.bipush 10, 2) := dk_16 10 (dk_at dksJ2_grow_2_1 22 rfl rfl)
theorem dJ2_grow_2_48 : decode cJ2_grow_2 48 = .ok (.iload_n 1, 1) := dk_27 (dk_at dksJ2_grow_2_2 0 rfl rfl)
theorem dJ2_grow_2_49 : decode cJ2_grow_2 49 = .ok (.invokestatic 79, 3) := dk_184 0 79 (dk_at dksJ2_grow_2_2 1 rfl rfl)
theorem dJ2_grow_2_52 : decode cJ2_grow_2 52 = .ok (.anewarray 7, 3) := dk_189 0 7 (dk_at dksJ2_grow_2_2 4 rfl rfl)
theorem dJ2_grow_2_55 : decode cJ2_grow_2 55 = .ok (.dup_x1, 1) := dk_90 (dk_at dksJ2_grow_2_2 7 rfl rfl)
theorem dJ2_grow_2_56 : decode cJ2_grow_2 56 = .ok (.putfield 9, 3) := dk_181 0 9 (dk_at dksJ2_grow_2_2 8 rfl rfl)
theorem dJ2_grow_2_59 : decode cJ2_grow_2 59 = .ok (.areturn, 1) := dk_176 (dk_at dksJ2_grow_2_2 11 rfl rfl)
def dkwJ2_isEmpty_0 : List UInt8 := [42, 180, 0, 48, 154, 0, 7, 4, 167, 0, 4, 3, 172]
abbrev dktJ2_isEmpty_0 : List UInt8 := dkwJ2_isEmpty_0 ++ []
theorem dksJ2_isEmpty_0 : cJ2_isEmpty.data.toList.drop 0 = dktJ2_isEmpty_0 := by decide +kernel
theorem dJ2_isEmpty_0 : decode cJ2_isEmpty 0 = .ok (.aload_n 0, 1) := dk_42 (dk_at dksJ2_isEmpty_0 0 rfl rfl)
theorem dJ2_isEmpty_1 : decode cJ2_isEmpty 1 = .ok (.getfield 48, 3) := dk_180 0 48 (dk_at dksJ2_isEmpty_0 1 rfl rfl)
theorem dJ2_isEmpty_4 : decode cJ2_isEmpty 4 = .ok (.ifCond .ne 7, 3) := dk_154 0 7 (dk_at dksJ2_isEmpty_0 4 rfl rfl)
theorem dJ2_isEmpty_7 : decode cJ2_isEmpty 7 = .ok (.iconst 1, 1) := dk_4 (dk_at dksJ2_isEmpty_0 7 rfl rfl)
theorem dJ2_isEmpty_8 : decode cJ2_isEmpty 8 = .ok (.goto 4, 3) := dk_167 0 4 (dk_at dksJ2_isEmpty_0 8 rfl rfl)
theorem dJ2_isEmpty_11 : decode cJ2_isEmpty 11 = .ok (.iconst 0, 1) := dk_3 (dk_at dksJ2_isEmpty_0 11 rfl rfl)
theorem dJ2_isEmpty_12 : decode cJ2_isEmpty 12 = .ok (.ireturn, 1) := dk_172 (dk_at dksJ2_isEmpty_0 12 rfl rfl)
def dkwJ2_get_0 : List UInt8 := [27, 42, 180, 0, 48, 184, 0, 118, 87, 42, 27, 182, 0, 123, 176]
abbrev dktJ2_get_0 : List UInt8 := dkwJ2_get_0 ++ []
theorem dksJ2_get_0 : cJ2_get.data.toList.drop 0 = dktJ2_get_0 := by decide +kernel
theorem dJ2_get_0 : decode cJ2_get 0 = .ok (.iload_n 1, 1) := dk_27 (dk_at dksJ2_get_0 0 rfl rfl)
theorem dJ2_get_1 : decode cJ2_get 1 = .ok (.aload_n 0, 1) := dk_42 (dk_at dksJ2_get_0 1 rfl rfl)
theorem dJ2_get_2 : decode cJ2_get 2 = .ok (.getfield 48, 3) := dk_180 0 48 (dk_at dksJ2_get_0 2 rfl rfl)
theorem dJ2_get_5 : decode cJ2_get 5 = .ok (.invokestatic 118, 3) := dk_184 0 118 (dk_at dksJ2_get_0 5 rfl rfl)
theorem dJ2_get_8 : decode cJ2_get 8 = .ok (.pop, 1) := dk_87 (dk_at dksJ2_get_0 8 rfl rfl)
theorem dJ2_get_9 : decode cJ2_get 9 = .ok (.aload_n 0, 1) := dk_42 (dk_at dksJ2_get_0 9 rfl rfl)
theorem dJ2_get_10 : decode cJ2_get 10 = .ok (.iload_n 1, 1) := dk_27 (dk_at dksJ2_get_0 10 rfl rfl)
theorem dJ2_get_11 : decode cJ2_get 11 = .ok (.invokevirtual 123, 3) := dk_182 0 123 (dk_at dksJ2_get_0 11 rfl rfl)
theorem dJ2_get_14 : decode cJ2_get 14 = .ok (.areturn, 1) := dk_176 (dk_at dksJ2_get_0 14 rfl rfl)
def dkwJ2_elementData_0 : List UInt8 := [42, 180, 0, 9, 27, 50, 176]
abbrev dktJ2_elementData_0 : List UInt8 := dkwJ2_elementData_0 ++ []
theorem dksJ2_elementData_0 : cJ2_elementData.data.toList.drop 0 = dktJ2_elementData_0 := by decide +kernel
theorem dJ2_elementData_0 : decode cJ2_elementData 0 = .ok (.aload_n 0, 1) := dk_42 (dk_at dksJ2_elementData_0 0 rfl rfl)
theorem dJ2_elementData_1 : decode cJ2_elementData 1 = .ok (.getfield 9, 3) := dk_180 0 9 (dk_at dksJ2_elementData_0 1 rfl rfl)
theorem dJ2_elementData_4 : decode cJ2_elementData 4 = .ok (.iload_n 1, 1) := dk_27 (dk_at dksJ2_elementData_0 4 rfl rfl)
theorem dJ2_elementData_5 : decode cJ2_elementData 5 = .ok (.aaload, 1) := dk_50 (dk_at dksJ2_elementData_0 5 rfl rfl)
theorem dJ2_elementData_6 : decode cJ2_elementData 6 = .ok (.areturn, 1) := dk_176 (dk_at dksJ2_elementData_0 6 rfl rfl)
def dkwJ2_add_3_2 : List UInt8 := [29, 27, 100, 184, 0, 112, 25, 4, 27, 44, 83, 42, 29, 4, 96, 181, 0, 48, 177]
abbrev dktJ2_add_3_2 : List UInt8 := dkwJ2_add_3_2 ++ []
def dkwJ2_add_3_1 : List UInt8 := [180, 0, 9, 89, 58, 4, 190, 160, 0, 9, 42, 182, 0, 129, 58, 4, 25, 4, 27, 25, 4, 27, 4, 96]
abbrev dktJ2_add_3_1 : List UInt8 := dkwJ2_add_3_1 ++ dktJ2_add_3_2
def dkwJ2_add_3_0 : List UInt8 := [42, 27, 182, 0, 135, 42, 89, 180, 0, 63, 4, 96, 181, 0, 63, 42, 180, 0, 48, 89, 62, 42]
abbrev dktJ2_add_3_0 : List UInt8 := dkwJ2_add_3_0 ++ dktJ2_add_3_1
theorem dksJ2_add_3_0 : cJ2_add_3.data.toList.drop 0 = dktJ2_add_3_0 := by decide +kernel
theorem dksJ2_add_3_1 : cJ2_add_3.data.toList.drop 22 = dktJ2_add_3_1 := dk_seg dksJ2_add_3_0 22 rfl rfl
theorem dksJ2_add_3_2 : cJ2_add_3.data.toList.drop 46 = dktJ2_add_3_2 := dk_seg dksJ2_add_3_1 24 rfl rfl
theorem dJ2_add_3_0 : decode cJ2_add_3 0 = .ok (.aload_n 0, 1) := dk_42 (dk_at dksJ2_add_3_0 0 rfl rfl)
theorem dJ2_add_3_1 : decode cJ2_add_3 1 = .ok (.iload_n 1, 1) := dk_27 (dk_at dksJ2_add_3_0 1 rfl rfl)
theorem dJ2_add_3_2 : decode cJ2_add_3 2 = .ok (.invokevirtual 135, 3) := dk_182 0 135 (dk_at dksJ2_add_3_0 2 rfl rfl)
theorem dJ2_add_3_5 : decode cJ2_add_3 5 = .ok (.aload_n 0, 1) := dk_42 (dk_at dksJ2_add_3_0 5 rfl rfl)
theorem dJ2_add_3_6 : decode cJ2_add_3 6 = .ok (.dup, 1) := dk_89 (dk_at dksJ2_add_3_0 6 rfl rfl)
theorem dJ2_add_3_7 : decode cJ2_add_3 7 = .ok (.getfield 63, 3) := dk_180 0 63 (dk_at dksJ2_add_3_0 7 rfl rfl)
theorem dJ2_add_3_10 : decode cJ2_add_3 10 = .ok (.iconst 1, 1) := dk_4 (dk_at dksJ2_add_3_0 10 rfl rfl)
theorem dJ2_add_3_11 : decode cJ2_add_3 11 = .ok (.iadd, 1) := dk_96 (dk_at dksJ2_add_3_0 11 rfl rfl)
theorem dJ2_add_3_12 : decode cJ2_add_3 12 = .ok (.putfield 63, 3) := dk_181 0 63 (dk_at dksJ2_add_3_0 12 rfl rfl)
theorem dJ2_add_3_15 : decode cJ2_add_3 15 = .ok (.aload_n 0, 1) := dk_42 (dk_at dksJ2_add_3_0 15 rfl rfl)
theorem dJ2_add_3_16 : decode cJ2_add_3 16 = .ok (.getfield 48, 3) := dk_180 0 48 (dk_at dksJ2_add_3_0 16 rfl rfl)
theorem dJ2_add_3_19 : decode cJ2_add_3 19 = .ok (.dup, 1) := dk_89 (dk_at dksJ2_add_3_0 19 rfl rfl)
theorem dJ2_add_3_20 : decode cJ2_add_3 20 = .ok (.istore_n 3, 1) := dk_62 (dk_at dksJ2_add_3_0 20 rfl rfl)
theorem dJ2_add_3_21 : decode cJ2_add_3 21 = .ok (.aload_n 0, 1) := dk_42 (dk_at dksJ2_add_3_0 21 rfl rfl)
theorem dJ2_add_3_22 : decode cJ2_add_3 22 = .ok (.getfield 9, 3) := dk_180 0 9 (dk_at dksJ2_add_3_1 0 rfl rfl)
theorem dJ2_add_3_25 : decode cJ2_add_3 25 = .ok (.dup, 1) := dk_89 (dk_at dksJ2_add_3_1 3 rfl rfl)
theorem dJ2_add_3_26 : decode cJ2_add_3 26 = .ok (.astore 4, 2) := dk_58 4 (dk_at dksJ2_add_3_1 4 rfl rfl)
theorem dJ2_add_3_28 : decode cJ2_add_3 28 = .ok (.arraylength, 1) := dk_190 (dk_at dksJ2_add_3_1 6 rfl rfl)
theorem dJ2_add_3_29 : decode cJ2_add_3 29 = .ok (.if_icmp .ne 9, 3) := dk_160 0 9 (dk_at dksJ2_add_3_1 7 rfl rfl)
theorem dJ2_add_3_32 : decode cJ2_add_3 32 = .ok (.aload_n 0, 1) := dk_42 (dk_at dksJ2_add_3_1 10 rfl rfl)
theorem dJ2_add_3_33 : decode cJ2_add_3 33 = .ok (.invokevirtual 129, 3) := dk_182 0 129 (dk_at dksJ2_add_3_1 11 rfl rfl)
theorem dJ2_add_3_36 : decode cJ2_add_3 36 = .ok (.astore 4, 2) := dk_58 4 (dk_at dksJ2_add_3_1 14 rfl rfl)
theorem dJ2_add_3_38 : decode cJ2_add_3 38 = .ok (.aload 4, 2) := dk_25 4 (dk_at dksJ2_add_3_1 16 rfl rfl)
theorem dJ2_add_3_40 : decode cJ2_add_3 40 = .ok (.iload_n 1, 1) := dk_27 (dk_at dksJ2_add_3_1 18 rfl rfl)
theorem dJ2_add_3_41 : decode cJ2_add_3 41 = .ok (.aload 4, 2) := dk_25 4 (dk_at dksJ2_add_3_1 19 rfl rfl)
theorem dJ2_add_3_43 : decode cJ2_add_3 43 = .ok (.iload_n 1, 1) := dk_27 (dk_at dksJ2_add_3_1 21 rfl rfl)
theorem dJ2_add_3_44 : decode cJ2_add_3 44 = .ok (.iconst 1, 1) := dk_4 (dk_at dksJ2_add_3_1 22 rfl rfl)
theorem dJ2_add_3_45 : decode cJ2_add_3 45 = .ok (.iadd, 1) := dk_96 (dk_at dksJ2_add_3_1 23 rfl rfl)
theorem dJ2_add_3_46 : decode cJ2_add_3 46 = .ok (.iload_n 3, 1) := dk_29 (dk_at dksJ2_add_3_2 0 rfl rfl)
theorem dJ2_add_3_47 : decode cJ2_add_3 47 = .ok (.iload_n 1, 1) := dk_27 (dk_at dksJ2_add_3_2 1 rfl rfl)
theorem dJ2_add_3_48 : decode cJ2_add_3 48 = .ok (.isub, 1) := dk_100 (dk_at dksJ2_add_3_2 2 rfl rfl)
theorem dJ2_add_3_49 : decode cJ2_add_3 49 = .ok (.invokestatic 112, 3) := dk_184 0 112 (dk_at dksJ2_add_3_2 3 rfl rfl)
theorem dJ2_add_3_52 : decode cJ2_add_3 52 = .ok (.aload 4, 2) := dk_25 4 (dk_at dksJ2_add_3_2 6 rfl rfl)
theorem dJ2_add_3_54 : decode cJ2_add_3 54 = .ok (.iload_n 1, 1) := dk_27 (dk_at dksJ2_add_3_2 8 rfl rfl)
theorem dJ2_add_3_55 : decode cJ2_add_3 55 = .ok (.aload_n 2, 1) := dk_44 (dk_at dksJ2_add_3_2 9 rfl rfl)
theorem dJ2_add_3_56 : decode cJ2_add_3 56 = .ok (.aastore, 1) := dk_83 (dk_at dksJ2_add_3_2 10 rfl rfl)
theorem dJ2_add_3_57 : decode cJ2_add_3 57 = .ok (.aload_n 0, 1) := dk_42 (dk_at dksJ2_add_3_2 11 rfl rfl)
theorem dJ2_add_3_58 : decode cJ2_add_3 58 = .ok (.iload_n 3, 1) := dk_29 (dk_at dksJ2_add_3_2 12 rfl rfl)
theorem dJ2_add_3_59 : decode cJ2_add_3 59 = .ok (.iconst 1, 1) := dk_4 (dk_at dksJ2_add_3_2 13 rfl rfl)
theorem dJ2_add_3_60 : decode cJ2_add_3 60 = .ok (.iadd, 1) := dk_96 (dk_at dksJ2_add_3_2 14 rfl rfl)
theorem dJ2_add_3_61 : decode cJ2_add_3 61 = .ok (.putfield 48, 3) := dk_181 0 48 (dk_at dksJ2_add_3_2 15 rfl rfl)
theorem dJ2_add_3_64 : decode cJ2_add_3 64 = .ok (.return_, 1) := dk_177 (dk_at dksJ2_add_3_2 18 rfl rfl)
def dkwJ2_rangeCheckForAdd_1 : List UInt8 := [191, 177]
abbrev dktJ2_rangeCheckForAdd_1 : List UInt8 := dkwJ2_rangeCheckForAdd_1 ++ []
def dkwJ2_rangeCheckForAdd_0 : List UInt8 := [27, 42, 180, 0, 48, 163, 0, 7, 27, 156, 0, 16, 187, 0, 187, 89, 42, 27, 182, 0, 198, 183, 0, 193]
abbrev dktJ2_rangeCheckForAdd_0 : List UInt8 := dkwJ2_rangeCheckForAdd_0 ++ dktJ2_rangeCheckForAdd_1
theorem dksJ2_rangeCheckForAdd_0 : cJ2_rangeCheckForAdd.data.toList.drop 0 = dktJ2_rangeCheckForAdd_0 := by decide +kernel
theorem dksJ2_rangeCheckForAdd_1 : cJ2_rangeCheckForAdd.data.toList.drop 24 = dktJ2_rangeCheckForAdd_1 := dk_seg dksJ2_rangeCheckForAdd_0 24 rfl rfl
theorem dJ2_rangeCheckForAdd_0 : decode cJ2_rangeCheckForAdd 0 = .ok (.iload_n 1, 1) := dk_27 (dk_at dksJ2_rangeCheckForAdd_0 0 rfl rfl)
theorem dJ2_rangeCheckForAdd_1 : decode cJ2_rangeCheckForAdd 1 = .ok (.aload_n 0, 1) := dk_42 (dk_at dksJ2_rangeCheckForAdd_0 1 rfl rfl)
theorem dJ2_rangeCheckForAdd_2 : decode cJ2_rangeCheckForAdd 2 = .ok (.getfield 48, 3) := dk_180 0 48 (dk_at dksJ2_rangeCheckForAdd_0 2 rfl rfl)
theorem dJ2_rangeCheckForAdd_5 : decode cJ2_rangeCheckForAdd 5 = .ok (.if_icmp .gt 7, 3) := dk_163 0 7 (dk_at dksJ2_rangeCheckForAdd_0 5 rfl rfl)
theorem dJ2_rangeCheckForAdd_8 : decode cJ2_rangeCheckForAdd 8 = .ok (.iload_n 1, 1) := dk_27 (dk_at dksJ2_rangeCheckForAdd_0 8 rfl rfl)
theorem dJ2_rangeCheckForAdd_9 : decode cJ2_rangeCheckForAdd 9 = .ok (.ifCond .ge 16, 3) := dk_156 0 16 (dk_at dksJ2_rangeCheckForAdd_0 9 rfl rfl)
theorem dJ2_rangeCheckForAdd_12 : decode cJ2_rangeCheckForAdd 12 = .ok (.new 187, 3) := dk_187 0 187 (dk_at dksJ2_rangeCheckForAdd_0 12 rfl rfl)
theorem dJ2_rangeCheckForAdd_15 : decode cJ2_rangeCheckForAdd 15 = .ok (.dup, 1) := dk_89 (dk_at dksJ2_rangeCheckForAdd_0 15 rfl rfl)
theorem dJ2_rangeCheckForAdd_16 : decode cJ2_rangeCheckForAdd 16 = .ok (.aload_n 0, 1) := dk_42 (dk_at dksJ2_rangeCheckForAdd_0 16 rfl rfl)
theorem dJ2_rangeCheckForAdd_17 : decode cJ2_rangeCheckForAdd 17 = .ok (.iload_n 1, 1) := dk_27 (dk_at dksJ2_rangeCheckForAdd_0 17 rfl rfl)
theorem dJ2_rangeCheckForAdd_18 : decode cJ2_rangeCheckForAdd 18 = .ok (.invokevirtual 198, 3) := dk_182 0 198 (dk_at dksJ2_rangeCheckForAdd_0 18 rfl rfl)
theorem dJ2_rangeCheckForAdd_21 : decode cJ2_rangeCheckForAdd 21 = .ok (.invokespecial 193, 3) := dk_183 0 193 (dk_at dksJ2_rangeCheckForAdd_0 21 rfl rfl)
theorem dJ2_rangeCheckForAdd_24 : decode cJ2_rangeCheckForAdd 24 = .ok (.athrow, 1) := dk_191 (dk_at dksJ2_rangeCheckForAdd_1 0 rfl rfl)
theorem dJ2_rangeCheckForAdd_25 : decode cJ2_rangeCheckForAdd 25 = .ok (.return_, 1) := dk_177 (dk_at dksJ2_rangeCheckForAdd_1 1 rfl rfl)
def dkwJ2_remove_1 : List UInt8 := [45, 176]
abbrev dktJ2_remove_1 : List UInt8 := dkwJ2_remove_1 ++ []
def dkwJ2_remove_0 : List UInt8 := [27, 42, 180, 0, 48, 184, 0, 118, 87, 42, 180, 0, 9, 77, 44, 27, 50, 78, 42, 44, 27, 182, 0, 144]
abbrev dktJ2_remove_0 : List UInt8 := dkwJ2_remove_0 ++ dktJ2_remove_1
theorem dksJ2_remove_0 : cJ2_remove.data.toList.drop 0 = dktJ2_remove_0 := by decide +kernel
theorem dksJ2_remove_1 : cJ2_remove.data.toList.drop 24 = dktJ2_remove_1 := dk_seg dksJ2_remove_0 24 rfl rfl
theorem dJ2_remove_0 : decode cJ2_remove 0 = .ok (.iload_n 1, 1) := dk_27 (dk_at dksJ2_remove_0 0 rfl rfl)
theorem dJ2_remove_1 : decode cJ2_remove 1 = .ok (.aload_n 0, 1) := dk_42 (dk_at dksJ2_remove_0 1 rfl rfl)
theorem dJ2_remove_2 : decode cJ2_remove 2 = .ok (.getfield 48, 3) := dk_180 0 48 (dk_at dksJ2_remove_0 2 rfl rfl)
theorem dJ2_remove_5 : decode cJ2_remove 5 = .ok (.invokestatic 118, 3) := dk_184 0 118 (dk_at dksJ2_remove_0 5 rfl rfl)
theorem dJ2_remove_8 : decode cJ2_remove 8 = .ok (.pop, 1) := dk_87 (dk_at dksJ2_remove_0 8 rfl rfl)
theorem dJ2_remove_9 : decode cJ2_remove 9 = .ok (.aload_n 0, 1) := dk_42 (dk_at dksJ2_remove_0 9 rfl rfl)
theorem dJ2_remove_10 : decode cJ2_remove 10 = .ok (.getfield 9, 3) := dk_180 0 9 (dk_at dksJ2_remove_0 10 rfl rfl)
theorem dJ2_remove_13 : decode cJ2_remove 13 = .ok (.astore_n 2, 1) := dk_77 (dk_at dksJ2_remove_0 13 rfl rfl)
theorem dJ2_remove_14 : decode cJ2_remove 14 = .ok (.aload_n 2, 1) := dk_44 (dk_at dksJ2_remove_0 14 rfl rfl)
theorem dJ2_remove_15 : decode cJ2_remove 15 = .ok (.iload_n 1, 1) := dk_27 (dk_at dksJ2_remove_0 15 rfl rfl)
theorem dJ2_remove_16 : decode cJ2_remove 16 = .ok (.aaload, 1) := dk_50 (dk_at dksJ2_remove_0 16 rfl rfl)
theorem dJ2_remove_17 : decode cJ2_remove 17 = .ok (.astore_n 3, 1) := dk_78 (dk_at dksJ2_remove_0 17 rfl rfl)
theorem dJ2_remove_18 : decode cJ2_remove 18 = .ok (.aload_n 0, 1) := dk_42 (dk_at dksJ2_remove_0 18 rfl rfl)
theorem dJ2_remove_19 : decode cJ2_remove 19 = .ok (.aload_n 2, 1) := dk_44 (dk_at dksJ2_remove_0 19 rfl rfl)
theorem dJ2_remove_20 : decode cJ2_remove 20 = .ok (.iload_n 1, 1) := dk_27 (dk_at dksJ2_remove_0 20 rfl rfl)
theorem dJ2_remove_21 : decode cJ2_remove 21 = .ok (.invokevirtual 144, 3) := dk_182 0 144 (dk_at dksJ2_remove_0 21 rfl rfl)
theorem dJ2_remove_24 : decode cJ2_remove 24 = .ok (.aload_n 3, 1) := dk_45 (dk_at dksJ2_remove_1 0 rfl rfl)
theorem dJ2_remove_25 : decode cJ2_remove 25 = .ok (.areturn, 1) := dk_176 (dk_at dksJ2_remove_1 1 rfl rfl)
def dkwJ2_fastRemove_1 : List UInt8 := [4, 96, 43, 28, 29, 28, 100, 184, 0, 112, 43, 42, 29, 90, 181, 0, 48, 1, 83, 177]
abbrev dktJ2_fastRemove_1 : List UInt8 := dkwJ2_fastRemove_1 ++ []
def dkwJ2_fastRemove_0 : List UInt8 := [42, 89, 180, 0, 63, 4, 96, 181, 0, 63, 42, 180, 0, 48, 4, 100, 89, 62, 28, 164, 0, 15, 43, 28]
abbrev dktJ2_fastRemove_0 : List UInt8 := dkwJ2_fastRemove_0 ++ dktJ2_fastRemove_1
theorem dksJ2_fastRemove_0 : cJ2_fastRemove.data.toList.drop 0 = dktJ2_fastRemove_0 := by decide +kernel
theorem dksJ2_fastRemove_1 : cJ2_fastRemove.data.toList.drop 24 = dktJ2_fastRemove_1 := dk_seg dksJ2_fastRemove_0 24 rfl rfl
theorem dJ2_fastRemove_0 : decode cJ2_fastRemove 0 = .ok (.aload_n 0, 1) := dk_42 (dk_at dksJ2_fastRemove_0 0 rfl rfl)
theorem dJ2_fastRemove_1 : decode cJ2_fastRemove 1 = .ok (.dup, 1) := dk_89 (dk_at dksJ2_fastRemove_0 1 rfl rfl)
theorem dJ2_fastRemove_2 : decode cJ2_fastRemove 2 = .ok (.getfield 63, 3) := dk_180 0 63 (dk_at dksJ2_fastRemove_0 2 rfl rfl)
theorem dJ2_fastRemove_5 : decode cJ2_fastRemove 5 = .ok (.iconst 1, 1) := dk_4 (dk_at dksJ2_fastRemove_0 5 rfl rfl)
theorem dJ2_fastRemove_6 : decode cJ2_fastRemove 6 = .ok (.iadd, 1) := dk_96 (dk_at dksJ2_fastRemove_0 6 rfl rfl)
theorem dJ2_fastRemove_7 : decode cJ2_fastRemove 7 = .ok (.putfield 63, 3) := dk_181 0 63 (dk_at dksJ2_fastRemove_0 7 rfl rfl)
theorem dJ2_fastRemove_10 : decode cJ2_fastRemove 10 = .ok (.aload_n 0, 1) := dk_42 (dk_at dksJ2_fastRemove_0 10 rfl rfl)
theorem dJ2_fastRemove_11 : decode cJ2_fastRemove 11 = .ok (.getfield 48, 3) := dk_180 0 48 (dk_at dksJ2_fastRemove_0 11 rfl rfl)
theorem dJ2_fastRemove_14 : decode cJ2_fastRemove 14 = .ok (.iconst 1, 1) := dk_4 (dk_at dksJ2_fastRemove_0 14 rfl rfl)
theorem dJ2_fastRemove_15 : decode cJ2_fastRemove 15 = .ok (.isub, 1) := dk_100 (dk_at dksJ2_fastRemove_0 15 rfl rfl)
theorem dJ2_fastRemove_16 : decode cJ2_fastRemove 16 = .ok (.dup, 1) := dk_89 (dk_at dksJ2_fastRemove_0 16 rfl rfl)
theorem dJ2_fastRemove_17 : decode cJ2_fastRemove 17 = .ok (.istore_n 3, 1) := dk_62 (dk_at dksJ2_fastRemove_0 17 rfl rfl)
theorem dJ2_fastRemove_18 : decode cJ2_fastRemove 18 = .ok (.iload_n 2, 1) := dk_28 (dk_at dksJ2_fastRemove_0 18 rfl rfl)
theorem dJ2_fastRemove_19 : decode cJ2_fastRemove 19 = .ok (.if_icmp .le 15, 3) := dk_164 0 15 (dk_at dksJ2_fastRemove_0 19 rfl rfl)
theorem dJ2_fastRemove_22 : decode cJ2_fastRemove 22 = .ok (.aload_n 1, 1) := dk_43 (dk_at dksJ2_fastRemove_0 22 rfl rfl)
theorem dJ2_fastRemove_23 : decode cJ2_fastRemove 23 = .ok (.iload_n 2, 1) := dk_28 (dk_at dksJ2_fastRemove_0 23 rfl rfl)
theorem dJ2_fastRemove_24 : decode cJ2_fastRemove 24 = .ok (.iconst 1, 1) := dk_4 (dk_at dksJ2_fastRemove_1 0 rfl rfl)
theorem dJ2_fastRemove_25 : decode cJ2_fastRemove 25 = .ok (.iadd, 1) := dk_96 (dk_at dksJ2_fastRemove_1 1 rfl rfl)
theorem dJ2_fastRemove_26 : decode cJ2_fastRemove 26 = .ok (.aload_n 1, 1) := dk_43 (dk_at dksJ2_fastRemove_1 2 rfl rfl)
theorem dJ2_fastRemove_27 : decode cJ2_fastRemove 27 = .ok (.iload_n 2, 1) := dk_28 (dk_at dksJ2_fastRemove_1 3 rfl rfl)
theorem dJ2_fastRemove_28 : decode cJ2_fastRemove 28 = .ok (.iload_n 3, 1) := dk_29 (dk_at dksJ2_fastRemove_1 4 rfl rfl)
theorem dJ2_fastRemove_29 : decode cJ2_fastRemove 29 = .ok (.iload_n 2, 1) := dk_28 (dk_at dksJ2_fastRemove_1 5 rfl rfl)
theorem dJ2_fastRemove_30 : decode cJ2_fastRemove 30 = .ok (.isub, 1) := dk_100 (dk_at dksJ2_fastRemove_1 6 rfl rfl)
theorem dJ2_fastRemove_31 : decode cJ2_fastRemove 31 = .ok (.invokestatic 112, 3) := dk_184 0 112 (dk_at dksJ2_fastRemove_1 7 rfl rfl)
theorem dJ2_fastRemove_34 : decode cJ2_fastRemove 34 = .ok (.aload_n 1, 1) := dk_43 (dk_at dksJ2_fastRemove_1 10 rfl rfl)
theorem dJ2_fastRemove_35 : decode cJ2_fastRemove 35 = .ok (.aload_n 0, 1) := dk_42 (dk_at dksJ2_fastRemove_1 11 rfl rfl)
theorem dJ2_fastRemove_36 : decode cJ2_fastRemove 36 = .ok (.iload_n 3, 1) := dk_29 (dk_at dksJ2_fastRemove_1 12 rfl rfl)
theorem dJ2_fastRemove_37 : decode cJ2_fastRemove 37 = .ok (.dup_x1, 1) := dk_90 (dk_at dksJ2_fastRemove_1 13 rfl rfl)
theorem dJ2_fastRemove_38 : decode cJ2_fastRemove 38 = .ok (.putfield 48, 3) := dk_181 0 48 (dk_at dksJ2_fastRemove_1 14 rfl rfl)
theorem dJ2_fastRemove_41 : decode cJ2_fastRemove 41 = .ok (.aconst_null, 1) := dk_1 (dk_at dksJ2_fastRemove_1 17 rfl rfl)
theorem dJ2_fastRemove_42 : decode cJ2_fastRemove 42 = .ok (.aastore, 1) := dk_83 (dk_at dksJ2_fastRemove_1 18 rfl rfl)
theorem dJ2_fastRemove_43 : decode cJ2_fastRemove 43 = .ok (.return_, 1) := dk_177 (dk_at dksJ2_fastRemove_1 19 rfl rfl)
def dkwJ3_init_1 : List UInt8 := [182, 0, 27, 87, 177]
abbrev dktJ3_init_1 : List UInt8 := dkwJ3_init_1 ++ []
def dkwJ3_init_0 : List UInt8 := [42, 183, 0, 1, 42, 42, 181, 0, 7, 42, 178, 0, 13, 181, 0, 17, 42, 178, 0, 20, 181, 0, 24, 42]
abbrev dktJ3_init_0 : List UInt8 := dkwJ3_init_0 ++ dktJ3_init_1
theorem dksJ3_init_0 : cJ3_init.data.toList.drop 0 = dktJ3_init_0 := by decide +kernel
theorem dksJ3_init_1 : cJ3_init.data.toList.drop 24 = dktJ3_init_1 := dk_seg dksJ3_init_0 24 rfl rfl
theorem dJ3_init_0 : decode cJ3_init 0 = .ok (.aload_n 0, 1) := dk_42 (dk_at dksJ3_init_0 0 rfl rfl)
theorem dJ3_init_1 : decode cJ3_init 1 = .ok (.invokespecial 1, 3) := dk_183 0 1 (dk_at dksJ3_init_0 1 rfl rfl)
theorem dJ3_init_4 : decode cJ3_init 4 = .ok (.aload_n 0, 1) := dk_42 (dk_at dksJ3_init_0 4 rfl rfl)
theorem dJ3_init_5 : decode cJ3_init 5 = .ok (.aload_n 0, 1) := dk_42 (dk_at dksJ3_init_0 5 rfl rfl)
theorem dJ3_init_6 : decode cJ3_init 6 = .ok (.putfield 7, 3) := dk_181 0 7 (dk_at dksJ3_init_0 6 rfl rfl)
theorem dJ3_init_9 : decode cJ3_init 9 = .ok (.aload_n 0, 1) := dk_42 (dk_at dksJ3_init_0 9 rfl rfl)
theorem dJ3_init_10 : decode cJ3_init 10 = .ok (.getstatic 13, 3) := dk_178 0 13 (dk_at dksJ3_init_0 10 rfl rfl)
theorem dJ3_init_13 : decode cJ3_init 13 = .ok (.putfield 17, 3) := dk_181 0 17 (dk_at dksJ3_init_0 13 rfl rfl)
theorem dJ3_init_16 : decode cJ3_init 16 = .ok (.aload_n 0, 1) := dk_42 (dk_at dksJ3_init_0 16 rfl rfl)
theorem dJ3_init_17 : decode cJ3_init 17 = .ok (.getstatic 20, 3) := dk_178 0 20 (dk_at dksJ3_init_0 17 rfl rfl)
theorem dJ3_init_20 : decode cJ3_init 20 = .ok (.putfield 24, 3) := dk_181 0 24 (dk_at dksJ3_init_0 20 rfl rfl)
theorem dJ3_init_23 : decode cJ3_init 23 = .ok (.aload_n 0, 1) := dk_42 (dk_at dksJ3_init_0 23 rfl rfl)
theorem dJ3_init_24 : decode cJ3_init 24 = .ok (.invokevirtual 27, 3) := dk_182 0 27 (dk_at dksJ3_init_1 0 rfl rfl)
theorem dJ3_init_27 : decode cJ3_init 27 = .ok (.pop, 1) := dk_87 (dk_at dksJ3_init_1 3 rfl rfl)
theorem dJ3_init_28 : decode cJ3_init 28 = .ok (.return_, 1) := dk_177 (dk_at dksJ3_init_1 4 rfl rfl)
def dkwJ3_init_2_2 : List UInt8 := [44, 181, 0, 7, 29, 154, 0, 8, 42, 1, 181, 0, 24, 177]
abbrev dktJ3_init_2_2 : List UInt8 := dkwJ3_init_2_2 ++ []
def dkwJ3_init_2_1 : List UInt8 := [21, 4, 153, 0, 11, 42, 182, 0, 27, 87, 167, 0, 8, 42, 1, 181, 0, 17, 42, 43, 181, 0, 31, 42]
abbrev dktJ3_init_2_1 : List UInt8 := dkwJ3_init_2_1 ++ dktJ3_init_2_2
def dkwJ3_init_2_0 : List UInt8 := [42, 183, 0, 1, 42, 42, 181, 0, 7, 42, 178, 0, 13, 181, 0, 17, 42, 178, 0, 20, 181, 0, 24]
abbrev dktJ3_init_2_0 : List UInt8 := dkwJ3_init_2_0 ++ dktJ3_init_2_1
theorem dksJ3_init_2_0 : cJ3_init_2.data.toList.drop 0 = dktJ3_init_2_0 := by decide +kernel
theorem dksJ3_init_2_1 : cJ3_init_2.data.toList.drop 23 = dktJ3_init_2_1 := dk_seg dksJ3_init_2_0 23 rfl rfl
theorem dksJ3_init_2_2 : cJ3_init_2.data.toList.drop 47 = dktJ3_init_2_2 := dk_seg dksJ3_init_2_1 24 rfl rfl
theorem dJ3_init_2_0 : decode cJ3_init_2 0 = .ok (.aload_n 0, 1) := dk_42 (dk_at dksJ3_init_2_0 0 rfl rfl)
theorem dJ3_init_2_1 : decode cJ3_init_2 1 = .ok (.invokespecial 1, 3) := dk_183 0 1 (dk_at dksJ3_init_2_0 1 rfl rfl)
theorem dJ3_init_2_4 : decode cJ3_init_2 4 = .ok (.aload_n 0, 1) := dk_42 (dk_at dksJ3_init_2_0 4 rfl rfl)
theorem dJ3_init_2_5 : decode cJ3_init_2 5 = .ok (.aload_n 0, 1) := dk_42 (dk_at dksJ3_init_2_0 5 rfl rfl)
theorem dJ3_init_2_6 : decode cJ3_init_2 6 = .ok (.putfield 7, 3) := dk_181 0 7 (dk_at dksJ3_init_2_0 6 rfl rfl)
theorem dJ3_init_2_9 : decode cJ3_init_2 9 = .ok (.aload_n 0, 1) := dk_42 (dk_at dksJ3_init_2_0 9 rfl rfl)
theorem dJ3_init_2_10 : decode cJ3_init_2 10 = .ok (.getstatic 13, 3) := dk_178 0 13 (dk_at dksJ3_init_2_0 10 rfl rfl)
theorem dJ3_init_2_13 : decode cJ3_init_2 13 = .ok (.putfield 17, 3) := dk_181 0 17 (dk_at dksJ3_init_2_0 13 rfl rfl)
theorem dJ3_init_2_16 : decode cJ3_init_2 16 = .ok (.aload_n 0, 1) := dk_42 (dk_at dksJ3_init_2_0 16 rfl rfl)
theorem dJ3_init_2_17 : decode cJ3_init_2 17 = .ok (.getstatic 20, 3) := dk_178 0 20 (dk_at dksJ3_init_2_0 17 rfl rfl)
theorem dJ3_init_2_20 : decode cJ3_init_2 20 = .ok (.putfield 24, 3) := dk_181 0 24 (dk_at dksJ3_init_2_0 20 rfl rfl)
theorem dJ3_init_2_23 : decode cJ3_init_2 23 = .ok (.iload 4, 2) := dk_21 4 (dk_at dksJ3_init_2_1 0 rfl rfl)
theorem dJ3_init_2_25 : decode cJ3_init_2 25 = .ok (.ifCond .eq 11, 3) := dk_153 0 11 (dk_at dksJ3_init_2_1 2 rfl rfl)
theorem dJ3_init_2_28 : decode cJ3_init_2 28 = .ok (.aload_n 0, 1) := dk_42 (dk_at dksJ3_init_2_1 5 rfl rfl)
theorem dJ3_init_2_29 : decode cJ3_init_2 29 = .ok (.invokevirtual 27, 3) := dk_182 0 27 (dk_at dksJ3_init_2_1 6 rfl rfl)
theorem dJ3_init_2_32 : decode cJ3_init_2 32 = .ok (.pop, 1) := dk_87 (dk_at dksJ3_init_2_1 9 rfl rfl)
theorem dJ3_init_2_33 : decode cJ3_init_2 33 = .ok (.goto 8, 3) := dk_167 0 8 (dk_at dksJ3_init_2_1 10 rfl rfl)
theorem dJ3_init_2_36 : decode cJ3_init_2 36 = .ok (.aload_n 0, 1) := dk_42 (dk_at dksJ3_init_2_1 13 rfl rfl)
theorem dJ3_init_2_37 : decode cJ3_init_2 37 = .ok (.aconst_null, 1) := dk_1 (dk_at dksJ3_init_2_1 14 rfl rfl)
theorem dJ3_init_2_38 : decode cJ3_init_2 38 = .ok (.putfield 17, 3) := dk_181 0 17 (dk_at dksJ3_init_2_1 15 rfl rfl)
theorem dJ3_init_2_41 : decode cJ3_init_2 41 = .ok (.aload_n 0, 1) := dk_42 (dk_at dksJ3_init_2_1 18 rfl rfl)
theorem dJ3_init_2_42 : decode cJ3_init_2 42 = .ok (.aload_n 1, 1) := dk_43 (dk_at dksJ3_init_2_1 19 rfl rfl)
theorem dJ3_init_2_43 : decode cJ3_init_2 43 = .ok (.putfield 31, 3) := dk_181 0 31 (dk_at dksJ3_init_2_1 20 rfl rfl)
theorem dJ3_init_2_46 : decode cJ3_init_2 46 = .ok (.aload_n 0, 1) := dk_42 (dk_at dksJ3_init_2_1 23 rfl rfl)
theorem dJ3_init_2_47 : decode cJ3_init_2 47 = .ok (.aload_n 2, 1) := dk_44 (dk_at dksJ3_init_2_2 0 rfl rfl)
theorem dJ3_init_2_48 : decode cJ3_init_2 48 = .ok (.putfield 7, 3) := dk_181 0 7 (dk_at dksJ3_init_2_2 1 rfl rfl)
theorem dJ3_init_2_51 : decode cJ3_init_2 51 = .ok (.iload_n 3, 1) := dk_29 (dk_at dksJ3_init_2_2 4 rfl rfl)
theorem dJ3_init_2_52 : decode cJ3_init_2 52 = .ok (.ifCond .ne 8, 3) := dk_154 0 8 (dk_at dksJ3_init_2_2 5 rfl rfl)
theorem dJ3_init_2_55 : decode cJ3_init_2 55 = .ok (.aload_n 0, 1) := dk_42 (dk_at dksJ3_init_2_2 8 rfl rfl)
theorem dJ3_init_2_56 : decode cJ3_init_2 56 = .ok (.aconst_null, 1) := dk_1 (dk_at dksJ3_init_2_2 9 rfl rfl)
theorem dJ3_init_2_57 : decode cJ3_init_2 57 = .ok (.putfield 24, 3) := dk_181 0 24 (dk_at dksJ3_init_2_2 10 rfl rfl)
theorem dJ3_init_2_60 : decode cJ3_init_2 60 = .ok (.return_, 1) := dk_177 (dk_at dksJ3_init_2_2 13 rfl rfl)
def dkwJ4_init_0 : List UInt8 := [42, 43, 44, 29, 21, 4, 183, 0, 16, 177]
abbrev dktJ4_init_0 : List UInt8 := dkwJ4_init_0 ++ []
theorem dksJ4_init_0 : cJ4_init.data.toList.drop 0 = dktJ4_init_0 := by decide +kernel
theorem dJ4_init_0 : decode cJ4_init 0 = .ok (.aload_n 0, 1) := dk_42 (dk_at dksJ4_init_0 0 rfl rfl)
theorem dJ4_init_1 : decode cJ4_init 1 = .ok (.aload_n 1, 1) := dk_43 (dk_at dksJ4_init_0 1 rfl rfl)
theorem dJ4_init_2 : decode cJ4_init 2 = .ok (.aload_n 2, 1) := dk_44 (dk_at dksJ4_init_0 2 rfl rfl)
theorem dJ4_init_3 : decode cJ4_init 3 = .ok (.iload_n 3, 1) := dk_29 (dk_at dksJ4_init_0 3 rfl rfl)
theorem dJ4_init_4 : decode cJ4_init 4 = .ok (.iload 4, 2) := dk_21 4 (dk_at dksJ4_init_0 4 rfl rfl)
theorem dJ4_init_6 : decode cJ4_init 6 = .ok (.invokespecial 16, 3) := dk_183 0 16 (dk_at dksJ4_init_0 6 rfl rfl)
theorem dJ4_init_9 : decode cJ4_init 9 = .ok (.return_, 1) := dk_177 (dk_at dksJ4_init_0 9 rfl rfl)
def dkwJ5_init_0 : List UInt8 := [42, 43, 44, 29, 21, 4, 183, 0, 16, 177]
abbrev dktJ5_init_0 : List UInt8 := dkwJ5_init_0 ++ []
theorem dksJ5_init_0 : cJ5_init.data.toList.drop 0 = dktJ5_init_0 := by decide +kernel
theorem dJ5_init_0 : decode cJ5_init 0 = .ok (.aload_n 0, 1) := dk_42 (dk_at dksJ5_init_0 0 rfl rfl)
theorem dJ5_init_1 : decode cJ5_init 1 = .ok (.aload_n 1, 1) := dk_43 (dk_at dksJ5_init_0 1 rfl rfl)
theorem dJ5_init_2 : decode cJ5_init 2 = .ok (.aload_n 2, 1) := dk_44 (dk_at dksJ5_init_0 2 rfl rfl)
theorem dJ5_init_3 : decode cJ5_init 3 = .ok (.iload_n 3, 1) := dk_29 (dk_at dksJ5_init_0 3 rfl rfl)
theorem dJ5_init_4 : decode cJ5_init 4 = .ok (.iload 4, 2) := dk_21 4 (dk_at dksJ5_init_0 4 rfl rfl)
theorem dJ5_init_6 : decode cJ5_init 6 = .ok (.invokespecial 16, 3) := dk_183 0 16 (dk_at dksJ5_init_0 6 rfl rfl)
theorem dJ5_init_9 : decode cJ5_init 9 = .ok (.return_, 1) := dk_177 (dk_at dksJ5_init_0 9 rfl rfl)
def dkwJ6_length_0 : List UInt8 := [42, 180, 0, 9, 190, 42, 182, 1, 79, 122, 172]
abbrev dktJ6_length_0 : List UInt8 := dkwJ6_length_0 ++ []
theorem dksJ6_length_0 : cJ6_length.data.toList.drop 0 = dktJ6_length_0 := by decide +kernel
theorem dJ6_length_0 : decode cJ6_length 0 = .ok (.aload_n 0, 1) := dk_42 (dk_at dksJ6_length_0 0 rfl rfl)
theorem dJ6_length_1 : decode cJ6_length 1 = .ok (.getfield 9, 3) := dk_180 0 9 (dk_at dksJ6_length_0 1 rfl rfl)
theorem dJ6_length_4 : decode cJ6_length 4 = .ok (.arraylength, 1) := dk_190 (dk_at dksJ6_length_0 4 rfl rfl)
theorem dJ6_length_5 : decode cJ6_length 5 = .ok (.aload_n 0, 1) := dk_42 (dk_at dksJ6_length_0 5 rfl rfl)
theorem dJ6_length_6 : decode cJ6_length 6 = .ok (.invokevirtual 335, 3) := dk_182 1 79 (dk_at dksJ6_length_0 6 rfl rfl)
theorem dJ6_length_9 : decode cJ6_length 9 = .ok (.ishr, 1) := dk_122 (dk_at dksJ6_length_0 9 rfl rfl)
theorem dJ6_length_10 : decode cJ6_length 10 = .ok (.ireturn, 1) := dk_172 (dk_at dksJ6_length_0 10 rfl rfl)
def dkwJ6_coder_0 : List UInt8 := [178, 0, 38, 153, 0, 10, 42, 180, 0, 15, 167, 0, 4, 4, 172]
abbrev dktJ6_coder_0 : List UInt8 := dkwJ6_coder_0 ++ []
theorem dksJ6_coder_0 : cJ6_coder.data.toList.drop 0 = dktJ6_coder_0 := by decide +kernel
theorem dJ6_coder_0 : decode cJ6_coder 0 = .ok (.getstatic 38, 3) := dk_178 0 38 (dk_at dksJ6_coder_0 0 rfl rfl)
theorem dJ6_coder_3 : decode cJ6_coder 3 = .ok (.ifCond .eq 10, 3) := dk_153 0 10 (dk_at dksJ6_coder_0 3 rfl rfl)
theorem dJ6_coder_6 : decode cJ6_coder 6 = .ok (.aload_n 0, 1) := dk_42 (dk_at dksJ6_coder_0 6 rfl rfl)
theorem dJ6_coder_7 : decode cJ6_coder 7 = .ok (.getfield 15, 3) := dk_180 0 15 (dk_at dksJ6_coder_0 7 rfl rfl)
theorem dJ6_coder_10 : decode cJ6_coder 10 = .ok (.goto 4, 3) := dk_167 0 4 (dk_at dksJ6_coder_0 10 rfl rfl)
theorem dJ6_coder_13 : decode cJ6_coder 13 = .ok (.iconst 1, 1) := dk_4 (dk_at dksJ6_coder_0 13 rfl rfl)
theorem dJ6_coder_14 : decode cJ6_coder 14 = .ok (.ireturn, 1) := dk_172 (dk_at dksJ6_coder_0 14 rfl rfl)
def dkwJ6_indexOf_1 : List UInt8 := [180, 0, 9, 27, 28, 42, 182, 1, 249, 184, 2, 128, 172]
abbrev dktJ6_indexOf_1 : List UInt8 := dkwJ6_indexOf_1 ++ []
def dkwJ6_indexOf_0 : List UInt8 := [42, 182, 1, 236, 153, 0, 19, 42, 180, 0, 9, 27, 28, 42, 182, 1, 249, 184, 2, 125, 167, 0, 16, 42]
abbrev dktJ6_indexOf_0 : List UInt8 := dkwJ6_indexOf_0 ++ dktJ6_indexOf_1
theorem dksJ6_indexOf_0 : cJ6_indexOf.data.toList.drop 0 = dktJ6_indexOf_0 := by decide +kernel
theorem dksJ6_indexOf_1 : cJ6_indexOf.data.toList.drop 24 = dktJ6_indexOf_1 := dk_seg dksJ6_indexOf_0 24 rfl rfl
theorem dJ6_indexOf_0 : decode cJ6_indexOf 0 = .ok (.aload_n 0, 1) := dk_42 (dk_at dksJ6_indexOf_0 0 rfl rfl)
theorem dJ6_indexOf_1 : decode cJ6_indexOf 1 = .ok (.invokevirtual 492, 3) := dk_182 1 236 (dk_at dksJ6_indexOf_0 1 rfl rfl)
theorem dJ6_indexOf_4 : decode cJ6_indexOf 4 = .ok (.ifCond .eq 19, 3) := dk_153 0 19 (dk_at dksJ6_indexOf_0 4 rfl rfl)
theorem dJ6_indexOf_7 : decode cJ6_indexOf 7 = .ok (.aload_n 0, 1) := dk_42 (dk_at dksJ6_indexOf_0 7 rfl rfl)
theorem dJ6_indexOf_8 : decode cJ6_indexOf 8 = .ok (.getfield 9, 3) := dk_180 0 9 (dk_at dksJ6_indexOf_0 8 rfl rfl)
theorem dJ6_indexOf_11 : decode cJ6_indexOf 11 = .ok (.iload_n 1, 1) := dk_27 (dk_at dksJ6_indexOf_0 11 rfl rfl)
theorem dJ6_indexOf_12 : decode cJ6_indexOf 12 = .ok (.iload_n 2, 1) := dk_28 (dk_at dksJ6_indexOf_0 12 rfl rfl)
theorem dJ6_indexOf_13 : decode cJ6_indexOf 13 = .ok (.aload_n 0, 1) := dk_42 (dk_at dksJ6_indexOf_0 13 rfl rfl)
theorem dJ6_indexOf_14 : decode cJ6_indexOf 14 = .ok (.invokevirtual 505, 3) := dk_182 1 249 (dk_at dksJ6_indexOf_0 14 rfl rfl)
theorem dJ6_indexOf_17 : decode cJ6_indexOf 17 = .ok (.invokestatic 637, 3) := dk_184 2 125 (dk_at dksJ6_indexOf_0 17 rfl rfl)
theorem dJ6_indexOf_20 : decode cJ6_indexOf 20 = .ok (.goto 16, 3) := dk_167 0 16 (dk_at dksJ6_indexOf_0 20 rfl rfl)
theorem dJ6_indexOf_23 : decode cJ6_indexOf 23 = .ok (.aload_n 0, 1) := dk_42 (dk_at dksJ6_indexOf_0 23 rfl rfl)
theorem dJ6_indexOf_24 : decode cJ6_indexOf 24 = .ok (.getfield 9, 3) := dk_180 0 9 (dk_at dksJ6_indexOf_1 0 rfl rfl)
theorem dJ6_indexOf_27 : decode cJ6_indexOf 27 = .ok (.iload_n 1, 1) := dk_27 (dk_at dksJ6_indexOf_1 3 rfl rfl)
theorem dJ6_indexOf_28 : decode cJ6_indexOf 28 = .ok (.iload_n 2, 1) := dk_28 (dk_at dksJ6_indexOf_1 4 rfl rfl)
theorem dJ6_indexOf_29 : decode cJ6_indexOf 29 = .ok (.aload_n 0, 1) := dk_42 (dk_at dksJ6_indexOf_1 5 rfl rfl)
theorem dJ6_indexOf_30 : decode cJ6_indexOf 30 = .ok (.invokevirtual 505, 3) := dk_182 1 249 (dk_at dksJ6_indexOf_1 6 rfl rfl)
theorem dJ6_indexOf_33 : decode cJ6_indexOf 33 = .ok (.invokestatic 640, 3) := dk_184 2 128 (dk_at dksJ6_indexOf_1 9 rfl rfl)
theorem dJ6_indexOf_36 : decode cJ6_indexOf 36 = .ok (.ireturn, 1) := dk_172 (dk_at dksJ6_indexOf_1 12 rfl rfl)
def dkwJ6_isLatin1_0 : List UInt8 := [178, 0, 38, 153, 0, 14, 42, 180, 0, 15, 154, 0, 7, 4, 167, 0, 4, 3, 172]
abbrev dktJ6_isLatin1_0 : List UInt8 := dkwJ6_isLatin1_0 ++ []
theorem dksJ6_isLatin1_0 : cJ6_isLatin1.data.toList.drop 0 = dktJ6_isLatin1_0 := by decide +kernel
theorem dJ6_isLatin1_0 : decode cJ6_isLatin1 0 = .ok (.getstatic 38, 3) := dk_178 0 38 (dk_at dksJ6_isLatin1_0 0 rfl rfl)
theorem dJ6_isLatin1_3 : decode cJ6_isLatin1 3 = .ok (.ifCond .eq 14, 3) := dk_153 0 14 (dk_at dksJ6_isLatin1_0 3 rfl rfl)
theorem dJ6_isLatin1_6 : decode cJ6_isLatin1 6 = .ok (.aload_n 0, 1) := dk_42 (dk_at dksJ6_isLatin1_0 6 rfl rfl)
theorem dJ6_isLatin1_7 : decode cJ6_isLatin1 7 = .ok (.getfield 15, 3) := dk_180 0 15 (dk_at dksJ6_isLatin1_0 7 rfl rfl)
theorem dJ6_isLatin1_10 : decode cJ6_isLatin1 10 = .ok (.ifCond .ne 7, 3) := dk_154 0 7 (dk_at dksJ6_isLatin1_0 10 rfl rfl)
theorem dJ6_isLatin1_13 : decode cJ6_isLatin1 13 = .ok (.iconst 1, 1) := dk_4 (dk_at dksJ6_isLatin1_0 13 rfl rfl)
theorem dJ6_isLatin1_14 : decode cJ6_isLatin1 14 = .ok (.goto 4, 3) := dk_167 0 4 (dk_at dksJ6_isLatin1_0 14 rfl rfl)
theorem dJ6_isLatin1_17 : decode cJ6_isLatin1 17 = .ok (.iconst 0, 1) := dk_3 (dk_at dksJ6_isLatin1_0 17 rfl rfl)
theorem dJ6_isLatin1_18 : decode cJ6_isLatin1 18 = .ok (.ireturn, 1) := dk_172 (dk_at dksJ6_isLatin1_0 18 rfl rfl)
def dkwJ6_checkBoundsBeginEnd_0 : List UInt8 := [26, 27, 28, 178, 4, 29, 184, 4, 38, 87, 177]
abbrev dktJ6_checkBoundsBeginEnd_0 : List UInt8 := dkwJ6_checkBoundsBeginEnd_0 ++ []
theorem dksJ6_checkBoundsBeginEnd_0 : cJ6_checkBoundsBeginEnd.data.toList.drop 0 = dktJ6_checkBoundsBeginEnd_0 := by decide +kernel
theorem dJ6_checkBoundsBeginEnd_0 : decode cJ6_checkBoundsBeginEnd 0 = .ok (.iload_n 0, 1) := dk_26 (dk_at dksJ6_checkBoundsBeginEnd_0 0 rfl rfl)
theorem dJ6_checkBoundsBeginEnd_1 : decode cJ6_checkBoundsBeginEnd 1 = .ok (.iload_n 1, 1) := dk_27 (dk_at dksJ6_checkBoundsBeginEnd_0 1 rfl rfl)
theorem dJ6_checkBoundsBeginEnd_2 : decode cJ6_checkBoundsBeginEnd 2 = .ok (.iload_n 2, 1) := dk_28 (dk_at dksJ6_checkBoundsBeginEnd_0 2 rfl rfl)
theorem dJ6_checkBoundsBeginEnd_3 : decode cJ6_checkBoundsBeginEnd 3 = .ok (.getstatic 1053, 3) := dk_178 4 29 (dk_at dksJ6_checkBoundsBeginEnd_0 3 rfl rfl)
theorem dJ6_checkBoundsBeginEnd_6 : decode cJ6_checkBoundsBeginEnd 6 = .ok (.invokestatic 1062, 3) := dk_184 4 38 (dk_at dksJ6_checkBoundsBeginEnd_0 6 rfl rfl)
theorem dJ6_checkBoundsBeginEnd_9 : decode cJ6_checkBoundsBeginEnd 9 = .ok (.pop, 1) := dk_87 (dk_at dksJ6_checkBoundsBeginEnd_0 9 rfl rfl)
theorem dJ6_checkBoundsBeginEnd_10 : decode cJ6_checkBoundsBeginEnd 10 = .ok (.return_, 1) := dk_177 (dk_at dksJ6_checkBoundsBeginEnd_0 10 rfl rfl)
def dkwJ6_charAt_1 : List UInt8 := [172]
abbrev dktJ6_charAt_1 : List UInt8 := dkwJ6_charAt_1 ++ []
def dkwJ6_charAt_0 : List UInt8 := [42, 182, 1, 236, 153, 0, 12, 42, 180, 0, 9, 27, 184, 1, 239, 172, 42, 180, 0, 9, 27, 184, 1, 242]
abbrev dktJ6_charAt_0 : List UInt8 := dkwJ6_charAt_0 ++ dktJ6_charAt_1
theorem dksJ6_charAt_0 : cJ6_charAt.data.toList.drop 0 = dktJ6_charAt_0 := by decide +kernel
theorem dksJ6_charAt_1 : cJ6_charAt.data.toList.drop 24 = dktJ6_charAt_1 := dk_seg dksJ6_charAt_0 24 rfl rfl
theorem dJ6_charAt_0 : decode cJ6_charAt 0 = .ok (.aload_n 0, 1) := dk_42 (dk_at dksJ6_charAt_0 0 rfl rfl)
theorem dJ6_charAt_1 : decode cJ6_charAt 1 = .ok (.invokevirtual 492, 3) := dk_182 1 236 (dk_at dksJ6_charAt_0 1 rfl rfl)
theorem dJ6_charAt_4 : decode cJ6_charAt 4 = .ok (.ifCond .eq 12, 3) := dk_153 0 12 (dk_at dksJ6_charAt_0 4 rfl rfl)
theorem dJ6_charAt_7 : decode cJ6_charAt 7 = .ok (.aload_n 0, 1) := dk_42 (dk_at dksJ6_charAt_0 7 rfl rfl)
theorem dJ6_charAt_8 : decode cJ6_charAt 8 = .ok (.getfield 9, 3) := dk_180 0 9 (dk_at dksJ6_charAt_0 8 rfl rfl)
theorem dJ6_charAt_11 : decode cJ6_charAt 11 = .ok (.iload_n 1, 1) := dk_27 (dk_at dksJ6_charAt_0 11 rfl rfl)
theorem dJ6_charAt_12 : decode cJ6_charAt 12 = .ok (.invokestatic 495, 3) := dk_184 1 239 (dk_at dksJ6_charAt_0 12 rfl rfl)
theorem dJ6_charAt_15 : decode cJ6_charAt 15 = .ok (.ireturn, 1) := dk_172 (dk_at dksJ6_charAt_0 15 rfl rfl)
theorem dJ6_charAt_16 : decode cJ6_charAt 16 = .ok (.aload_n 0, 1) := dk_42 (dk_at dksJ6_charAt_0 16 rfl rfl)
theorem dJ6_charAt_17 : decode cJ6_charAt 17 = .ok (.getfield 9, 3) := dk_180 0 9 (dk_at dksJ6_charAt_0 17 rfl rfl)
theorem dJ6_charAt_20 : decode cJ6_charAt 20 = .ok (.iload_n 1, 1) := dk_27 (dk_at dksJ6_charAt_0 20 rfl rfl)
theorem dJ6_charAt_21 : decode cJ6_charAt 21 = .ok (.invokestatic 498, 3) := dk_184 1 242 (dk_at dksJ6_charAt_0 21 rfl rfl)
theorem dJ6_charAt_24 : decode cJ6_charAt 24 = .ok (.ireturn, 1) := dk_172 (dk_at dksJ6_charAt_1 0 rfl rfl)
def dkwJ6_checkIndex_0 : List UInt8 := [26, 27, 178, 4, 29, 184, 4, 35, 87, 177]
abbrev dktJ6_checkIndex_0 : List UInt8 := dkwJ6_checkIndex_0 ++ []
theorem dksJ6_checkIndex_0 : cJ6_checkIndex.data.toList.drop 0 = dktJ6_checkIndex_0 := by decide +kernel
theorem dJ6_checkIndex_0 : decode cJ6_checkIndex 0 = .ok (.iload_n 0, 1) := dk_26 (dk_at dksJ6_checkIndex_0 0 rfl rfl)
theorem dJ6_checkIndex_1 : decode cJ6_checkIndex 1 = .ok (.iload_n 1, 1) := dk_27 (dk_at dksJ6_checkIndex_0 1 rfl rfl)
theorem dJ6_checkIndex_2 : decode cJ6_checkIndex 2 = .ok (.getstatic 1053, 3) := dk_178 4 29 (dk_at dksJ6_checkIndex_0 2 rfl rfl)
theorem dJ6_checkIndex_5 : decode cJ6_checkIndex 5 = .ok (.invokestatic 1059, 3) := dk_184 4 35 (dk_at dksJ6_checkIndex_0 5 rfl rfl)
theorem dJ6_checkIndex_8 : decode cJ6_checkIndex 8 = .ok (.pop, 1) := dk_87 (dk_at dksJ6_checkIndex_0 8 rfl rfl)
theorem dJ6_checkIndex_9 : decode cJ6_checkIndex 9 = .ok (.return_, 1) := dk_177 (dk_at dksJ6_checkIndex_0 9 rfl rfl)
def dkwJ7_indexOf_1 : List UInt8 := [161, 0, 5, 2, 172, 42, 27, 28, 29, 184, 0, 95, 172]
abbrev dktJ7_indexOf_1 : List UInt8 := dkwJ7_indexOf_1 ++ []
def dkwJ7_indexOf_0 : List UInt8 := [27, 184, 0, 88, 154, 0, 5, 2, 172, 28, 3, 184, 0, 92, 61, 29, 42, 190, 184, 0, 38, 62, 28, 29]
abbrev dktJ7_indexOf_0 : List UInt8 := dkwJ7_indexOf_0 ++ dktJ7_indexOf_1
theorem dksJ7_indexOf_0 : cJ7_indexOf.data.toList.drop 0 = dktJ7_indexOf_0 := by decide +kernel
theorem dksJ7_indexOf_1 : cJ7_indexOf.data.toList.drop 24 = dktJ7_indexOf_1 := dk_seg dksJ7_indexOf_0 24 rfl rfl
theorem dJ7_indexOf_0 : decode cJ7_indexOf 0 = .ok (.iload_n 1, 1) := dk_27 (dk_at dksJ7_indexOf_0 0 rfl rfl)
theorem dJ7_indexOf_1 : decode cJ7_indexOf 1 = .ok (.invokestatic 88, 3) := dk_184 0 88 (dk_at dksJ7_indexOf_0 1 rfl rfl)
theorem dJ7_indexOf_4 : decode cJ7_indexOf 4 = .ok (.ifCond .ne 5, 3) := dk_154 0 5 (dk_at dksJ7_indexOf_0 4 rfl rfl)
theorem dJ7_indexOf_7 : decode cJ7_indexOf 7 = .ok (.iconst (-1), 1) := dk_2 (dk_at dksJ7_indexOf_0 7 rfl rfl)
theorem dJ7_indexOf_8 : decode cJ7_indexOf 8 = .ok (.ireturn, 1) := dk_172 (dk_at dksJ7_indexOf_0 8 rfl rfl)
theorem dJ7_indexOf_9 : decode cJ7_indexOf 9 = .ok (.iload_n 2, 1) := dk_28 (dk_at dksJ7_indexOf_0 9 rfl rfl)
theorem dJ7_indexOf_10 : decode cJ7_indexOf 10 = .ok (.iconst 0, 1) := dk_3 (dk_at dksJ7_indexOf_0 10 rfl rfl)
theorem dJ7_indexOf_11 : decode cJ7_indexOf 11 = .ok (.invokestatic 92, 3) := dk_184 0 92 (dk_at dksJ7_indexOf_0 11 rfl rfl)
theorem dJ7_indexOf_14 : decode cJ7_indexOf 14 = .ok (.istore_n 2, 1) := dk_61 (dk_at dksJ7_indexOf_0 14 rfl rfl)
theorem dJ7_indexOf_15 : decode cJ7_indexOf 15 = .ok (.iload_n 3, 1) := dk_29 (dk_at dksJ7_indexOf_0 15 rfl rfl)
theorem dJ7_indexOf_16 : decode cJ7_indexOf 16 = .ok (.aload_n 0, 1) := dk_42 (dk_at dksJ7_indexOf_0 16 rfl rfl)
theorem dJ7_indexOf_17 : decode cJ7_indexOf 17 = .ok (.arraylength, 1) := dk_190 (dk_at dksJ7_indexOf_0 17 rfl rfl)
theorem dJ7_indexOf_18 : decode cJ7_indexOf 18 = .ok (.invokestatic 38, 3) := dk_184 0 38 (dk_at dksJ7_indexOf_0 18 rfl rfl)
theorem dJ7_indexOf_21 : decode cJ7_indexOf 21 = .ok (.istore_n 3, 1) := dk_62 (dk_at dksJ7_indexOf_0 21 rfl rfl)
theorem dJ7_indexOf_22 : decode cJ7_indexOf 22 = .ok (.iload_n 2, 1) := dk_28 (dk_at dksJ7_indexOf_0 22 rfl rfl)
theorem dJ7_indexOf_23 : decode cJ7_indexOf 23 = .ok (.iload_n 3, 1) := dk_29 (dk_at dksJ7_indexOf_0 23 rfl rfl)
theorem dJ7_indexOf_24 : decode cJ7_indexOf 24 = .ok (.if_icmp .lt 5, 3) := dk_161 0 5 (dk_at dksJ7_indexOf_1 0 rfl rfl)
theorem dJ7_indexOf_27 : decode cJ7_indexOf 27 = .ok (.iconst (-1), 1) := dk_2 (dk_at dksJ7_indexOf_1 3 rfl rfl)
theorem dJ7_indexOf_28 : decode cJ7_indexOf 28 = .ok (.ireturn, 1) := dk_172 (dk_at dksJ7_indexOf_1 4 rfl rfl)
theorem dJ7_indexOf_29 : decode cJ7_indexOf 29 = .ok (.aload_n 0, 1) := dk_42 (dk_at dksJ7_indexOf_1 5 rfl rfl)
theorem dJ7_indexOf_30 : decode cJ7_indexOf 30 = .ok (.iload_n 1, 1) := dk_27 (dk_at dksJ7_indexOf_1 6 rfl rfl)
theorem dJ7_indexOf_31 : decode cJ7_indexOf 31 = .ok (.iload_n 2, 1) := dk_28 (dk_at dksJ7_indexOf_1 7 rfl rfl)
theorem dJ7_indexOf_32 : decode cJ7_indexOf 32 = .ok (.iload_n 3, 1) := dk_29 (dk_at dksJ7_indexOf_1 8 rfl rfl)
theorem dJ7_indexOf_33 : decode cJ7_indexOf 33 = .ok (.invokestatic 95, 3) := dk_184 0 95 (dk_at dksJ7_indexOf_1 9 rfl rfl)
theorem dJ7_indexOf_36 : decode cJ7_indexOf 36 = .ok (.ireturn, 1) := dk_172 (dk_at dksJ7_indexOf_1 12 rfl rfl)
def dkwJ7_canEncode_0 : List UInt8 := [26, 155, 0, 14, 26, 17, 0, 255, 163, 0, 7, 4, 167, 0, 4, 3, 172]
abbrev dktJ7_canEncode_0 : List UInt8 := dkwJ7_canEncode_0 ++ []
theorem dksJ7_canEncode_0 : cJ7_canEncode.data.toList.drop 0 = dktJ7_canEncode_0 := by decide +kernel
theorem dJ7_canEncode_0 : decode cJ7_canEncode 0 = .ok (.iload_n 0, 1) := dk_26 (dk_at dksJ7_canEncode_0 0 rfl rfl)
theorem dJ7_canEncode_1 : decode cJ7_canEncode 1 = .ok (.ifCond .lt 14, 3) := dk_155 0 14 (dk_at dksJ7_canEncode_0 1 rfl rfl)
theorem dJ7_canEncode_4 : decode cJ7_canEncode 4 = .ok (.iload_n 0, 1) := dk_26 (dk_at dksJ7_canEncode_0 4 rfl rfl)
theorem dJ7_canEncode_5 : decode cJ7_canEncode 5 = .ok (.sipush 255, 3) := dk_17 0 255 (dk_at dksJ7_canEncode_0 5 rfl rfl)
theorem dJ7_canEncode_8 : decode cJ7_canEncode 8 = .ok (.if_icmp .gt 7, 3) := dk_163 0 7 (dk_at dksJ7_canEncode_0 8 rfl rfl)
theorem dJ7_canEncode_11 : decode cJ7_canEncode 11 = .ok (.iconst 1, 1) := dk_4 (dk_at dksJ7_canEncode_0 11 rfl rfl)
theorem dJ7_canEncode_12 : decode cJ7_canEncode 12 = .ok (.goto 4, 3) := dk_167 0 4 (dk_at dksJ7_canEncode_0 12 rfl rfl)
theorem dJ7_canEncode_15 : decode cJ7_canEncode 15 = .ok (.iconst 0, 1) := dk_3 (dk_at dksJ7_canEncode_0 15 rfl rfl)
theorem dJ7_canEncode_16 : decode cJ7_canEncode 16 = .ok (.ireturn, 1) := dk_172 (dk_at dksJ7_canEncode_0 16 rfl rfl)
def dkwJ7_indexOfChar_1 : List UInt8 := [172, 132, 5, 1, 167, 255, 235, 2, 172]
abbrev dktJ7_indexOfChar_1 : List UInt8 := dkwJ7_indexOfChar_1 ++ []
def dkwJ7_indexOfChar_0 : List UInt8 := [27, 145, 54, 4, 28, 54, 5, 21, 5, 29, 162, 0, 21, 42, 21, 5, 51, 21, 4, 160, 0, 6, 21, 5]
abbrev dktJ7_indexOfChar_0 : List UInt8 := dkwJ7_indexOfChar_0 ++ dktJ7_indexOfChar_1
theorem dksJ7_indexOfChar_0 : cJ7_indexOfChar.data.toList.drop 0 = dktJ7_indexOfChar_0 := by decide +kernel
theorem dksJ7_indexOfChar_1 : cJ7_indexOfChar.data.toList.drop 24 = dktJ7_indexOfChar_1 := dk_seg dksJ7_indexOfChar_0 24 rfl rfl
theorem dJ7_indexOfChar_0 : decode cJ7_indexOfChar 0 = .ok (.iload_n 1, 1) := dk_27 (dk_at dksJ7_indexOfChar_0 0 rfl rfl)
theorem dJ7_indexOfChar_1 : decode cJ7_indexOfChar 1 = .ok (.i2b, 1) := dk_145 (dk_at dksJ7_indexOfChar_0 1 rfl rfl)
theorem dJ7_indexOfChar_2 : decode cJ7_indexOfChar 2 = .ok (.istore 4, 2) := dk_54 4 (dk_at dksJ7_indexOfChar_0 2 rfl rfl)
theorem dJ7_indexOfChar_4 : decode cJ7_indexOfChar 4 = .ok (.iload_n 2, 1) := dk_28 (dk_at dksJ7_indexOfChar_0 4 rfl rfl)
theorem dJ7_indexOfChar_5 : decode cJ7_indexOfChar 5 = .ok (.istore 5, 2) := dk_54 5 (dk_at dksJ7_indexOfChar_0 5 rfl rfl)
theorem dJ7_indexOfChar_7 : decode cJ7_indexOfChar 7 = .ok (.iload 5, 2) := dk_21 5 (dk_at dksJ7_indexOfChar_0 7 rfl rfl)
theorem dJ7_indexOfChar_9 : decode cJ7_indexOfChar 9 = .ok (.iload_n 3, 1) := dk_29 (dk_at dksJ7_indexOfChar_0 9 rfl rfl)
theorem dJ7_indexOfChar_10 : decode cJ7_indexOfChar 10 = .ok (.if_icmp .ge 21, 3) := dk_162 0 21 (dk_at dksJ7_indexOfChar_0 10 rfl rfl)
theorem dJ7_indexOfChar_13 : decode cJ7_indexOfChar 13 = .ok (.aload_n 0, 1) := dk_42 (dk_at dksJ7_indexOfChar_0 13 rfl rfl)
theorem dJ7_indexOfChar_14 : decode cJ7_indexOfChar 14 = .ok (.iload 5, 2) := dk_21 5 (dk_at dksJ7_indexOfChar_0 14 rfl rfl)
theorem dJ7_indexOfChar_16 : decode cJ7_indexOfChar 16 = .ok (.baload, 1) := dk_51 (dk_at dksJ7_indexOfChar_0 16 rfl rfl)
theorem dJ7_indexOfChar_17 : decode cJ7_indexOfChar 17 = .ok (.iload 4, 2) := dk_21 4 (dk_at dksJ7_indexOfChar_0 17 rfl rfl)
theorem dJ7_indexOfChar_19 : decode cJ7_indexOfChar 19 = .ok (.if_icmp .ne 6, 3) := dk_160 0 6 (dk_at dksJ7_indexOfChar_0 19 rfl rfl)
theorem dJ7_indexOfChar_22 : decode cJ7_indexOfChar 22 = .ok (.iload 5, 2) := dk_21 5 (dk_at dksJ7_indexOfChar_0 22 rfl rfl)
theorem dJ7_indexOfChar_24 : decode cJ7_indexOfChar 24 = .ok (.ireturn, 1) := dk_172 (dk_at dksJ7_indexOfChar_1 0 rfl rfl)
theorem dJ7_indexOfChar_25 : decode cJ7_indexOfChar 25 = .ok (.iinc 5 1, 3) := dk_132 5 1 (dk_at dksJ7_indexOfChar_1 1 rfl rfl)
theorem dJ7_indexOfChar_28 : decode cJ7_indexOfChar 28 = .ok (.goto (-21), 3) := dk_167 255 235 (dk_at dksJ7_indexOfChar_1 4 rfl rfl)
theorem dJ7_indexOfChar_31 : decode cJ7_indexOfChar 31 = .ok (.iconst (-1), 1) := dk_2 (dk_at dksJ7_indexOfChar_1 7 rfl rfl)
theorem dJ7_indexOfChar_32 : decode cJ7_indexOfChar 32 = .ok (.ireturn, 1) := dk_172 (dk_at dksJ7_indexOfChar_1 8 rfl rfl)
def dkwJ7_charAt_0 : List UInt8 := [27, 42, 190, 184, 0, 9, 42, 27, 51, 17, 0, 255, 126, 146, 172]
abbrev dktJ7_charAt_0 : List UInt8 := dkwJ7_charAt_0 ++ []
theorem dksJ7_charAt_0 : cJ7_charAt.data.toList.drop 0 = dktJ7_charAt_0 := by decide +kernel
theorem dJ7_charAt_0 : decode cJ7_charAt 0 = .ok (.iload_n 1, 1) := dk_27 (dk_at dksJ7_charAt_0 0 rfl rfl)
theorem dJ7_charAt_1 : decode cJ7_charAt 1 = .ok (.aload_n 0, 1) := dk_42 (dk_at dksJ7_charAt_0 1 rfl rfl)
theorem dJ7_charAt_2 : decode cJ7_charAt 2 = .ok (.arraylength, 1) := dk_190 (dk_at dksJ7_charAt_0 2 rfl rfl)
theorem dJ7_charAt_3 : decode cJ7_charAt 3 = .ok (.invokestatic 9, 3) := dk_184 0 9 (dk_at dksJ7_charAt_0 3 rfl rfl)
theorem dJ7_charAt_6 : decode cJ7_charAt 6 = .ok (.aload_n 0, 1) := dk_42 (dk_at dksJ7_charAt_0 6 rfl rfl)
theorem dJ7_charAt_7 : decode cJ7_charAt 7 = .ok (.iload_n 1, 1) := dk_27 (dk_at dksJ7_charAt_0 7 rfl rfl)
theorem dJ7_charAt_8 : decode cJ7_charAt 8 = .ok (.baload, 1) := dk_51 (dk_at dksJ7_charAt_0 8 rfl rfl)
theorem dJ7_charAt_9 : decode cJ7_charAt 9 = .ok (.sipush 255, 3) := dk_17 0 255 (dk_at dksJ7_charAt_0 9 rfl rfl)
theorem dJ7_charAt_12 : decode cJ7_charAt 12 = .ok (.iand, 1) := dk_126 (dk_at dksJ7_charAt_0 12 rfl rfl)
theorem dJ7_charAt_13 : decode cJ7_charAt 13 = .ok (.i2c, 1) := dk_146 (dk_at dksJ7_charAt_0 13 rfl rfl)
theorem dJ7_charAt_14 : decode cJ7_charAt 14 = .ok (.ireturn, 1) := dk_172 (dk_at dksJ7_charAt_0 14 rfl rfl)
def dkwJ8_max_0 : List UInt8 := [26, 27, 161, 0, 7, 26, 167, 0, 4, 27, 172]
abbrev dktJ8_max_0 : List UInt8 := dkwJ8_max_0 ++ []
theorem dksJ8_max_0 : cJ8_max.data.toList.drop 0 = dktJ8_max_0 := by decide +kernel
theorem dJ8_max_0 : decode cJ8_max 0 = .ok (.iload_n 0, 1) := dk_26 (dk_at dksJ8_max_0 0 rfl rfl)
theorem dJ8_max_1 : decode cJ8_max 1 = .ok (.iload_n 1, 1) := dk_27 (dk_at dksJ8_max_0 1 rfl rfl)
theorem dJ8_max_2 : decode cJ8_max 2 = .ok (.if_icmp .lt 7, 3) := dk_161 0 7 (dk_at dksJ8_max_0 2 rfl rfl)
theorem dJ8_max_5 : decode cJ8_max 5 = .ok (.iload_n 0, 1) := dk_26 (dk_at dksJ8_max_0 5 rfl rfl)
theorem dJ8_max_6 : decode cJ8_max 6 = .ok (.goto 4, 3) := dk_167 0 4 (dk_at dksJ8_max_0 6 rfl rfl)
theorem dJ8_max_9 : decode cJ8_max 9 = .ok (.iload_n 1, 1) := dk_27 (dk_at dksJ8_max_0 9 rfl rfl)
theorem dJ8_max_10 : decode cJ8_max 10 = .ok (.ireturn, 1) := dk_172 (dk_at dksJ8_max_0 10 rfl rfl)
def dkwJ8_min_0 : List UInt8 := [26, 27, 163, 0, 7, 26, 167, 0, 4, 27, 172]
abbrev dktJ8_min_0 : List UInt8 := dkwJ8_min_0 ++ []
theorem dksJ8_min_0 : cJ8_min.data.toList.drop 0 = dktJ8_min_0 := by decide +kernel
theorem dJ8_min_0 : decode cJ8_min 0 = .ok (.iload_n 0, 1) := dk_26 (dk_at dksJ8_min_0 0 rfl rfl)
theorem dJ8_min_1 : decode cJ8_min 1 = .ok (.iload_n 1, 1) := dk_27 (dk_at dksJ8_min_0 1 rfl rfl)
theorem dJ8_min_2 : decode cJ8_min 2 = .ok (.if_icmp .gt 7, 3) := dk_163 0 7 (dk_at dksJ8_min_0 2 rfl rfl)
theorem dJ8_min_5 : decode cJ8_min 5 = .ok (.iload_n 0, 1) := dk_26 (dk_at dksJ8_min_0 5 rfl rfl)
theorem dJ8_min_6 : decode cJ8_min 6 = .ok (.goto 4, 3) := dk_167 0 4 (dk_at dksJ8_min_0 6 rfl rfl)
theorem dJ8_min_9 : decode cJ8_min 9 = .ok (.iload_n 1, 1) := dk_27 (dk_at dksJ8_min_0 9 rfl rfl)
theorem dJ8_min_10 : decode cJ8_min 10 = .ok (.ireturn, 1) := dk_172 (dk_at dksJ8_min_0 10 rfl rfl)
def dkwJ8_abs_0 : List UInt8 := [26, 156, 0, 8, 26, 116, 167, 0, 4, 26, 172]
abbrev dktJ8_abs_0 : List UInt8 := dkwJ8_abs_0 ++ []
theorem dksJ8_abs_0 : cJ8_abs.data.toList.drop 0 = dktJ8_abs_0 := by decide +kernel
theorem dJ8_abs_0 : decode cJ8_abs 0 = .ok (.iload_n 0, 1) := dk_26 (dk_at dksJ8_abs_0 0 rfl rfl)
theorem dJ8_abs_1 : decode cJ8_abs 1 = .ok (.ifCond .ge 8, 3) := dk_156 0 8 (dk_at dksJ8_abs_0 1 rfl rfl)
theorem dJ8_abs_4 : decode cJ8_abs 4 = .ok (.iload_n 0, 1) := dk_26 (dk_at dksJ8_abs_0 4 rfl rfl)
theorem dJ8_abs_5 : decode cJ8_abs 5 = .ok (.ineg, 1) := dk_116 (dk_at dksJ8_abs_0 5 rfl rfl)
theorem dJ8_abs_6 : decode cJ8_abs 6 = .ok (.goto 4, 3) := dk_167 0 4 (dk_at dksJ8_abs_0 6 rfl rfl)
theorem dJ8_abs_9 : decode cJ8_abs 9 = .ok (.iload_n 0, 1) := dk_26 (dk_at dksJ8_abs_0 9 rfl rfl)
theorem dJ8_abs_10 : decode cJ8_abs 10 = .ok (.ireturn, 1) := dk_172 (dk_at dksJ8_abs_0 10 rfl rfl)
def dkwJ8_abs_2_0 : List UInt8 := [30, 9, 148, 156, 0, 8, 30, 117, 167, 0, 4, 30, 173]
abbrev dktJ8_abs_2_0 : List UInt8 := dkwJ8_abs_2_0 ++ []
theorem dksJ8_abs_2_0 : cJ8_abs_2.data.toList.drop 0 = dktJ8_abs_2_0 := by decide +kernel
theorem dJ8_abs_2_0 : decode cJ8_abs_2 0 = .ok (.lload_n 0, 1) := dk_30 (dk_at dksJ8_abs_2_0 0 rfl rfl)
theorem dJ8_abs_2_1 : decode cJ8_abs_2 1 = .ok (.lconst 0, 1) := dk_9 (dk_at dksJ8_abs_2_0 1 rfl rfl)
theorem dJ8_abs_2_2 : decode cJ8_abs_2 2 = .ok (.lcmp, 1) := dk_148 (dk_at dksJ8_abs_2_0 2 rfl rfl)
theorem dJ8_abs_2_3 : decode cJ8_abs_2 3 = .ok (.ifCond .ge 8, 3) := dk_156 0 8 (dk_at dksJ8_abs_2_0 3 rfl rfl)
theorem dJ8_abs_2_6 : decode cJ8_abs_2 6 = .ok (.lload_n 0, 1) := dk_30 (dk_at dksJ8_abs_2_0 6 rfl rfl)
theorem dJ8_abs_2_7 : decode cJ8_abs_2 7 = .ok (.lneg, 1) := dk_117 (dk_at dksJ8_abs_2_0 7 rfl rfl)
theorem dJ8_abs_2_8 : decode cJ8_abs_2 8 = .ok (.goto 4, 3) := dk_167 0 4 (dk_at dksJ8_abs_2_0 8 rfl rfl)
theorem dJ8_abs_2_11 : decode cJ8_abs_2 11 = .ok (.lload_n 0, 1) := dk_30 (dk_at dksJ8_abs_2_0 11 rfl rfl)
theorem dJ8_abs_2_12 : decode cJ8_abs_2 12 = .ok (.lreturn, 1) := dk_173 (dk_at dksJ8_abs_2_0 12 rfl rfl)
def dkwJ9_indexOf_1 : List UInt8 := [18, 227, 162, 0, 11, 42, 27, 28, 29, 184, 0, 228, 172, 42, 27, 28, 29, 184, 0, 232, 172]
abbrev dktJ9_indexOf_1 : List UInt8 := dkwJ9_indexOf_1 ++ []
def dkwJ9_indexOf_0 : List UInt8 := [28, 3, 184, 0, 224, 61, 29, 42, 190, 4, 122, 184, 0, 183, 62, 28, 29, 161, 0, 5, 2, 172, 27]
abbrev dktJ9_indexOf_0 : List UInt8 := dkwJ9_indexOf_0 ++ dktJ9_indexOf_1
theorem dksJ9_indexOf_0 : cJ9_indexOf.data.toList.drop 0 = dktJ9_indexOf_0 := by decide +kernel
theorem dksJ9_indexOf_1 : cJ9_indexOf.data.toList.drop 23 = dktJ9_indexOf_1 := dk_seg dksJ9_indexOf_0 23 rfl rfl
theorem dJ9_indexOf_0 : decode cJ9_indexOf 0 = .ok (.iload_n 2, 1) := dk_28 (dk_at dksJ9_indexOf_0 0 rfl rfl)
theorem dJ9_indexOf_1 : decode cJ9_indexOf 1 = .ok (.iconst 0, 1) := dk_3 (dk_at dksJ9_indexOf_0 1 rfl rfl)
theorem dJ9_indexOf_2 : decode cJ9_indexOf 2 = .ok (.invokestatic 224, 3) := dk_184 0 224 (dk_at dksJ9_indexOf_0 2 rfl rfl)
theorem dJ9_indexOf_5 : decode cJ9_indexOf 5 = .ok (.istore_n 2, 1) := dk_61 (dk_at dksJ9_indexOf_0 5 rfl rfl)
theorem dJ9_indexOf_6 : decode cJ9_indexOf 6 = .ok (.iload_n 3, 1) := dk_29 (dk_at dksJ9_indexOf_0 6 rfl rfl)
theorem dJ9_indexOf_7 : decode cJ9_indexOf 7 = .ok (.aload_n 0, 1) := dk_42 (dk_at dksJ9_indexOf_0 7 rfl rfl)
theorem dJ9_indexOf_8 : decode cJ9_indexOf 8 = .ok (.arraylength, 1) := dk_190 (dk_at dksJ9_indexOf_0 8 rfl rfl)
theorem dJ9_indexOf_9 : decode cJ9_indexOf 9 = .ok (.iconst 1, 1) := dk_4 (dk_at dksJ9_indexOf_0 9 rfl rfl)
theorem dJ9_indexOf_10 : decode cJ9_indexOf 10 = .ok (.ishr, 1) := dk_122 (dk_at dksJ9_indexOf_0 10 rfl rfl)
theorem dJ9_indexOf_11 : decode cJ9_indexOf 11 = .ok (.invokestatic 183, 3) := dk_184 0 183 (dk_at dksJ9_indexOf_0 11 rfl rfl)
theorem dJ9_indexOf_14 : decode cJ9_indexOf 14 = .ok (.istore_n 3, 1) := dk_62 (dk_at dksJ9_indexOf_0 14 rfl rfl)
theorem dJ9_indexOf_15 : decode cJ9_indexOf 15 = .ok (.iload_n 2, 1) := dk_28 (dk_at dksJ9_indexOf_0 15 rfl rfl)
theorem dJ9_indexOf_16 : decode cJ9_indexOf 16 = .ok (.iload_n 3, 1) := dk_29 (dk_at dksJ9_indexOf_0 16 rfl rfl)
theorem dJ9_indexOf_17 : decode cJ9_indexOf 17 = .ok (.if_icmp .lt 5, 3) := dk_161 0 5 (dk_at dksJ9_indexOf_0 17 rfl rfl)
theorem dJ9_indexOf_20 : decode cJ9_indexOf 20 = .ok (.iconst (-1), 1) := dk_2 (dk_at dksJ9_indexOf_0 20 rfl rfl)
theorem dJ9_indexOf_21 : decode cJ9_indexOf 21 = .ok (.ireturn, 1) := dk_172 (dk_at dksJ9_indexOf_0 21 rfl rfl)
theorem dJ9_indexOf_22 : decode cJ9_indexOf 22 = .ok (.iload_n 1, 1) := dk_27 (dk_at dksJ9_indexOf_0 22 rfl rfl)
theorem dJ9_indexOf_23 : decode cJ9_indexOf 23 = .ok (.ldc 227, 2) := dk_18 227 (dk_at dksJ9_indexOf_1 0 rfl rfl)
theorem dJ9_indexOf_25 : decode cJ9_indexOf 25 = .ok (.if_icmp .ge 11, 3) := dk_162 0 11 (dk_at dksJ9_indexOf_1 2 rfl rfl)
theorem dJ9_indexOf_28 : decode cJ9_indexOf 28 = .ok (.aload_n 0, 1) := dk_42 (dk_at dksJ9_indexOf_1 5 rfl rfl)
theorem dJ9_indexOf_29 : decode cJ9_indexOf 29 = .ok (.iload_n 1, 1) := dk_27 (dk_at dksJ9_indexOf_1 6 rfl rfl)
theorem dJ9_indexOf_30 : decode cJ9_indexOf 30 = .ok (.iload_n 2, 1) := dk_28 (dk_at dksJ9_indexOf_1 7 rfl rfl)
theorem dJ9_indexOf_31 : decode cJ9_indexOf 31 = .ok (.iload_n 3, 1) := dk_29 (dk_at dksJ9_indexOf_1 8 rfl rfl)
theorem dJ9_indexOf_32 : decode cJ9_indexOf 32 = .ok (.invokestatic 228, 3) := dk_184 0 228 (dk_at dksJ9_indexOf_1 9 rfl rfl)
theorem dJ9_indexOf_35 : decode cJ9_indexOf 35 = .ok (.ireturn, 1) := dk_172 (dk_at dksJ9_indexOf_1 12 rfl rfl)
theorem dJ9_indexOf_36 : decode cJ9_indexOf 36 = .ok (.aload_n 0, 1) := dk_42 (dk_at dksJ9_indexOf_1 13 rfl rfl)
theorem dJ9_indexOf_37 : decode cJ9_indexOf 37 = .ok (.iload_n 1, 1) := dk_27 (dk_at dksJ9_indexOf_1 14 rfl rfl)
theorem dJ9_indexOf_38 : decode cJ9_indexOf 38 = .ok (.iload_n 2, 1) := dk_28 (dk_at dksJ9_indexOf_1 15 rfl rfl)
theorem dJ9_indexOf_39 : decode cJ9_indexOf 39 = .ok (.iload_n 3, 1) := dk_29 (dk_at dksJ9_indexOf_1 16 rfl rfl)
theorem dJ9_indexOf_40 : decode cJ9_indexOf 40 = .ok (.invokestatic 232, 3) := dk_184 0 232 (dk_at dksJ9_indexOf_1 17 rfl rfl)
theorem dJ9_indexOf_43 : decode cJ9_indexOf 43 = .ok (.ireturn, 1) := dk_172 (dk_at dksJ9_indexOf_1 20 rfl rfl)
def dkwJ9_indexOfChar_0 : List UInt8 := [28, 29, 42, 184, 0, 96, 42, 27, 28, 29, 184, 0, 244, 172]
abbrev dktJ9_indexOfChar_0 : List UInt8 := dkwJ9_indexOfChar_0 ++ []
theorem dksJ9_indexOfChar_0 : cJ9_indexOfChar.data.toList.drop 0 = dktJ9_indexOfChar_0 := by decide +kernel
theorem dJ9_indexOfChar_0 : decode cJ9_indexOfChar 0 = .ok (.iload_n 2, 1) := dk_28 (dk_at dksJ9_indexOfChar_0 0 rfl rfl)
theorem dJ9_indexOfChar_1 : decode cJ9_indexOfChar 1 = .ok (.iload_n 3, 1) := dk_29 (dk_at dksJ9_indexOfChar_0 1 rfl rfl)
theorem dJ9_indexOfChar_2 : decode cJ9_indexOfChar 2 = .ok (.aload_n 0, 1) := dk_42 (dk_at dksJ9_indexOfChar_0 2 rfl rfl)
theorem dJ9_indexOfChar_3 : decode cJ9_indexOfChar 3 = .ok (.invokestatic 96, 3) := dk_184 0 96 (dk_at dksJ9_indexOfChar_0 3 rfl rfl)
theorem dJ9_indexOfChar_6 : decode cJ9_indexOfChar 6 = .ok (.aload_n 0, 1) := dk_42 (dk_at dksJ9_indexOfChar_0 6 rfl rfl)
theorem dJ9_indexOfChar_7 : decode cJ9_indexOfChar 7 = .ok (.iload_n 1, 1) := dk_27 (dk_at dksJ9_indexOfChar_0 7 rfl rfl)
theorem dJ9_indexOfChar_8 : decode cJ9_indexOfChar 8 = .ok (.iload_n 2, 1) := dk_28 (dk_at dksJ9_indexOfChar_0 8 rfl rfl)
theorem dJ9_indexOfChar_9 : decode cJ9_indexOfChar 9 = .ok (.iload_n 3, 1) := dk_29 (dk_at dksJ9_indexOfChar_0 9 rfl rfl)
theorem dJ9_indexOfChar_10 : decode cJ9_indexOfChar 10 = .ok (.invokestatic 244, 3) := dk_184 0 244 (dk_at dksJ9_indexOfChar_0 10 rfl rfl)
theorem dJ9_indexOfChar_13 : decode cJ9_indexOfChar 13 = .ok (.ireturn, 1) := dk_172 (dk_at dksJ9_indexOfChar_0 13 rfl rfl)
def dkwJ9_checkBoundsBeginEnd_0 : List UInt8 := [26, 27, 44, 184, 0, 48, 184, 0, 241, 177]
abbrev dktJ9_checkBoundsBeginEnd_0 : List UInt8 := dkwJ9_checkBoundsBeginEnd_0 ++ []
theorem dksJ9_checkBoundsBeginEnd_0 : cJ9_checkBoundsBeginEnd.data.toList.drop 0 = dktJ9_checkBoundsBeginEnd_0 := by decide +kernel
theorem dJ9_checkBoundsBeginEnd_0 : decode cJ9_checkBoundsBeginEnd 0 = .ok (.iload_n 0, 1) := dk_26 (dk_at dksJ9_checkBoundsBeginEnd_0 0 rfl rfl)
theorem dJ9_checkBoundsBeginEnd_1 : decode cJ9_checkBoundsBeginEnd 1 = .ok (.iload_n 1, 1) := dk_27 (dk_at dksJ9_checkBoundsBeginEnd_0 1 rfl rfl)
theorem dJ9_checkBoundsBeginEnd_2 : decode cJ9_checkBoundsBeginEnd 2 = .ok (.aload_n 2, 1) := dk_44 (dk_at dksJ9_checkBoundsBeginEnd_0 2 rfl rfl)
theorem dJ9_checkBoundsBeginEnd_3 : decode cJ9_checkBoundsBeginEnd 3 = .ok (.invokestatic 48, 3) := dk_184 0 48 (dk_at dksJ9_checkBoundsBeginEnd_0 3 rfl rfl)
theorem dJ9_checkBoundsBeginEnd_6 : decode cJ9_checkBoundsBeginEnd 6 = .ok (.invokestatic 241, 3) := dk_184 0 241 (dk_at dksJ9_checkBoundsBeginEnd_0 6 rfl rfl)
theorem dJ9_checkBoundsBeginEnd_9 : decode cJ9_checkBoundsBeginEnd 9 = .ok (.return_, 1) := dk_177 (dk_at dksJ9_checkBoundsBeginEnd_0 9 rfl rfl)
def dkwJ9_length_0 : List UInt8 := [42, 190, 4, 122, 172]
abbrev dktJ9_length_0 : List UInt8 := dkwJ9_length_0 ++ []
theorem dksJ9_length_0 : cJ9_length.data.toList.drop 0 = dktJ9_length_0 := by decide +kernel
theorem dJ9_length_0 : decode cJ9_length 0 = .ok (.aload_n 0, 1) := dk_42 (dk_at dksJ9_length_0 0 rfl rfl)
theorem dJ9_length_1 : decode cJ9_length 1 = .ok (.arraylength, 1) := dk_190 (dk_at dksJ9_length_0 1 rfl rfl)
theorem dJ9_length_2 : decode cJ9_length 2 = .ok (.iconst 1, 1) := dk_4 (dk_at dksJ9_length_0 2 rfl rfl)
theorem dJ9_length_3 : decode cJ9_length 3 = .ok (.ishr, 1) := dk_122 (dk_at dksJ9_length_0 3 rfl rfl)
theorem dJ9_length_4 : decode cJ9_length 4 = .ok (.ireturn, 1) := dk_172 (dk_at dksJ9_length_0 4 rfl rfl)
def dkwJ9_indexOfCharUnsafe_1 : List UInt8 := [132, 4, 1, 167, 255, 234, 2, 172]
abbrev dktJ9_indexOfCharUnsafe_1 : List UInt8 := dkwJ9_indexOfCharUnsafe_1 ++ []
def dkwJ9_indexOfCharUnsafe_0 : List UInt8 := [28, 54, 4, 21, 4, 29, 162, 0, 22, 42, 21, 4, 184, 0, 71, 27, 160, 0, 6, 21, 4, 172]
abbrev dktJ9_indexOfCharUnsafe_0 : List UInt8 := dkwJ9_indexOfCharUnsafe_0 ++ dktJ9_indexOfCharUnsafe_1
theorem dksJ9_indexOfCharUnsafe_0 : cJ9_indexOfCharUnsafe.data.toList.drop 0 = dktJ9_indexOfCharUnsafe_0 := by decide +kernel
theorem dksJ9_indexOfCharUnsafe_1 : cJ9_indexOfCharUnsafe.data.toList.drop 22 = dktJ9_indexOfCharUnsafe_1 := dk_seg dksJ9_indexOfCharUnsafe_0 22 rfl rfl
theorem dJ9_indexOfCharUnsafe_0 : decode cJ9_indexOfCharUnsafe 0 = .ok (.iload_n 2, 1) := dk_28 (dk_at dksJ9_indexOfCharUnsafe_0 0 rfl rfl)
theorem dJ9_indexOfCharUnsafe_1 : decode cJ9_indexOfCharUnsafe 1 = .ok (.istore 4, 2) := dk_54 4 (dk_at dksJ9_indexOfCharUnsafe_0 1 rfl rfl)
theorem dJ9_indexOfCharUnsafe_3 : decode cJ9_indexOfCharUnsafe 3 = .ok (.iload 4, 2) := dk_21 4 (dk_at dksJ9_indexOfCharUnsafe_0 3 rfl rfl)
theorem dJ9_indexOfCharUnsafe_5 : decode cJ9_indexOfCharUnsafe 5 = .ok (.iload_n 3, 1) := dk_29 (dk_at dksJ9_indexOfCharUnsafe_0 5 rfl rfl)
theorem dJ9_indexOfCharUnsafe_6 : decode cJ9_indexOfCharUnsafe 6 = .ok (.if_icmp .ge 22, 3) := dk_162 0 22 (dk_at dksJ9_indexOfCharUnsafe_0 6 rfl rfl)
theorem dJ9_indexOfCharUnsafe_9 : decode cJ9_indexOfCharUnsafe 9 = .ok (.aload_n 0, 1) := dk_42 (dk_at dksJ9_indexOfCharUnsafe_0 9 rfl rfl)
theorem dJ9_indexOfCharUnsafe_10 : decode cJ9_indexOfCharUnsafe 10 = .ok (.iload 4, 2) := dk_21 4 (dk_at dksJ9_indexOfCharUnsafe_0 10 rfl rfl)
theorem dJ9_indexOfCharUnsafe_12 : decode cJ9_indexOfCharUnsafe 12 = .ok (.invokestatic 71, 3) := dk_184 0 71 (dk_at dksJ9_indexOfCharUnsafe_0 12 rfl rfl)
theorem dJ9_indexOfCharUnsafe_15 : decode cJ9_indexOfCharUnsafe 15 = .ok (.iload_n 1, 1) := dk_27 (dk_at dksJ9_indexOfCharUnsafe_0 15 rfl rfl)
theorem dJ9_indexOfCharUnsafe_16 : decode cJ9_indexOfCharUnsafe 16 = .ok (.if_icmp .ne 6, 3) := dk_160 0 6 (dk_at dksJ9_indexOfCharUnsafe_0 16 rfl rfl)
theorem dJ9_indexOfCharUnsafe_19 : decode cJ9_indexOfCharUnsafe 19 = .ok (.iload 4, 2) := dk_21 4 (dk_at dksJ9_indexOfCharUnsafe_0 19 rfl rfl)
theorem dJ9_indexOfCharUnsafe_21 : decode cJ9_indexOfCharUnsafe 21 = .ok (.ireturn, 1) := dk_172 (dk_at dksJ9_indexOfCharUnsafe_0 21 rfl rfl)
theorem dJ9_indexOfCharUnsafe_22 : decode cJ9_indexOfCharUnsafe 22 = .ok (.iinc 4 1, 3) := dk_132 4 1 (dk_at dksJ9_indexOfCharUnsafe_1 0 rfl rfl)
theorem dJ9_indexOfCharUnsafe_25 : decode cJ9_indexOfCharUnsafe 25 = .ok (.goto (-22), 3) := dk_167 255 234 (dk_at dksJ9_indexOfCharUnsafe_1 3 rfl rfl)
theorem dJ9_indexOfCharUnsafe_28 : decode cJ9_indexOfCharUnsafe 28 = .ok (.iconst (-1), 1) := dk_2 (dk_at dksJ9_indexOfCharUnsafe_1 6 rfl rfl)
theorem dJ9_indexOfCharUnsafe_29 : decode cJ9_indexOfCharUnsafe 29 = .ok (.ireturn, 1) := dk_172 (dk_at dksJ9_indexOfCharUnsafe_1 7 rfl rfl)
def dkwJ9_getChar_2 : List UInt8 := [51, 17, 0, 255, 126, 178, 0, 63, 120, 128, 146, 172]
abbrev dktJ9_getChar_2 : List UInt8 := dkwJ9_getChar_2 ++ []
def dkwJ9_getChar_1 : List UInt8 := [183, 0, 56, 191, 27, 4, 120, 60, 42, 27, 132, 1, 1, 51, 17, 0, 255, 126, 178, 0, 59, 120, 42, 27]
abbrev dktJ9_getChar_1 : List UInt8 := dkwJ9_getChar_1 ++ dktJ9_getChar_2
def dkwJ9_getChar_0 : List UInt8 := [178, 0, 44, 154, 0, 25, 27, 155, 0, 11, 27, 42, 184, 0, 48, 161, 0, 13, 187, 0, 52, 89, 18, 54]
abbrev dktJ9_getChar_0 : List UInt8 := dkwJ9_getChar_0 ++ dktJ9_getChar_1
theorem dksJ9_getChar_0 : cJ9_getChar.data.toList.drop 0 = dktJ9_getChar_0 := by decide +kernel
theorem dksJ9_getChar_1 : cJ9_getChar.data.toList.drop 24 = dktJ9_getChar_1 := dk_seg dksJ9_getChar_0 24 rfl rfl
theorem dksJ9_getChar_2 : cJ9_getChar.data.toList.drop 48 = dktJ9_getChar_2 := dk_seg dksJ9_getChar_1 24 rfl rfl
theorem dJ9_getChar_0 : decode cJ9_getChar 0 = .ok (.getstatic 44, 3) := dk_178 0 44 (dk_at dksJ9_getChar_0 0 rfl rfl)
theorem dJ9_getChar_3 : decode cJ9_getChar 3 = .ok (.ifCond .ne 25, 3) := dk_154 0 25 (dk_at dksJ9_getChar_0 3 rfl rfl)
theorem dJ9_getChar_6 : decode cJ9_getChar 6 = .ok (.iload_n 1, 1) := dk_27 (dk_at dksJ9_getChar_0 6 rfl rfl)
theorem dJ9_getChar_7 : decode cJ9_getChar 7 = .ok (.ifCond .lt 11, 3) := dk_155 0 11 (dk_at dksJ9_getChar_0 7 rfl rfl)
theorem dJ9_getChar_10 : decode cJ9_getChar 10 = .ok (.iload_n 1, 1) := dk_27 (dk_at dksJ9_getChar_0 10 rfl rfl)
theorem dJ9_getChar_11 : decode cJ9_getChar 11 = .ok (.aload_n 0, 1) := dk_42 (dk_at dksJ9_getChar_0 11 rfl rfl)
theorem dJ9_getChar_12 : decode cJ9_getChar 12 = .ok (.invokestatic 48, 3) := dk_184 0 48 (dk_at dksJ9_getChar_0 12 rfl rfl)
theorem dJ9_getChar_15 : decode cJ9_getChar 15 = .ok (.if_icmp .lt 13, 3) := dk_161 0 13 (dk_at dksJ9_getChar_0 15 rfl rfl)
theorem dJ9_getChar_18 : decode cJ9_getChar 18 = .ok (.new 52, 3) := dk_187 0 52 (dk_at dksJ9_getChar_0 18 rfl rfl)
theorem dJ9_getChar_21 : decode cJ9_getChar 21 = .ok (.dup, 1) := dk_89 (dk_at dksJ9_getChar_0 21 rfl rfl)
theorem dJ9_getChar_22 : decode cJ9_getChar 22 = .ok (.ldc 54, 2) := dk_18 54 (dk_at dksJ9_getChar_0 22 rfl rfl)
theorem dJ9_getChar_24 : decode cJ9_getChar 24 = .ok (.invokespecial 56, 3) := dk_183 0 56 (dk_at dksJ9_getChar_1 0 rfl rfl)
theorem dJ9_getChar_27 : decode cJ9_getChar 27 = .ok (.athrow, 1) := dk_191 (dk_at dksJ9_getChar_1 3 rfl rfl)
theorem dJ9_getChar_28 : decode cJ9_getChar 28 = .ok (.iload_n 1, 1) := dk_27 (dk_at dksJ9_getChar_1 4 rfl rfl)
theorem dJ9_getChar_29 : decode cJ9_getChar 29 = .ok (.iconst 1, 1) := dk_4 (dk_at dksJ9_getChar_1 5 rfl rfl)
theorem dJ9_getChar_30 : decode cJ9_getChar 30 = .ok (.ishl, 1) := dk_120 (dk_at dksJ9_getChar_1 6 rfl rfl)
theorem dJ9_getChar_31 : decode cJ9_getChar 31 = .ok (.istore_n 1, 1) := dk_60 (dk_at dksJ9_getChar_1 7 rfl rfl)
theorem dJ9_getChar_32 : decode cJ9_getChar 32 = .ok (.aload_n 0, 1) := dk_42 (dk_at dksJ9_getChar_1 8 rfl rfl)
theorem dJ9_getChar_33 : decode cJ9_getChar 33 = .ok (.iload_n 1, 1) := dk_27 (dk_at dksJ9_getChar_1 9 rfl rfl)
theorem dJ9_getChar_34 : decode cJ9_getChar 34 = .ok (.iinc 1 1, 3) := dk_132 1 1 (dk_at dksJ9_getChar_1 10 rfl rfl)
theorem dJ9_getChar_37 : decode cJ9_getChar 37 = .ok (.baload, 1) := dk_51 (dk_at dksJ9_getChar_1 13 rfl rfl)
theorem dJ9_getChar_38 : decode cJ9_getChar 38 = .ok (.sipush 255, 3) := dk_17 0 255 (dk_at dksJ9_getChar_1 14 rfl rfl)
theorem dJ9_getChar_41 : decode cJ9_getChar 41 = .ok (.iand, 1) := dk_126 (dk_at dksJ9_getChar_1 17 rfl rfl)
theorem dJ9_getChar_42 : decode cJ9_getChar 42 = .ok (.getstatic 59, 3) := dk_178 0 59 (dk_at dksJ9_getChar_1 18 rfl rfl)
theorem dJ9_getChar_45 : decode cJ9_getChar 45 = .ok (.ishl, 1) := dk_120 (dk_at dksJ9_getChar_1 21 rfl rfl)
theorem dJ9_getChar_46 : decode cJ9_getChar 46 = .ok (.aload_n 0, 1) := dk_42 (dk_at dksJ9_getChar_1 22 rfl rfl)
theorem dJ9_getChar_47 : decode cJ9_getChar 47 = .ok (.iload_n 1, 1) := dk_27 (dk_at dksJ9_getChar_1 23 rfl rfl)
theorem dJ9_getChar_48 : decode cJ9_getChar 48 = .ok (.baload, 1) := dk_51 (dk_at dksJ9_getChar_2 0 rfl rfl)
theorem dJ9_getChar_49 : decode cJ9_getChar 49 = .ok (.sipush 255, 3) := dk_17 0 255 (dk_at dksJ9_getChar_2 1 rfl rfl)
theorem dJ9_getChar_52 : decode cJ9_getChar 52 = .ok (.iand, 1) := dk_126 (dk_at dksJ9_getChar_2 4 rfl rfl)
theorem dJ9_getChar_53 : decode cJ9_getChar 53 = .ok (.getstatic 63, 3) := dk_178 0 63 (dk_at dksJ9_getChar_2 5 rfl rfl)
theorem dJ9_getChar_56 : decode cJ9_getChar 56 = .ok (.ishl, 1) := dk_120 (dk_at dksJ9_getChar_2 8 rfl rfl)
theorem dJ9_getChar_57 : decode cJ9_getChar 57 = .ok (.ior, 1) := dk_128 (dk_at dksJ9_getChar_2 9 rfl rfl)
theorem dJ9_getChar_58 : decode cJ9_getChar 58 = .ok (.i2c, 1) := dk_146 (dk_at dksJ9_getChar_2 10 rfl rfl)
theorem dJ9_getChar_59 : decode cJ9_getChar 59 = .ok (.ireturn, 1) := dk_172 (dk_at dksJ9_getChar_2 11 rfl rfl)
def dkwJ9_indexOfSupplementary_3 : List UInt8 := [167, 255, 218, 2, 172]
abbrev dktJ9_indexOfSupplementary_3 : List UInt8 := dkwJ9_indexOfSupplementary_3 ++ []
def dkwJ9_indexOfSupplementary_2 : List UInt8 := [160, 0, 19, 42, 21, 6, 4, 96, 184, 0, 71, 21, 5, 160, 0, 6, 21, 6, 172, 132, 6, 1]
abbrev dktJ9_indexOfSupplementary_2 : List UInt8 := dkwJ9_indexOfSupplementary_2 ++ dktJ9_indexOfSupplementary_3
def dkwJ9_indexOfSupplementary_1 : List UInt8 := [184, 0, 96, 28, 54, 6, 21, 6, 29, 4, 100, 162, 0, 36, 42, 21, 6, 184, 0, 71, 21, 4]
abbrev dktJ9_indexOfSupplementary_1 : List UInt8 := dkwJ9_indexOfSupplementary_1 ++ dktJ9_indexOfSupplementary_2
def dkwJ9_indexOfSupplementary_0 : List UInt8 := [27, 184, 0, 164, 153, 0, 65, 27, 184, 0, 157, 54, 4, 27, 184, 0, 161, 54, 5, 28, 29, 42]
abbrev dktJ9_indexOfSupplementary_0 : List UInt8 := dkwJ9_indexOfSupplementary_0 ++ dktJ9_indexOfSupplementary_1
theorem dksJ9_indexOfSupplementary_0 : cJ9_indexOfSupplementary.data.toList.drop 0 = dktJ9_indexOfSupplementary_0 := by decide +kernel
theorem dksJ9_indexOfSupplementary_1 : cJ9_indexOfSupplementary.data.toList.drop 22 = dktJ9_indexOfSupplementary_1 := dk_seg dksJ9_indexOfSupplementary_0 22 rfl rfl
theorem dksJ9_indexOfSupplementary_2 : cJ9_indexOfSupplementary.data.toList.drop 44 = dktJ9_indexOfSupplementary_2 := dk_seg dksJ9_indexOfSupplementary_1 22 rfl rfl
theorem dksJ9_indexOfSupplementary_3 : cJ9_indexOfSupplementary.data.toList.drop 66 = dktJ9_indexOfSupplementary_3 := dk_seg dksJ9_indexOfSupplementary_2 22 rfl rfl
theorem dJ9_indexOfSupplementary_0 : decode cJ9_indexOfSupplementary 0 = .ok (.iload_n 1, 1) := dk_27 (dk_at dksJ9_indexOfSupplementary_0 0 rfl rfl)
theorem dJ9_indexOfSupplementary_1 : decode cJ9_indexOfSupplementary 1 = .ok (.invokestatic 164, 3) := dk_184 0 164 (dk_at dksJ9_indexOfSupplementary_0 1 rfl rfl)
theorem dJ9_indexOfSupplementary_4 : decode cJ9_indexOfSupplementary 4 = .ok (.ifCond .eq 65, 3) := dk_153 0 65 (dk_at dksJ9_indexOfSupplementary_0 4 rfl rfl)
theorem dJ9_indexOfSupplementary_7 : decode cJ9_indexOfSupplementary 7 = .ok (.iload_n 1, 1) := dk_27 (dk_at dksJ9_indexOfSupplementary_0 7 rfl rfl)
theorem dJ9_indexOfSupplementary_8 : decode cJ9_indexOfSupplementary 8 = .ok (.invokestatic 157, 3) := dk_184 0 157 (dk_at dksJ9_indexOfSupplementary_0 8 rfl rfl)
theorem dJ9_indexOfSupplementary_11 : decode cJ9_indexOfSupplementary 11 = .ok (.istore 4, 2) := dk_54 4 (dk_at dksJ9_indexOfSupplementary_0 11 rfl rfl)
theorem dJ9_indexOfSupplementary_13 : decode cJ9_indexOfSupplementary 13 = .ok (.iload_n 1, 1) := dk_27 (dk_at dksJ9_indexOfSupplementary_0 13 rfl rfl)
theorem dJ9_indexOfSupplementary_14 : decode cJ9_indexOfSupplementary 14 = .ok (.invokestatic 161, 3) := dk_184 0 161 (dk_at dksJ9_indexOfSupplementary_0 14 rfl rfl)
theorem dJ9_indexOfSupplementary_17 : decode cJ9_indexOfSupplementary 17 = .ok (.istore 5, 2) := dk_54 5 (dk_at dksJ9_indexOfSupplementary_0 17 rfl rfl)
theorem dJ9_indexOfSupplementary_19 : decode cJ9_indexOfSupplementary 19 = .ok (.iload_n 2, 1) := dk_28 (dk_at dksJ9_indexOfSupplementary_0 19 rfl rfl)
theorem dJ9_indexOfSupplementary_20 : decode cJ9_indexOfSupplementary 20 = .ok (.iload_n 3, 1) := dk_29 (dk_at dksJ9_indexOfSupplementary_0 20 rfl rfl)
theorem dJ9_indexOfSupplementary_21 : decode cJ9_indexOfSupplementary 21 = .ok (.aload_n 0, 1) := dk_42 (dk_at dksJ9_indexOfSupplementary_0 21 rfl rfl)
theorem dJ9_indexOfSupplementary_22 : decode cJ9_indexOfSupplementary 22 = .ok (.invokestatic 96, 3) := dk_184 0 96 (dk_at dksJ9_indexOfSupplementary_1 0 rfl rfl)
theorem dJ9_indexOfSupplementary_25 : decode cJ9_indexOfSupplementary 25 = .ok (.iload_n 2, 1) := dk_28 (dk_at dksJ9_indexOfSupplementary_1 3 rfl rfl)
theorem dJ9_indexOfSupplementary_26 : decode cJ9_indexOfSupplementary 26 = .ok (.istore 6, 2) := dk_54 6 (dk_at dksJ9_indexOfSupplementary_1 4 rfl rfl)
theorem dJ9_indexOfSupplementary_28 : decode cJ9_indexOfSupplementary 28 = .ok (.iload 6, 2) := dk_21 6 (dk_at dksJ9_indexOfSupplementary_1 6 rfl rfl)
theorem dJ9_indexOfSupplementary_30 : decode cJ9_indexOfSupplementary 30 = .ok (.iload_n 3, 1) := dk_29 (dk_at dksJ9_indexOfSupplementary_1 8 rfl rfl)
theorem dJ9_indexOfSupplementary_31 : decode cJ9_indexOfSupplementary 31 = .ok (.iconst 1, 1) := dk_4 (dk_at dksJ9_indexOfSupplementary_1 9 rfl rfl)
theorem dJ9_indexOfSupplementary_32 : decode cJ9_indexOfSupplementary 32 = .ok (.isub, 1) := dk_100 (dk_at dksJ9_indexOfSupplementary_1 10 rfl rfl)
theorem dJ9_indexOfSupplementary_33 : decode cJ9_indexOfSupplementary 33 = .ok (.if_icmp .ge 36, 3) := dk_162 0 36 (dk_at dksJ9_indexOfSupplementary_1 11 rfl rfl)
theorem dJ9_indexOfSupplementary_36 : decode cJ9_indexOfSupplementary 36 = .ok (.aload_n 0, 1) := dk_42 (dk_at dksJ9_indexOfSupplementary_1 14 rfl rfl)
theorem dJ9_indexOfSupplementary_37 : decode cJ9_indexOfSupplementary 37 = .ok (.iload 6, 2) := dk_21 6 (dk_at dksJ9_indexOfSupplementary_1 15 rfl rfl)
theorem dJ9_indexOfSupplementary_39 : decode cJ9_indexOfSupplementary 39 = .ok (.invokestatic 71, 3) := dk_184 0 71 (dk_at dksJ9_indexOfSupplementary_1 17 rfl rfl)
theorem dJ9_indexOfSupplementary_42 : decode cJ9_indexOfSupplementary 42 = .ok (.iload 4, 2) := dk_21 4 (dk_at dksJ9_indexOfSupplementary_1 20 rfl rfl)
theorem dJ9_indexOfSupplementary_44 : decode cJ9_indexOfSupplementary 44 = .ok (.if_icmp .ne 19, 3) := dk_160 0 19 (dk_at dksJ9_indexOfSupplementary_2 0 rfl rfl)
theorem dJ9_indexOfSupplementary_47 : decode cJ9_indexOfSupplementary 47 = .ok (.aload_n 0, 1) := dk_42 (dk_at dksJ9_indexOfSupplementary_2 3 rfl rfl)
theorem dJ9_indexOfSupplementary_48 : decode cJ9_indexOfSupplementary 48 = .ok (.iload 6, 2) := dk_21 6 (dk_at dksJ9_indexOfSupplementary_2 4 rfl rfl)
theorem dJ9_indexOfSupplementary_50 : decode cJ9_indexOfSupplementary 50 = .ok (.iconst 1, 1) := dk_4 (dk_at dksJ9_indexOfSupplementary_2 6 rfl rfl)
theorem dJ9_indexOfSupplementary_51 : decode cJ9_indexOfSupplementary 51 = .ok (.iadd, 1) := dk_96 (dk_at dksJ9_indexOfSupplementary_2 7 rfl rfl)
theorem dJ9_indexOfSupplementary_52 : decode cJ9_indexOfSupplementary 52 = .ok (.invokestatic 71, 3) := dk_184 0 71 (dk_at dksJ9_indexOfSupplementary_2 8 rfl rfl)
theorem dJ9_indexOfSupplementary_55 : decode cJ9_indexOfSupplementary 55 = .ok (.iload 5, 2) := dk_21 5 (dk_at dksJ9_indexOfSupplementary_2 11 rfl rfl)
theorem dJ9_indexOfSupplementary_57 : decode cJ9_indexOfSupplementary 57 = .ok (.if_icmp .ne 6, 3) := dk_160 0 6 (dk_at dksJ9_indexOfSupplementary_2 13 rfl rfl)
theorem dJ9_indexOfSupplementary_60 : decode cJ9_indexOfSupplementary 60 = .ok (.iload 6, 2) := dk_21 6 (dk_at dksJ9_indexOfSupplementary_2 16 rfl rfl)
theorem dJ9_indexOfSupplementary_62 : decode cJ9_indexOfSupplementary 62 = .ok (.ireturn, 1) := dk_172 (dk_at dksJ9_indexOfSupplementary_2 18 rfl rfl)
theorem dJ9_indexOfSupplementary_63 : decode cJ9_indexOfSupplementary 63 = .ok (.iinc 6 1, 3) := dk_132 6 1 (dk_at dksJ9_indexOfSupplementary_2 19 rfl rfl)
theorem dJ9_indexOfSupplementary_66 : decode cJ9_indexOfSupplementary 66 = .ok (.goto (-38), 3) := dk_167 255 218 (dk_at dksJ9_indexOfSupplementary_3 0 rfl rfl)
theorem dJ9_indexOfSupplementary_69 : decode cJ9_indexOfSupplementary 69 = .ok (.iconst (-1), 1) := dk_2 (dk_at dksJ9_indexOfSupplementary_3 3 rfl rfl)
theorem dJ9_indexOfSupplementary_70 : decode cJ9_indexOfSupplementary 70 = .ok (.ireturn, 1) := dk_172 (dk_at dksJ9_indexOfSupplementary_3 4 rfl rfl)
def dkwJ9_charAt_0 : List UInt8 := [27, 42, 184, 0, 67, 42, 27, 184, 0, 71, 172]
abbrev dktJ9_charAt_0 : List UInt8 := dkwJ9_charAt_0 ++ []
theorem dksJ9_charAt_0 : cJ9_charAt.data.toList.drop 0 = dktJ9_charAt_0 := by decide +kernel
theorem dJ9_charAt_0 : decode cJ9_charAt 0 = .ok (.iload_n 1, 1) := dk_27 (dk_at dksJ9_charAt_0 0 rfl rfl)
theorem dJ9_charAt_1 : decode cJ9_charAt 1 = .ok (.aload_n 0, 1) := dk_42 (dk_at dksJ9_charAt_0 1 rfl rfl)
theorem dJ9_charAt_2 : decode cJ9_charAt 2 = .ok (.invokestatic 67, 3) := dk_184 0 67 (dk_at dksJ9_charAt_0 2 rfl rfl)
theorem dJ9_charAt_5 : decode cJ9_charAt 5 = .ok (.aload_n 0, 1) := dk_42 (dk_at dksJ9_charAt_0 5 rfl rfl)
theorem dJ9_charAt_6 : decode cJ9_charAt 6 = .ok (.iload_n 1, 1) := dk_27 (dk_at dksJ9_charAt_0 6 rfl rfl)
theorem dJ9_charAt_7 : decode cJ9_charAt 7 = .ok (.invokestatic 71, 3) := dk_184 0 71 (dk_at dksJ9_charAt_0 7 rfl rfl)
theorem dJ9_charAt_10 : decode cJ9_charAt 10 = .ok (.ireturn, 1) := dk_172 (dk_at dksJ9_charAt_0 10 rfl rfl)
def dkwJ9_checkIndex_0 : List UInt8 := [26, 43, 184, 0, 48, 184, 1, 158, 177]
abbrev dktJ9_checkIndex_0 : List UInt8 := dkwJ9_checkIndex_0 ++ []
theorem dksJ9_checkIndex_0 : cJ9_checkIndex.data.toList.drop 0 = dktJ9_checkIndex_0 := by decide +kernel
theorem dJ9_checkIndex_0 : decode cJ9_checkIndex 0 = .ok (.iload_n 0, 1) := dk_26 (dk_at dksJ9_checkIndex_0 0 rfl rfl)
theorem dJ9_checkIndex_1 : decode cJ9_checkIndex 1 = .ok (.aload_n 1, 1) := dk_43 (dk_at dksJ9_checkIndex_0 1 rfl rfl)
theorem dJ9_checkIndex_2 : decode cJ9_checkIndex 2 = .ok (.invokestatic 48, 3) := dk_184 0 48 (dk_at dksJ9_checkIndex_0 2 rfl rfl)
theorem dJ9_checkIndex_5 : decode cJ9_checkIndex 5 = .ok (.invokestatic 414, 3) := dk_184 1 158 (dk_at dksJ9_checkIndex_0 5 rfl rfl)
theorem dJ9_checkIndex_8 : decode cJ9_checkIndex 8 = .ok (.return_, 1) := dk_177 (dk_at dksJ9_checkIndex_0 8 rfl rfl)
def dkwL_law_43 : List UInt8 := [46, 182, 0, 148, 159, 0, 5, 3, 172, 132, 3, 6, 167, 251, 163, 4, 172]
abbrev dktL_law_43 : List UInt8 := dkwL_law_43 ++ []
def dkwL_law_42 : List UInt8 := [96, 46, 182, 0, 144, 159, 0, 28, 3, 172, 43, 42, 29, 4, 96, 46, 182, 0, 145, 44, 42, 29, 4, 96]
abbrev dktL_law_42 : List UInt8 := dkwL_law_42 ++ dktL_law_43
def dkwL_law_41 : List UInt8 := [172, 43, 42, 29, 4, 96, 46, 42, 29, 5, 96, 46, 182, 0, 141, 44, 42, 29, 4, 96, 46, 42, 29, 5]
abbrev dktL_law_41 : List UInt8 := dkwL_law_41 ++ dktL_law_42
def dkwL_law_40 : List UInt8 := [29, 6, 96, 46, 182, 0, 136, 159, 0, 74, 3, 172, 43, 182, 0, 137, 44, 182, 0, 140, 159, 0, 61, 3]
abbrev dktL_law_40 : List UInt8 := dkwL_law_40 ++ dktL_law_41
def dkwL_law_39 : List UInt8 := [29, 5, 96, 46, 42, 29, 6, 96, 46, 182, 0, 133, 44, 42, 29, 4, 96, 46, 42, 29, 5, 96, 46, 42]
abbrev dktL_law_39 : List UInt8 := dkwL_law_39 ++ dktL_law_40
def dkwL_law_38 : List UInt8 := [29, 4, 96, 46, 42, 29, 5, 96, 46, 182, 0, 132, 159, 0, 117, 3, 172, 43, 42, 29, 4, 96, 46, 42]
abbrev dktL_law_38 : List UInt8 := dkwL_law_38 ++ dktL_law_39
def dkwL_law_37 : List UInt8 := [182, 0, 128, 159, 0, 150, 3, 172, 43, 42, 29, 4, 96, 46, 42, 29, 5, 96, 46, 182, 0, 129, 44, 42]
abbrev dktL_law_37 : List UInt8 := dkwL_law_37 ++ dktL_law_38
def dkwL_law_36 : List UInt8 := [182, 0, 124, 159, 0, 173, 3, 172, 43, 42, 29, 4, 96, 46, 182, 0, 125, 44, 42, 29, 4, 96, 46]
abbrev dktL_law_36 : List UInt8 := dkwL_law_36 ++ dktL_law_37
def dkwL_law_35 : List UInt8 := [182, 0, 120, 159, 0, 196, 3, 172, 43, 42, 29, 4, 96, 46, 182, 0, 121, 44, 42, 29, 4, 96, 46]
abbrev dktL_law_35 : List UInt8 := dkwL_law_35 ++ dktL_law_36
def dkwL_law_34 : List UInt8 := [44, 42, 29, 4, 96, 46, 42, 29, 5, 96, 46, 182, 0, 116, 159, 0, 209, 3, 172, 43, 182, 0, 117, 44]
abbrev dktL_law_34 : List UInt8 := dkwL_law_34 ++ dktL_law_35
def dkwL_law_33 : List UInt8 := [96, 46, 182, 0, 112, 159, 0, 242, 3, 172, 43, 42, 29, 4, 96, 46, 42, 29, 5, 96, 46, 182, 0, 113]
abbrev dktL_law_33 : List UInt8 := dkwL_law_33 ++ dktL_law_34
def dkwL_law_32 : List UInt8 := [4, 96, 46, 182, 0, 108, 159, 1, 9, 3, 172, 43, 42, 29, 4, 96, 46, 182, 0, 109, 44, 42, 29, 4]
abbrev dktL_law_32 : List UInt8 := dkwL_law_32 ++ dktL_law_33
def dkwL_law_31 : List UInt8 := [182, 0, 101, 44, 182, 0, 104, 159, 1, 32, 3, 172, 43, 42, 29, 4, 96, 46, 182, 0, 105, 44, 42, 29]
abbrev dktL_law_31 : List UInt8 := dkwL_law_31 ++ dktL_law_32
def dkwL_law_30 : List UInt8 := [182, 0, 97, 44, 42, 29, 4, 96, 46, 42, 29, 5, 96, 46, 182, 0, 100, 159, 1, 45, 3, 172, 43]
abbrev dktL_law_30 : List UInt8 := dkwL_law_30 ++ dktL_law_31
def dkwL_law_29 : List UInt8 := [4, 96, 46, 182, 0, 96, 159, 1, 78, 3, 172, 43, 42, 29, 4, 96, 46, 42, 29, 5, 96, 46]
abbrev dktL_law_29 : List UInt8 := dkwL_law_29 ++ dktL_law_30
def dkwL_law_28 : List UInt8 := [29, 6, 96, 46, 182, 0, 92, 159, 1, 101, 3, 172, 43, 42, 29, 4, 96, 46, 182, 0, 93, 44, 42, 29]
abbrev dktL_law_28 : List UInt8 := dkwL_law_28 ++ dktL_law_29
def dkwL_law_27 : List UInt8 := [29, 5, 96, 46, 42, 29, 6, 96, 46, 182, 0, 89, 44, 42, 29, 4, 96, 46, 42, 29, 5, 96, 46, 42]
abbrev dktL_law_27 : List UInt8 := dkwL_law_27 ++ dktL_law_28
def dkwL_law_26 : List UInt8 := [29, 6, 96, 46, 42, 29, 7, 96, 46, 182, 0, 88, 159, 1, 144, 3, 172, 43, 42, 29, 4, 96, 46, 42]
abbrev dktL_law_26 : List UInt8 := dkwL_law_26 ++ dktL_law_27
def dkwL_law_25 : List UInt8 := [29, 6, 96, 46, 42, 29, 7, 96, 46, 182, 0, 84, 44, 42, 29, 4, 96, 46, 42, 29, 5, 96, 46, 42]
abbrev dktL_law_25 : List UInt8 := dkwL_law_25 ++ dktL_law_26
def dkwL_law_24 : List UInt8 := [29, 6, 96, 46, 182, 0, 83, 159, 1, 197, 3, 172, 43, 42, 29, 4, 96, 46, 42, 29, 5, 96, 46, 42]
abbrev dktL_law_24 : List UInt8 := dkwL_law_24 ++ dktL_law_25
def dkwL_law_23 : List UInt8 := [29, 5, 96, 46, 42, 29, 6, 96, 46, 182, 0, 80, 44, 42, 29, 4, 96, 46, 42, 29, 5, 96, 46, 42]
abbrev dktL_law_23 : List UInt8 := dkwL_law_23 ++ dktL_law_24
def dkwL_law_22 : List UInt8 := [182, 0, 76, 44, 42, 29, 4, 96, 46, 182, 0, 79, 159, 1, 240, 3, 172, 43, 42, 29, 4, 96, 46, 42]
abbrev dktL_law_22 : List UInt8 := dkwL_law_22 ++ dktL_law_23
def dkwL_law_21 : List UInt8 := [182, 0, 71, 44, 42, 29, 4, 96, 46, 182, 0, 75, 159, 2, 7, 3, 172, 43, 42, 29, 4, 96, 46]
abbrev dktL_law_21 : List UInt8 := dkwL_law_21 ++ dktL_law_22
def dkwL_law_20 : List UInt8 := [29, 4, 96, 46, 42, 29, 5, 96, 46, 182, 0, 70, 159, 2, 30, 3, 172, 43, 42, 29, 4, 96, 46]
abbrev dktL_law_20 : List UInt8 := dkwL_law_20 ++ dktL_law_21
def dkwL_law_19 : List UInt8 := [182, 0, 66, 159, 2, 63, 3, 172, 43, 42, 29, 4, 96, 46, 42, 29, 5, 96, 46, 182, 0, 67, 44, 42]
abbrev dktL_law_19 : List UInt8 := dkwL_law_19 ++ dktL_law_20
def dkwL_law_18 : List UInt8 := [42, 29, 4, 96, 46, 42, 29, 5, 96, 46, 182, 0, 63, 44, 42, 29, 4, 96, 46, 42, 29, 5, 96, 46]
abbrev dktL_law_18 : List UInt8 := dkwL_law_18 ++ dktL_law_19
def dkwL_law_17 : List UInt8 := [46, 182, 0, 59, 44, 42, 29, 4, 96, 46, 42, 29, 5, 96, 46, 182, 0, 62, 159, 2, 96, 3, 172, 43]
abbrev dktL_law_17 : List UInt8 := dkwL_law_17 ++ dktL_law_18
def dkwL_law_16 : List UInt8 := [46, 42, 29, 5, 96, 46, 182, 0, 58, 159, 2, 129, 3, 172, 43, 42, 29, 4, 96, 46, 42, 29, 5, 96]
abbrev dktL_law_16 : List UInt8 := dkwL_law_16 ++ dktL_law_17
def dkwL_law_15 : List UInt8 := [159, 2, 162, 3, 172, 43, 42, 29, 4, 96, 46, 42, 29, 5, 96, 46, 182, 0, 54, 44, 42, 29, 4, 96]
abbrev dktL_law_15 : List UInt8 := dkwL_law_15 ++ dktL_law_16
def dkwL_law_14 : List UInt8 := [42, 29, 5, 96, 46, 182, 0, 50, 44, 42, 29, 4, 96, 46, 42, 29, 5, 96, 46, 182, 0, 53]
abbrev dktL_law_14 : List UInt8 := dkwL_law_14 ++ dktL_law_15
def dkwL_law_13 : List UInt8 := [42, 29, 5, 96, 46, 42, 29, 6, 96, 46, 182, 0, 49, 159, 2, 195, 3, 172, 43, 42, 29, 4, 96, 46]
abbrev dktL_law_13 : List UInt8 := dkwL_law_13 ++ dktL_law_14
def dkwL_law_12 : List UInt8 := [42, 29, 4, 96, 46, 42, 29, 5, 96, 46, 42, 29, 6, 96, 46, 182, 0, 45, 44, 42, 29, 4, 96, 46]
abbrev dktL_law_12 : List UInt8 := dkwL_law_12 ++ dktL_law_13
def dkwL_law_11 : List UInt8 := [46, 182, 0, 41, 44, 42, 29, 4, 96, 46, 42, 29, 5, 96, 46, 182, 0, 44, 159, 2, 238, 3, 172, 43]
abbrev dktL_law_11 : List UInt8 := dkwL_law_11 ++ dktL_law_12
def dkwL_law_10 : List UInt8 := [46, 42, 29, 5, 96, 46, 182, 0, 40, 159, 3, 15, 3, 172, 43, 42, 29, 4, 96, 46, 42, 29, 5, 96]
abbrev dktL_law_10 : List UInt8 := dkwL_law_10 ++ dktL_law_11
def dkwL_law_9 : List UInt8 := [159, 3, 48, 3, 172, 43, 42, 29, 4, 96, 46, 42, 29, 5, 96, 46, 182, 0, 37, 44, 42, 29, 4, 96]
abbrev dktL_law_9 : List UInt8 := dkwL_law_9 ++ dktL_law_10
def dkwL_law_8 : List UInt8 := [42, 29, 5, 96, 46, 182, 0, 32, 44, 42, 29, 4, 96, 46, 42, 29, 5, 96, 46, 182, 0, 36]
abbrev dktL_law_8 : List UInt8 := dkwL_law_8 ++ dktL_law_9
def dkwL_law_7 : List UInt8 := [159, 3, 94, 3, 172, 43, 182, 0, 28, 44, 182, 0, 31, 159, 3, 81, 3, 172, 43, 42, 29, 4, 96, 46]
abbrev dktL_law_7 : List UInt8 := dkwL_law_7 ++ dktL_law_8
def dkwL_law_6 : List UInt8 := [44, 42, 29, 4, 96, 46, 182, 0, 22, 159, 3, 107, 3, 172, 43, 182, 0, 23, 44, 182, 0, 27]
abbrev dktL_law_6 : List UInt8 := dkwL_law_6 ++ dktL_law_7
def dkwL_law_5 : List UInt8 := [96, 46, 42, 29, 8, 96, 46, 182, 0, 17, 159, 3, 130, 3, 172, 43, 42, 29, 4, 96, 46, 182, 0, 18]
abbrev dktL_law_5 : List UInt8 := dkwL_law_5 ++ dktL_law_6
def dkwL_law_4 : List UInt8 := [96, 46, 182, 0, 13, 44, 42, 29, 4, 96, 46, 42, 29, 5, 96, 46, 42, 29, 6, 96, 46, 42, 29, 7]
abbrev dktL_law_4 : List UInt8 := dkwL_law_4 ++ dktL_law_5
def dkwL_law_3 : List UInt8 := [43, 42, 29, 4, 96, 46, 42, 29, 5, 96, 46, 42, 29, 6, 96, 46, 42, 29, 7, 96, 46, 42, 29, 8]
abbrev dktL_law_3 : List UInt8 := dkwL_law_3 ++ dktL_law_4
def dkwL_law_2 : List UInt8 := [170, 0, 0, 0, 0, 4, 75, 0, 0, 0, 0, 0, 0, 0, 31, 0, 0, 0, 143, 0, 0, 0, 206, 0, 0, 0, 229, 0, 0, 0, 242, 0, 0, 0, 255, 0, 0, 1, 32, 0, 0, 1, 65, 0, 0, 1, 98, 0, 0, 1, 141, 0, 0, 1, 174, 0, 0, 1, 207, 0, 0, 1, 240, 0, 0, 2, 17, 0, 0, 2, 50, 0, 0, 2, 73, 0, 0, 2, 96, 0, 0, 2, 139, 0, 0, 2, 192, 0, 0, 2, 235, 0, 0, 3, 2, 0, 0, 3, 35, 0, 0, 3, 48, 0, 0, 3, 71, 0, 0, 3, 94, 0, 0, 3, 127, 0, 0, 3, 140, 0, 0, 3, 163, 0, 0, 3, 186, 0, 0, 3, 219, 0, 0, 4, 6, 0, 0, 4, 19, 0, 0, 4, 52]
abbrev dktL_law_2 : List UInt8 := dkwL_law_2 ++ dktL_law_3
def dkwL_law_1 : List UInt8 := [163, 4, 90, 42, 29, 46, 16, 31, 126]
abbrev dktL_law_1 : List UInt8 := dkwL_law_1 ++ dktL_law_2
def dkwL_law_0 : List UInt8 := [187, 0, 7, 89, 183, 0, 9, 76, 187, 0, 10, 89, 183, 0, 12, 77, 3, 62, 29, 42, 190, 16, 6, 100]
abbrev dktL_law_0 : List UInt8 := dkwL_law_0 ++ dktL_law_1
theorem dksL_law_0 : cL_law.data.toList.drop 0 = dktL_law_0 := by decide +kernel
theorem dksL_law_1 : cL_law.data.toList.drop 24 = dktL_law_1 := dk_seg dksL_law_0 24 rfl rfl
theorem dksL_law_2 : cL_law.data.toList.drop 33 = dktL_law_2 := dk_seg dksL_law_1 9 rfl rfl
theorem dksL_law_3 : cL_law.data.toList.drop 176 = dktL_law_3 := dk_seg dksL_law_2 143 rfl rfl
theorem dksL_law_4 : cL_law.data.toList.drop 200 = dktL_law_4 := dk_seg dksL_law_3 24 rfl rfl
theorem dksL_law_5 : cL_law.data.toList.drop 224 = dktL_law_5 := dk_seg dksL_law_4 24 rfl rfl
theorem dksL_law_6 : cL_law.data.toList.drop 248 = dktL_law_6 := dk_seg dksL_law_5 24 rfl rfl
theorem dksL_law_7 : cL_law.data.toList.drop 270 = dktL_law_7 := dk_seg dksL_law_6 22 rfl rfl
theorem dksL_law_8 : cL_law.data.toList.drop 294 = dktL_law_8 := dk_seg dksL_law_7 24 rfl rfl
theorem dksL_law_9 : cL_law.data.toList.drop 316 = dktL_law_9 := dk_seg dksL_law_8 22 rfl rfl
theorem dksL_law_10 : cL_law.data.toList.drop 340 = dktL_law_10 := dk_seg dksL_law_9 24 rfl rfl
theorem dksL_law_11 : cL_law.data.toList.drop 364 = dktL_law_11 := dk_seg dksL_law_10 24 rfl rfl
theorem dksL_law_12 : cL_law.data.toList.drop 388 = dktL_law_12 := dk_seg dksL_law_11 24 rfl rfl
theorem dksL_law_13 : cL_law.data.toList.drop 412 = dktL_law_13 := dk_seg dksL_law_12 24 rfl rfl
theorem dksL_law_14 : cL_law.data.toList.drop 436 = dktL_law_14 := dk_seg dksL_law_13 24 rfl rfl
theorem dksL_law_15 : cL_law.data.toList.drop 458 = dktL_law_15 := dk_seg dksL_law_14 22 rfl rfl
theorem dksL_law_16 : cL_law.data.toList.drop 482 = dktL_law_16 := dk_seg dksL_law_15 24 rfl rfl
theorem dksL_law_17 : cL_law.data.toList.drop 506 = dktL_law_17 := dk_seg dksL_law_16 24 rfl rfl
theorem dksL_law_18 : cL_law.data.toList.drop 530 = dktL_law_18 := dk_seg dksL_law_17 24 rfl rfl
theorem dksL_law_19 : cL_law.data.toList.drop 554 = dktL_law_19 := dk_seg dksL_law_18 24 rfl rfl
theorem dksL_law_20 : cL_law.data.toList.drop 578 = dktL_law_20 := dk_seg dksL_law_19 24 rfl rfl
theorem dksL_law_21 : cL_law.data.toList.drop 601 = dktL_law_21 := dk_seg dksL_law_20 23 rfl rfl
theorem dksL_law_22 : cL_law.data.toList.drop 624 = dktL_law_22 := dk_seg dksL_law_21 23 rfl rfl
theorem dksL_law_23 : cL_law.data.toList.drop 648 = dktL_law_23 := dk_seg dksL_law_22 24 rfl rfl
theorem dksL_law_24 : cL_law.data.toList.drop 672 = dktL_law_24 := dk_seg dksL_law_23 24 rfl rfl
theorem dksL_law_25 : cL_law.data.toList.drop 696 = dktL_law_25 := dk_seg dksL_law_24 24 rfl rfl
theorem dksL_law_26 : cL_law.data.toList.drop 720 = dktL_law_26 := dk_seg dksL_law_25 24 rfl rfl
theorem dksL_law_27 : cL_law.data.toList.drop 744 = dktL_law_27 := dk_seg dksL_law_26 24 rfl rfl
theorem dksL_law_28 : cL_law.data.toList.drop 768 = dktL_law_28 := dk_seg dksL_law_27 24 rfl rfl
theorem dksL_law_29 : cL_law.data.toList.drop 792 = dktL_law_29 := dk_seg dksL_law_28 24 rfl rfl
theorem dksL_law_30 : cL_law.data.toList.drop 814 = dktL_law_30 := dk_seg dksL_law_29 22 rfl rfl
theorem dksL_law_31 : cL_law.data.toList.drop 837 = dktL_law_31 := dk_seg dksL_law_30 23 rfl rfl
theorem dksL_law_32 : cL_law.data.toList.drop 861 = dktL_law_32 := dk_seg dksL_law_31 24 rfl rfl
theorem dksL_law_33 : cL_law.data.toList.drop 885 = dktL_law_33 := dk_seg dksL_law_32 24 rfl rfl
theorem dksL_law_34 : cL_law.data.toList.drop 909 = dktL_law_34 := dk_seg dksL_law_33 24 rfl rfl
theorem dksL_law_35 : cL_law.data.toList.drop 933 = dktL_law_35 := dk_seg dksL_law_34 24 rfl rfl
theorem dksL_law_36 : cL_law.data.toList.drop 956 = dktL_law_36 := dk_seg dksL_law_35 23 rfl rfl
theorem dksL_law_37 : cL_law.data.toList.drop 979 = dktL_law_37 := dk_seg dksL_law_36 23 rfl rfl
theorem dksL_law_38 : cL_law.data.toList.drop 1003 = dktL_law_38 := dk_seg dksL_law_37 24 rfl rfl
theorem dksL_law_39 : cL_law.data.toList.drop 1027 = dktL_law_39 := dk_seg dksL_law_38 24 rfl rfl
theorem dksL_law_40 : cL_law.data.toList.drop 1051 = dktL_law_40 := dk_seg dksL_law_39 24 rfl rfl
theorem dksL_law_41 : cL_law.data.toList.drop 1075 = dktL_law_41 := dk_seg dksL_law_40 24 rfl rfl
theorem dksL_law_42 : cL_law.data.toList.drop 1099 = dktL_law_42 := dk_seg dksL_law_41 24 rfl rfl
theorem dksL_law_43 : cL_law.data.toList.drop 1123 = dktL_law_43 := dk_seg dksL_law_42 24 rfl rfl
theorem dL_law_0 : decode cL_law 0 = .ok (.new 7, 3) := dk_187 0 7 (dk_at dksL_law_0 0 rfl rfl)
theorem dL_law_3 : decode cL_law 3 = .ok (.dup, 1) := dk_89 (dk_at dksL_law_0 3 rfl rfl)
theorem dL_law_4 : decode cL_law 4 = .ok (.invokespecial 9, 3) := dk_183 0 9 (dk_at dksL_law_0 4 rfl rfl)
theorem dL_law_7 : decode cL_law 7 = .ok (.astore_n 1, 1) := dk_76 (dk_at dksL_law_0 7 rfl rfl)
theorem dL_law_8 : decode cL_law 8 = .ok (.new 10, 3) := dk_187 0 10 (dk_at dksL_law_0 8 rfl rfl)
theorem dL_law_11 : decode cL_law 11 = .ok (.dup, 1) := dk_89 (dk_at dksL_law_0 11 rfl rfl)
theorem dL_law_12 : decode cL_law 12 = .ok (.invokespecial 12, 3) := dk_183 0 12 (dk_at dksL_law_0 12 rfl rfl)
theorem dL_law_15 : decode cL_law 15 = .ok (.astore_n 2, 1) := dk_77 (dk_at dksL_law_0 15 rfl rfl)
theorem dL_law_16 : decode cL_law 16 = .ok (.iconst 0, 1) := dk_3 (dk_at dksL_law_0 16 rfl rfl)
theorem dL_law_17 : decode cL_law 17 = .ok (.istore_n 3, 1) := dk_62 (dk_at dksL_law_0 17 rfl rfl)
theorem dL_law_18 : decode cL_law 18 = .ok (.iload_n 3, 1) := dk_29 (dk_at dksL_law_0 18 rfl rfl)
theorem dL_law_19 : decode cL_law 19 = .ok (.aload_n 0, 1) := dk_42 (dk_at dksL_law_0 19 rfl rfl)
theorem dL_law_20 : decode cL_law 20 = .ok (.arraylength, 1) := dk_190 (dk_at dksL_law_0 20 rfl rfl)
theorem dL_law_21 : decode cL_law 21 = .ok (.bipush 6, 2) := dk_16 6 (dk_at dksL_law_0 21 rfl rfl)
theorem dL_law_23 : decode cL_law 23 = .ok (.isub, 1) := dk_100 (dk_at dksL_law_0 23 rfl rfl)
theorem dL_law_24 : decode cL_law 24 = .ok (.if_icmp .gt 1114, 3) := dk_163 4 90 (dk_at dksL_law_1 0 rfl rfl)
theorem dL_law_27 : decode cL_law 27 = .ok (.aload_n 0, 1) := dk_42 (dk_at dksL_law_1 3 rfl rfl)
theorem dL_law_28 : decode cL_law 28 = .ok (.iload_n 3, 1) := dk_29 (dk_at dksL_law_1 4 rfl rfl)
theorem dL_law_29 : decode cL_law 29 = .ok (.iaload, 1) := dk_46 (dk_at dksL_law_1 5 rfl rfl)
theorem dL_law_30 : decode cL_law 30 = .ok (.bipush 31, 2) := dk_16 31 (dk_at dksL_law_1 6 rfl rfl)
theorem dL_law_32 : decode cL_law 32 = .ok (.iand, 1) := dk_126 (dk_at dksL_law_1 8 rfl rfl)
theorem dL_law_33 : decode cL_law 33 = .ok (.tableswitch 1099 0 31 #[143, 206, 229, 242, 255, 288, 321, 354, 397, 430, 463, 496, 529, 562, 585, 608, 651, 704, 747, 770, 803, 816, 839, 862, 895, 908, 931, 954, 987, 1030, 1043, 1076], 143) := by decide +kernel
theorem dL_law_176 : decode cL_law 176 = .ok (.aload_n 1, 1) := dk_43 (dk_at dksL_law_3 0 rfl rfl)
theorem dL_law_177 : decode cL_law 177 = .ok (.aload_n 0, 1) := dk_42 (dk_at dksL_law_3 1 rfl rfl)
theorem dL_law_178 : decode cL_law 178 = .ok (.iload_n 3, 1) := dk_29 (dk_at dksL_law_3 2 rfl rfl)
theorem dL_law_179 : decode cL_law 179 = .ok (.iconst 1, 1) := dk_4 (dk_at dksL_law_3 3 rfl rfl)
theorem dL_law_180 : decode cL_law 180 = .ok (.iadd, 1) := dk_96 (dk_at dksL_law_3 4 rfl rfl)
theorem dL_law_181 : decode cL_law 181 = .ok (.iaload, 1) := dk_46 (dk_at dksL_law_3 5 rfl rfl)
theorem dL_law_182 : decode cL_law 182 = .ok (.aload_n 0, 1) := dk_42 (dk_at dksL_law_3 6 rfl rfl)
theorem dL_law_183 : decode cL_law 183 = .ok (.iload_n 3, 1) := dk_29 (dk_at dksL_law_3 7 rfl rfl)
theorem dL_law_184 : decode cL_law 184 = .ok (.iconst 2, 1) := dk_5 (dk_at dksL_law_3 8 rfl rfl)
theorem dL_law_185 : decode cL_law 185 = .ok (.iadd, 1) := dk_96 (dk_at dksL_law_3 9 rfl rfl)
theorem dL_law_186 : decode cL_law 186 = .ok (.iaload, 1) := dk_46 (dk_at dksL_law_3 10 rfl rfl)
theorem dL_law_187 : decode cL_law 187 = .ok (.aload_n 0, 1) := dk_42 (dk_at dksL_law_3 11 rfl rfl)
theorem dL_law_188 : decode cL_law 188 = .ok (.iload_n 3, 1) := dk_29 (dk_at dksL_law_3 12 rfl rfl)
theorem dL_law_189 : decode cL_law 189 = .ok (.iconst 3, 1) := dk_6 (dk_at dksL_law_3 13 rfl rfl)
theorem dL_law_190 : decode cL_law 190 = .ok (.iadd, 1) := dk_96 (dk_at dksL_law_3 14 rfl rfl)
theorem dL_law_191 : decode cL_law 191 = .ok (.iaload, 1) := dk_46 (dk_at dksL_law_3 15 rfl rfl)
theorem dL_law_192 : decode cL_law 192 = .ok (.aload_n 0, 1) := dk_42 (dk_at dksL_law_3 16 rfl rfl)
theorem dL_law_193 : decode cL_law 193 = .ok (.iload_n 3, 1) := dk_29 (dk_at dksL_law_3 17 rfl rfl)
theorem dL_law_194 : decode cL_law 194 = .ok (.iconst 4, 1) := dk_7 (dk_at dksL_law_3 18 rfl rfl)
theorem dL_law_195 : decode cL_law 195 = .ok (.iadd, 1) := dk_96 (dk_at dksL_law_3 19 rfl rfl)
theorem dL_law_196 : decode cL_law 196 = .ok (.iaload, 1) := dk_46 (dk_at dksL_law_3 20 rfl rfl)
theorem dL_law_197 : decode cL_law 197 = .ok (.aload_n 0, 1) := dk_42 (dk_at dksL_law_3 21 rfl rfl)
theorem dL_law_198 : decode cL_law 198 = .ok (.iload_n 3, 1) := dk_29 (dk_at dksL_law_3 22 rfl rfl)
theorem dL_law_199 : decode cL_law 199 = .ok (.iconst 5, 1) := dk_8 (dk_at dksL_law_3 23 rfl rfl)
theorem dL_law_200 : decode cL_law 200 = .ok (.iadd, 1) := dk_96 (dk_at dksL_law_4 0 rfl rfl)
theorem dL_law_201 : decode cL_law 201 = .ok (.iaload, 1) := dk_46 (dk_at dksL_law_4 1 rfl rfl)
theorem dL_law_202 : decode cL_law 202 = .ok (.invokevirtual 13, 3) := dk_182 0 13 (dk_at dksL_law_4 2 rfl rfl)
theorem dL_law_205 : decode cL_law 205 = .ok (.aload_n 2, 1) := dk_44 (dk_at dksL_law_4 5 rfl rfl)
theorem dL_law_206 : decode cL_law 206 = .ok (.aload_n 0, 1) := dk_42 (dk_at dksL_law_4 6 rfl rfl)
theorem dL_law_207 : decode cL_law 207 = .ok (.iload_n 3, 1) := dk_29 (dk_at dksL_law_4 7 rfl rfl)
theorem dL_law_208 : decode cL_law 208 = .ok (.iconst 1, 1) := dk_4 (dk_at dksL_law_4 8 rfl rfl)
theorem dL_law_209 : decode cL_law 209 = .ok (.iadd, 1) := dk_96 (dk_at dksL_law_4 9 rfl rfl)
theorem dL_law_210 : decode cL_law 210 = .ok (.iaload, 1) := dk_46 (dk_at dksL_law_4 10 rfl rfl)
theorem dL_law_211 : decode cL_law 211 = .ok (.aload_n 0, 1) := dk_42 (dk_at dksL_law_4 11 rfl rfl)
theorem dL_law_212 : decode cL_law 212 = .ok (.iload_n 3, 1) := dk_29 (dk_at dksL_law_4 12 rfl rfl)
theorem dL_law_213 : decode cL_law 213 = .ok (.iconst 2, 1) := dk_5 (dk_at dksL_law_4 13 rfl rfl)
theorem dL_law_214 : decode cL_law 214 = .ok (.iadd, 1) := dk_96 (dk_at dksL_law_4 14 rfl rfl)
theorem dL_law_215 : decode cL_law 215 = .ok (.iaload, 1) := dk_46 (dk_at dksL_law_4 15 rfl rfl)
theorem dL_law_216 : decode cL_law 216 = .ok (.aload_n 0, 1) := dk_42 (dk_at dksL_law_4 16 rfl rfl)
theorem dL_law_217 : decode cL_law 217 = .ok (.iload_n 3, 1) := dk_29 (dk_at dksL_law_4 17 rfl rfl)
theorem dL_law_218 : decode cL_law 218 = .ok (.iconst 3, 1) := dk_6 (dk_at dksL_law_4 18 rfl rfl)
theorem dL_law_219 : decode cL_law 219 = .ok (.iadd, 1) := dk_96 (dk_at dksL_law_4 19 rfl rfl)
theorem dL_law_220 : decode cL_law 220 = .ok (.iaload, 1) := dk_46 (dk_at dksL_law_4 20 rfl rfl)
theorem dL_law_221 : decode cL_law 221 = .ok (.aload_n 0, 1) := dk_42 (dk_at dksL_law_4 21 rfl rfl)
theorem dL_law_222 : decode cL_law 222 = .ok (.iload_n 3, 1) := dk_29 (dk_at dksL_law_4 22 rfl rfl)
theorem dL_law_223 : decode cL_law 223 = .ok (.iconst 4, 1) := dk_7 (dk_at dksL_law_4 23 rfl rfl)
theorem dL_law_224 : decode cL_law 224 = .ok (.iadd, 1) := dk_96 (dk_at dksL_law_5 0 rfl rfl)
theorem dL_law_225 : decode cL_law 225 = .ok (.iaload, 1) := dk_46 (dk_at dksL_law_5 1 rfl rfl)
theorem dL_law_226 : decode cL_law 226 = .ok (.aload_n 0, 1) := dk_42 (dk_at dksL_law_5 2 rfl rfl)
theorem dL_law_227 : decode cL_law 227 = .ok (.iload_n 3, 1) := dk_29 (dk_at dksL_law_5 3 rfl rfl)
theorem dL_law_228 : decode cL_law 228 = .ok (.iconst 5, 1) := dk_8 (dk_at dksL_law_5 4 rfl rfl)
theorem dL_law_229 : decode cL_law 229 = .ok (.iadd, 1) := dk_96 (dk_at dksL_law_5 5 rfl rfl)
theorem dL_law_230 : decode cL_law 230 = .ok (.iaload, 1) := dk_46 (dk_at dksL_law_5 6 rfl rfl)
theorem dL_law_231 : decode cL_law 231 = .ok (.invokevirtual 17, 3) := dk_182 0 17 (dk_at dksL_law_5 7 rfl rfl)
theorem dL_law_234 : decode cL_law 234 = .ok (.if_icmp .eq 898, 3) := dk_159 3 130 (dk_at dksL_law_5 10 rfl rfl)
theorem dL_law_237 : decode cL_law 237 = .ok (.iconst 0, 1) := dk_3 (dk_at dksL_law_5 13 rfl rfl)
theorem dL_law_238 : decode cL_law 238 = .ok (.ireturn, 1) := dk_172 (dk_at dksL_law_5 14 rfl rfl)
theorem dL_law_239 : decode cL_law 239 = .ok (.aload_n 1, 1) := dk_43 (dk_at dksL_law_5 15 rfl rfl)
theorem dL_law_240 : decode cL_law 240 = .ok (.aload_n 0, 1) := dk_42 (dk_at dksL_law_5 16 rfl rfl)
theorem dL_law_241 : decode cL_law 241 = .ok (.iload_n 3, 1) := dk_29 (dk_at dksL_law_5 17 rfl rfl)
theorem dL_law_242 : decode cL_law 242 = .ok (.iconst 1, 1) := dk_4 (dk_at dksL_law_5 18 rfl rfl)
theorem dL_law_243 : decode cL_law 243 = .ok (.iadd, 1) := dk_96 (dk_at dksL_law_5 19 rfl rfl)
theorem dL_law_244 : decode cL_law 244 = .ok (.iaload, 1) := dk_46 (dk_at dksL_law_5 20 rfl rfl)
theorem dL_law_245 : decode cL_law 245 = .ok (.invokevirtual 18, 3) := dk_182 0 18 (dk_at dksL_law_5 21 rfl rfl)
theorem dL_law_248 : decode cL_law 248 = .ok (.aload_n 2, 1) := dk_44 (dk_at dksL_law_6 0 rfl rfl)
theorem dL_law_249 : decode cL_law 249 = .ok (.aload_n 0, 1) := dk_42 (dk_at dksL_law_6 1 rfl rfl)
theorem dL_law_250 : decode cL_law 250 = .ok (.iload_n 3, 1) := dk_29 (dk_at dksL_law_6 2 rfl rfl)
theorem dL_law_251 : decode cL_law 251 = .ok (.iconst 1, 1) := dk_4 (dk_at dksL_law_6 3 rfl rfl)
theorem dL_law_252 : decode cL_law 252 = .ok (.iadd, 1) := dk_96 (dk_at dksL_law_6 4 rfl rfl)
theorem dL_law_253 : decode cL_law 253 = .ok (.iaload, 1) := dk_46 (dk_at dksL_law_6 5 rfl rfl)
theorem dL_law_254 : decode cL_law 254 = .ok (.invokevirtual 22, 3) := dk_182 0 22 (dk_at dksL_law_6 6 rfl rfl)
theorem dL_law_257 : decode cL_law 257 = .ok (.if_icmp .eq 875, 3) := dk_159 3 107 (dk_at dksL_law_6 9 rfl rfl)
theorem dL_law_260 : decode cL_law 260 = .ok (.iconst 0, 1) := dk_3 (dk_at dksL_law_6 12 rfl rfl)
theorem dL_law_261 : decode cL_law 261 = .ok (.ireturn, 1) := dk_172 (dk_at dksL_law_6 13 rfl rfl)
theorem dL_law_262 : decode cL_law 262 = .ok (.aload_n 1, 1) := dk_43 (dk_at dksL_law_6 14 rfl rfl)
theorem dL_law_263 : decode cL_law 263 = .ok (.invokevirtual 23, 3) := dk_182 0 23 (dk_at dksL_law_6 15 rfl rfl)
theorem dL_law_266 : decode cL_law 266 = .ok (.aload_n 2, 1) := dk_44 (dk_at dksL_law_6 18 rfl rfl)
theorem dL_law_267 : decode cL_law 267 = .ok (.invokevirtual 27, 3) := dk_182 0 27 (dk_at dksL_law_6 19 rfl rfl)
theorem dL_law_270 : decode cL_law 270 = .ok (.if_icmp .eq 862, 3) := dk_159 3 94 (dk_at dksL_law_7 0 rfl rfl)
theorem dL_law_273 : decode cL_law 273 = .ok (.iconst 0, 1) := dk_3 (dk_at dksL_law_7 3 rfl rfl)
theorem dL_law_274 : decode cL_law 274 = .ok (.ireturn, 1) := dk_172 (dk_at dksL_law_7 4 rfl rfl)
theorem dL_law_275 : decode cL_law 275 = .ok (.aload_n 1, 1) := dk_43 (dk_at dksL_law_7 5 rfl rfl)
theorem dL_law_276 : decode cL_law 276 = .ok (.invokevirtual 28, 3) := dk_182 0 28 (dk_at dksL_law_7 6 rfl rfl)
theorem dL_law_279 : decode cL_law 279 = .ok (.aload_n 2, 1) := dk_44 (dk_at dksL_law_7 9 rfl rfl)
theorem dL_law_280 : decode cL_law 280 = .ok (.invokevirtual 31, 3) := dk_182 0 31 (dk_at dksL_law_7 10 rfl rfl)
theorem dL_law_283 : decode cL_law 283 = .ok (.if_icmp .eq 849, 3) := dk_159 3 81 (dk_at dksL_law_7 13 rfl rfl)
theorem dL_law_286 : decode cL_law 286 = .ok (.iconst 0, 1) := dk_3 (dk_at dksL_law_7 16 rfl rfl)
theorem dL_law_287 : decode cL_law 287 = .ok (.ireturn, 1) := dk_172 (dk_at dksL_law_7 17 rfl rfl)
theorem dL_law_288 : decode cL_law 288 = .ok (.aload_n 1, 1) := dk_43 (dk_at dksL_law_7 18 rfl rfl)
theorem dL_law_289 : decode cL_law 289 = .ok (.aload_n 0, 1) := dk_42 (dk_at dksL_law_7 19 rfl rfl)
theorem dL_law_290 : decode cL_law 290 = .ok (.iload_n 3, 1) := dk_29 (dk_at dksL_law_7 20 rfl rfl)
theorem dL_law_291 : decode cL_law 291 = .ok (.iconst 1, 1) := dk_4 (dk_at dksL_law_7 21 rfl rfl)
theorem dL_law_292 : decode cL_law 292 = .ok (.iadd, 1) := dk_96 (dk_at dksL_law_7 22 rfl rfl)
theorem dL_law_293 : decode cL_law 293 = .ok (.iaload, 1) := dk_46 (dk_at dksL_law_7 23 rfl rfl)
theorem dL_law_294 : decode cL_law 294 = .ok (.aload_n 0, 1) := dk_42 (dk_at dksL_law_8 0 rfl rfl)
theorem dL_law_295 : decode cL_law 295 = .ok (.iload_n 3, 1) := dk_29 (dk_at dksL_law_8 1 rfl rfl)
theorem dL_law_296 : decode cL_law 296 = .ok (.iconst 2, 1) := dk_5 (dk_at dksL_law_8 2 rfl rfl)
theorem dL_law_297 : decode cL_law 297 = .ok (.iadd, 1) := dk_96 (dk_at dksL_law_8 3 rfl rfl)
theorem dL_law_298 : decode cL_law 298 = .ok (.iaload, 1) := dk_46 (dk_at dksL_law_8 4 rfl rfl)
theorem dL_law_299 : decode cL_law 299 = .ok (.invokevirtual 32, 3) := dk_182 0 32 (dk_at dksL_law_8 5 rfl rfl)
theorem dL_law_302 : decode cL_law 302 = .ok (.aload_n 2, 1) := dk_44 (dk_at dksL_law_8 8 rfl rfl)
theorem dL_law_303 : decode cL_law 303 = .ok (.aload_n 0, 1) := dk_42 (dk_at dksL_law_8 9 rfl rfl)
theorem dL_law_304 : decode cL_law 304 = .ok (.iload_n 3, 1) := dk_29 (dk_at dksL_law_8 10 rfl rfl)
theorem dL_law_305 : decode cL_law 305 = .ok (.iconst 1, 1) := dk_4 (dk_at dksL_law_8 11 rfl rfl)
theorem dL_law_306 : decode cL_law 306 = .ok (.iadd, 1) := dk_96 (dk_at dksL_law_8 12 rfl rfl)
theorem dL_law_307 : decode cL_law 307 = .ok (.iaload, 1) := dk_46 (dk_at dksL_law_8 13 rfl rfl)
theorem dL_law_308 : decode cL_law 308 = .ok (.aload_n 0, 1) := dk_42 (dk_at dksL_law_8 14 rfl rfl)
theorem dL_law_309 : decode cL_law 309 = .ok (.iload_n 3, 1) := dk_29 (dk_at dksL_law_8 15 rfl rfl)
theorem dL_law_310 : decode cL_law 310 = .ok (.iconst 2, 1) := dk_5 (dk_at dksL_law_8 16 rfl rfl)
theorem dL_law_311 : decode cL_law 311 = .ok (.iadd, 1) := dk_96 (dk_at dksL_law_8 17 rfl rfl)
theorem dL_law_312 : decode cL_law 312 = .ok (.iaload, 1) := dk_46 (dk_at dksL_law_8 18 rfl rfl)
theorem dL_law_313 : decode cL_law 313 = .ok (.invokevirtual 36, 3) := dk_182 0 36 (dk_at dksL_law_8 19 rfl rfl)
theorem dL_law_316 : decode cL_law 316 = .ok (.if_icmp .eq 816, 3) := dk_159 3 48 (dk_at dksL_law_9 0 rfl rfl)
theorem dL_law_319 : decode cL_law 319 = .ok (.iconst 0, 1) := dk_3 (dk_at dksL_law_9 3 rfl rfl)
theorem dL_law_320 : decode cL_law 320 = .ok (.ireturn, 1) := dk_172 (dk_at dksL_law_9 4 rfl rfl)
theorem dL_law_321 : decode cL_law 321 = .ok (.aload_n 1, 1) := dk_43 (dk_at dksL_law_9 5 rfl rfl)
theorem dL_law_322 : decode cL_law 322 = .ok (.aload_n 0, 1) := dk_42 (dk_at dksL_law_9 6 rfl rfl)
theorem dL_law_323 : decode cL_law 323 = .ok (.iload_n 3, 1) := dk_29 (dk_at dksL_law_9 7 rfl rfl)
theorem dL_law_324 : decode cL_law 324 = .ok (.iconst 1, 1) := dk_4 (dk_at dksL_law_9 8 rfl rfl)
theorem dL_law_325 : decode cL_law 325 = .ok (.iadd, 1) := dk_96 (dk_at dksL_law_9 9 rfl rfl)
theorem dL_law_326 : decode cL_law 326 = .ok (.iaload, 1) := dk_46 (dk_at dksL_law_9 10 rfl rfl)
theorem dL_law_327 : decode cL_law 327 = .ok (.aload_n 0, 1) := dk_42 (dk_at dksL_law_9 11 rfl rfl)
theorem dL_law_328 : decode cL_law 328 = .ok (.iload_n 3, 1) := dk_29 (dk_at dksL_law_9 12 rfl rfl)
theorem dL_law_329 : decode cL_law 329 = .ok (.iconst 2, 1) := dk_5 (dk_at dksL_law_9 13 rfl rfl)
theorem dL_law_330 : decode cL_law 330 = .ok (.iadd, 1) := dk_96 (dk_at dksL_law_9 14 rfl rfl)
theorem dL_law_331 : decode cL_law 331 = .ok (.iaload, 1) := dk_46 (dk_at dksL_law_9 15 rfl rfl)
theorem dL_law_332 : decode cL_law 332 = .ok (.invokevirtual 37, 3) := dk_182 0 37 (dk_at dksL_law_9 16 rfl rfl)
theorem dL_law_335 : decode cL_law 335 = .ok (.aload_n 2, 1) := dk_44 (dk_at dksL_law_9 19 rfl rfl)
theorem dL_law_336 : decode cL_law 336 = .ok (.aload_n 0, 1) := dk_42 (dk_at dksL_law_9 20 rfl rfl)
theorem dL_law_337 : decode cL_law 337 = .ok (.iload_n 3, 1) := dk_29 (dk_at dksL_law_9 21 rfl rfl)
theorem dL_law_338 : decode cL_law 338 = .ok (.iconst 1, 1) := dk_4 (dk_at dksL_law_9 22 rfl rfl)
theorem dL_law_339 : decode cL_law 339 = .ok (.iadd, 1) := dk_96 (dk_at dksL_law_9 23 rfl rfl)
theorem dL_law_340 : decode cL_law 340 = .ok (.iaload, 1) := dk_46 (dk_at dksL_law_10 0 rfl rfl)
theorem dL_law_341 : decode cL_law 341 = .ok (.aload_n 0, 1) := dk_42 (dk_at dksL_law_10 1 rfl rfl)
theorem dL_law_342 : decode cL_law 342 = .ok (.iload_n 3, 1) := dk_29 (dk_at dksL_law_10 2 rfl rfl)
theorem dL_law_343 : decode cL_law 343 = .ok (.iconst 2, 1) := dk_5 (dk_at dksL_law_10 3 rfl rfl)
theorem dL_law_344 : decode cL_law 344 = .ok (.iadd, 1) := dk_96 (dk_at dksL_law_10 4 rfl rfl)
theorem dL_law_345 : decode cL_law 345 = .ok (.iaload, 1) := dk_46 (dk_at dksL_law_10 5 rfl rfl)
theorem dL_law_346 : decode cL_law 346 = .ok (.invokevirtual 40, 3) := dk_182 0 40 (dk_at dksL_law_10 6 rfl rfl)
theorem dL_law_349 : decode cL_law 349 = .ok (.if_icmp .eq 783, 3) := dk_159 3 15 (dk_at dksL_law_10 9 rfl rfl)
theorem dL_law_352 : decode cL_law 352 = .ok (.iconst 0, 1) := dk_3 (dk_at dksL_law_10 12 rfl rfl)
theorem dL_law_353 : decode cL_law 353 = .ok (.ireturn, 1) := dk_172 (dk_at dksL_law_10 13 rfl rfl)
theorem dL_law_354 : decode cL_law 354 = .ok (.aload_n 1, 1) := dk_43 (dk_at dksL_law_10 14 rfl rfl)
theorem dL_law_355 : decode cL_law 355 = .ok (.aload_n 0, 1) := dk_42 (dk_at dksL_law_10 15 rfl rfl)
theorem dL_law_356 : decode cL_law 356 = .ok (.iload_n 3, 1) := dk_29 (dk_at dksL_law_10 16 rfl rfl)
theorem dL_law_357 : decode cL_law 357 = .ok (.iconst 1, 1) := dk_4 (dk_at dksL_law_10 17 rfl rfl)
theorem dL_law_358 : decode cL_law 358 = .ok (.iadd, 1) := dk_96 (dk_at dksL_law_10 18 rfl rfl)
theorem dL_law_359 : decode cL_law 359 = .ok (.iaload, 1) := dk_46 (dk_at dksL_law_10 19 rfl rfl)
theorem dL_law_360 : decode cL_law 360 = .ok (.aload_n 0, 1) := dk_42 (dk_at dksL_law_10 20 rfl rfl)
theorem dL_law_361 : decode cL_law 361 = .ok (.iload_n 3, 1) := dk_29 (dk_at dksL_law_10 21 rfl rfl)
theorem dL_law_362 : decode cL_law 362 = .ok (.iconst 2, 1) := dk_5 (dk_at dksL_law_10 22 rfl rfl)
theorem dL_law_363 : decode cL_law 363 = .ok (.iadd, 1) := dk_96 (dk_at dksL_law_10 23 rfl rfl)
theorem dL_law_364 : decode cL_law 364 = .ok (.iaload, 1) := dk_46 (dk_at dksL_law_11 0 rfl rfl)
theorem dL_law_365 : decode cL_law 365 = .ok (.invokevirtual 41, 3) := dk_182 0 41 (dk_at dksL_law_11 1 rfl rfl)
theorem dL_law_368 : decode cL_law 368 = .ok (.aload_n 2, 1) := dk_44 (dk_at dksL_law_11 4 rfl rfl)
theorem dL_law_369 : decode cL_law 369 = .ok (.aload_n 0, 1) := dk_42 (dk_at dksL_law_11 5 rfl rfl)
theorem dL_law_370 : decode cL_law 370 = .ok (.iload_n 3, 1) := dk_29 (dk_at dksL_law_11 6 rfl rfl)
theorem dL_law_371 : decode cL_law 371 = .ok (.iconst 1, 1) := dk_4 (dk_at dksL_law_11 7 rfl rfl)
theorem dL_law_372 : decode cL_law 372 = .ok (.iadd, 1) := dk_96 (dk_at dksL_law_11 8 rfl rfl)
theorem dL_law_373 : decode cL_law 373 = .ok (.iaload, 1) := dk_46 (dk_at dksL_law_11 9 rfl rfl)
theorem dL_law_374 : decode cL_law 374 = .ok (.aload_n 0, 1) := dk_42 (dk_at dksL_law_11 10 rfl rfl)
theorem dL_law_375 : decode cL_law 375 = .ok (.iload_n 3, 1) := dk_29 (dk_at dksL_law_11 11 rfl rfl)
theorem dL_law_376 : decode cL_law 376 = .ok (.iconst 2, 1) := dk_5 (dk_at dksL_law_11 12 rfl rfl)
theorem dL_law_377 : decode cL_law 377 = .ok (.iadd, 1) := dk_96 (dk_at dksL_law_11 13 rfl rfl)
theorem dL_law_378 : decode cL_law 378 = .ok (.iaload, 1) := dk_46 (dk_at dksL_law_11 14 rfl rfl)
theorem dL_law_379 : decode cL_law 379 = .ok (.invokevirtual 44, 3) := dk_182 0 44 (dk_at dksL_law_11 15 rfl rfl)
theorem dL_law_382 : decode cL_law 382 = .ok (.if_icmp .eq 750, 3) := dk_159 2 238 (dk_at dksL_law_11 18 rfl rfl)
theorem dL_law_385 : decode cL_law 385 = .ok (.iconst 0, 1) := dk_3 (dk_at dksL_law_11 21 rfl rfl)
theorem dL_law_386 : decode cL_law 386 = .ok (.ireturn, 1) := dk_172 (dk_at dksL_law_11 22 rfl rfl)
theorem dL_law_387 : decode cL_law 387 = .ok (.aload_n 1, 1) := dk_43 (dk_at dksL_law_11 23 rfl rfl)
theorem dL_law_388 : decode cL_law 388 = .ok (.aload_n 0, 1) := dk_42 (dk_at dksL_law_12 0 rfl rfl)
theorem dL_law_389 : decode cL_law 389 = .ok (.iload_n 3, 1) := dk_29 (dk_at dksL_law_12 1 rfl rfl)
theorem dL_law_390 : decode cL_law 390 = .ok (.iconst 1, 1) := dk_4 (dk_at dksL_law_12 2 rfl rfl)
theorem dL_law_391 : decode cL_law 391 = .ok (.iadd, 1) := dk_96 (dk_at dksL_law_12 3 rfl rfl)
theorem dL_law_392 : decode cL_law 392 = .ok (.iaload, 1) := dk_46 (dk_at dksL_law_12 4 rfl rfl)
theorem dL_law_393 : decode cL_law 393 = .ok (.aload_n 0, 1) := dk_42 (dk_at dksL_law_12 5 rfl rfl)
theorem dL_law_394 : decode cL_law 394 = .ok (.iload_n 3, 1) := dk_29 (dk_at dksL_law_12 6 rfl rfl)
theorem dL_law_395 : decode cL_law 395 = .ok (.iconst 2, 1) := dk_5 (dk_at dksL_law_12 7 rfl rfl)
theorem dL_law_396 : decode cL_law 396 = .ok (.iadd, 1) := dk_96 (dk_at dksL_law_12 8 rfl rfl)
theorem dL_law_397 : decode cL_law 397 = .ok (.iaload, 1) := dk_46 (dk_at dksL_law_12 9 rfl rfl)
theorem dL_law_398 : decode cL_law 398 = .ok (.aload_n 0, 1) := dk_42 (dk_at dksL_law_12 10 rfl rfl)
theorem dL_law_399 : decode cL_law 399 = .ok (.iload_n 3, 1) := dk_29 (dk_at dksL_law_12 11 rfl rfl)
theorem dL_law_400 : decode cL_law 400 = .ok (.iconst 3, 1) := dk_6 (dk_at dksL_law_12 12 rfl rfl)
theorem dL_law_401 : decode cL_law 401 = .ok (.iadd, 1) := dk_96 (dk_at dksL_law_12 13 rfl rfl)
theorem dL_law_402 : decode cL_law 402 = .ok (.iaload, 1) := dk_46 (dk_at dksL_law_12 14 rfl rfl)
theorem dL_law_403 : decode cL_law 403 = .ok (.invokevirtual 45, 3) := dk_182 0 45 (dk_at dksL_law_12 15 rfl rfl)
theorem dL_law_406 : decode cL_law 406 = .ok (.aload_n 2, 1) := dk_44 (dk_at dksL_law_12 18 rfl rfl)
theorem dL_law_407 : decode cL_law 407 = .ok (.aload_n 0, 1) := dk_42 (dk_at dksL_law_12 19 rfl rfl)
theorem dL_law_408 : decode cL_law 408 = .ok (.iload_n 3, 1) := dk_29 (dk_at dksL_law_12 20 rfl rfl)
theorem dL_law_409 : decode cL_law 409 = .ok (.iconst 1, 1) := dk_4 (dk_at dksL_law_12 21 rfl rfl)
theorem dL_law_410 : decode cL_law 410 = .ok (.iadd, 1) := dk_96 (dk_at dksL_law_12 22 rfl rfl)
theorem dL_law_411 : decode cL_law 411 = .ok (.iaload, 1) := dk_46 (dk_at dksL_law_12 23 rfl rfl)
theorem dL_law_412 : decode cL_law 412 = .ok (.aload_n 0, 1) := dk_42 (dk_at dksL_law_13 0 rfl rfl)
theorem dL_law_413 : decode cL_law 413 = .ok (.iload_n 3, 1) := dk_29 (dk_at dksL_law_13 1 rfl rfl)
theorem dL_law_414 : decode cL_law 414 = .ok (.iconst 2, 1) := dk_5 (dk_at dksL_law_13 2 rfl rfl)
theorem dL_law_415 : decode cL_law 415 = .ok (.iadd, 1) := dk_96 (dk_at dksL_law_13 3 rfl rfl)
theorem dL_law_416 : decode cL_law 416 = .ok (.iaload, 1) := dk_46 (dk_at dksL_law_13 4 rfl rfl)
theorem dL_law_417 : decode cL_law 417 = .ok (.aload_n 0, 1) := dk_42 (dk_at dksL_law_13 5 rfl rfl)
theorem dL_law_418 : decode cL_law 418 = .ok (.iload_n 3, 1) := dk_29 (dk_at dksL_law_13 6 rfl rfl)
theorem dL_law_419 : decode cL_law 419 = .ok (.iconst 3, 1) := dk_6 (dk_at dksL_law_13 7 rfl rfl)
theorem dL_law_420 : decode cL_law 420 = .ok (.iadd, 1) := dk_96 (dk_at dksL_law_13 8 rfl rfl)
theorem dL_law_421 : decode cL_law 421 = .ok (.iaload, 1) := dk_46 (dk_at dksL_law_13 9 rfl rfl)
theorem dL_law_422 : decode cL_law 422 = .ok (.invokevirtual 49, 3) := dk_182 0 49 (dk_at dksL_law_13 10 rfl rfl)
theorem dL_law_425 : decode cL_law 425 = .ok (.if_icmp .eq 707, 3) := dk_159 2 195 (dk_at dksL_law_13 13 rfl rfl)
theorem dL_law_428 : decode cL_law 428 = .ok (.iconst 0, 1) := dk_3 (dk_at dksL_law_13 16 rfl rfl)
theorem dL_law_429 : decode cL_law 429 = .ok (.ireturn, 1) := dk_172 (dk_at dksL_law_13 17 rfl rfl)
theorem dL_law_430 : decode cL_law 430 = .ok (.aload_n 1, 1) := dk_43 (dk_at dksL_law_13 18 rfl rfl)
theorem dL_law_431 : decode cL_law 431 = .ok (.aload_n 0, 1) := dk_42 (dk_at dksL_law_13 19 rfl rfl)
theorem dL_law_432 : decode cL_law 432 = .ok (.iload_n 3, 1) := dk_29 (dk_at dksL_law_13 20 rfl rfl)
theorem dL_law_433 : decode cL_law 433 = .ok (.iconst 1, 1) := dk_4 (dk_at dksL_law_13 21 rfl rfl)
theorem dL_law_434 : decode cL_law 434 = .ok (.iadd, 1) := dk_96 (dk_at dksL_law_13 22 rfl rfl)
theorem dL_law_435 : decode cL_law 435 = .ok (.iaload, 1) := dk_46 (dk_at dksL_law_13 23 rfl rfl)
theorem dL_law_436 : decode cL_law 436 = .ok (.aload_n 0, 1) := dk_42 (dk_at dksL_law_14 0 rfl rfl)
theorem dL_law_437 : decode cL_law 437 = .ok (.iload_n 3, 1) := dk_29 (dk_at dksL_law_14 1 rfl rfl)
theorem dL_law_438 : decode cL_law 438 = .ok (.iconst 2, 1) := dk_5 (dk_at dksL_law_14 2 rfl rfl)
theorem dL_law_439 : decode cL_law 439 = .ok (.iadd, 1) := dk_96 (dk_at dksL_law_14 3 rfl rfl)
theorem dL_law_440 : decode cL_law 440 = .ok (.iaload, 1) := dk_46 (dk_at dksL_law_14 4 rfl rfl)
theorem dL_law_441 : decode cL_law 441 = .ok (.invokevirtual 50, 3) := dk_182 0 50 (dk_at dksL_law_14 5 rfl rfl)
theorem dL_law_444 : decode cL_law 444 = .ok (.aload_n 2, 1) := dk_44 (dk_at dksL_law_14 8 rfl rfl)
theorem dL_law_445 : decode cL_law 445 = .ok (.aload_n 0, 1) := dk_42 (dk_at dksL_law_14 9 rfl rfl)
theorem dL_law_446 : decode cL_law 446 = .ok (.iload_n 3, 1) := dk_29 (dk_at dksL_law_14 10 rfl rfl)
theorem dL_law_447 : decode cL_law 447 = .ok (.iconst 1, 1) := dk_4 (dk_at dksL_law_14 11 rfl rfl)
theorem dL_law_448 : decode cL_law 448 = .ok (.iadd, 1) := dk_96 (dk_at dksL_law_14 12 rfl rfl)
theorem dL_law_449 : decode cL_law 449 = .ok (.iaload, 1) := dk_46 (dk_at dksL_law_14 13 rfl rfl)
theorem dL_law_450 : decode cL_law 450 = .ok (.aload_n 0, 1) := dk_42 (dk_at dksL_law_14 14 rfl rfl)
theorem dL_law_451 : decode cL_law 451 = .ok (.iload_n 3, 1) := dk_29 (dk_at dksL_law_14 15 rfl rfl)
theorem dL_law_452 : decode cL_law 452 = .ok (.iconst 2, 1) := dk_5 (dk_at dksL_law_14 16 rfl rfl)
theorem dL_law_453 : decode cL_law 453 = .ok (.iadd, 1) := dk_96 (dk_at dksL_law_14 17 rfl rfl)
theorem dL_law_454 : decode cL_law 454 = .ok (.iaload, 1) := dk_46 (dk_at dksL_law_14 18 rfl rfl)
theorem dL_law_455 : decode cL_law 455 = .ok (.invokevirtual 53, 3) := dk_182 0 53 (dk_at dksL_law_14 19 rfl rfl)
theorem dL_law_458 : decode cL_law 458 = .ok (.if_icmp .eq 674, 3) := dk_159 2 162 (dk_at dksL_law_15 0 rfl rfl)
theorem dL_law_461 : decode cL_law 461 = .ok (.iconst 0, 1) := dk_3 (dk_at dksL_law_15 3 rfl rfl)
theorem dL_law_462 : decode cL_law 462 = .ok (.ireturn, 1) := dk_172 (dk_at dksL_law_15 4 rfl rfl)
theorem dL_law_463 : decode cL_law 463 = .ok (.aload_n 1, 1) := dk_43 (dk_at dksL_law_15 5 rfl rfl)
theorem dL_law_464 : decode cL_law 464 = .ok (.aload_n 0, 1) := dk_42 (dk_at dksL_law_15 6 rfl rfl)
theorem dL_law_465 : decode cL_law 465 = .ok (.iload_n 3, 1) := dk_29 (dk_at dksL_law_15 7 rfl rfl)
theorem dL_law_466 : decode cL_law 466 = .ok (.iconst 1, 1) := dk_4 (dk_at dksL_law_15 8 rfl rfl)
theorem dL_law_467 : decode cL_law 467 = .ok (.iadd, 1) := dk_96 (dk_at dksL_law_15 9 rfl rfl)
theorem dL_law_468 : decode cL_law 468 = .ok (.iaload, 1) := dk_46 (dk_at dksL_law_15 10 rfl rfl)
theorem dL_law_469 : decode cL_law 469 = .ok (.aload_n 0, 1) := dk_42 (dk_at dksL_law_15 11 rfl rfl)
theorem dL_law_470 : decode cL_law 470 = .ok (.iload_n 3, 1) := dk_29 (dk_at dksL_law_15 12 rfl rfl)
theorem dL_law_471 : decode cL_law 471 = .ok (.iconst 2, 1) := dk_5 (dk_at dksL_law_15 13 rfl rfl)
theorem dL_law_472 : decode cL_law 472 = .ok (.iadd, 1) := dk_96 (dk_at dksL_law_15 14 rfl rfl)
theorem dL_law_473 : decode cL_law 473 = .ok (.iaload, 1) := dk_46 (dk_at dksL_law_15 15 rfl rfl)
theorem dL_law_474 : decode cL_law 474 = .ok (.invokevirtual 54, 3) := dk_182 0 54 (dk_at dksL_law_15 16 rfl rfl)
theorem dL_law_477 : decode cL_law 477 = .ok (.aload_n 2, 1) := dk_44 (dk_at dksL_law_15 19 rfl rfl)
theorem dL_law_478 : decode cL_law 478 = .ok (.aload_n 0, 1) := dk_42 (dk_at dksL_law_15 20 rfl rfl)
theorem dL_law_479 : decode cL_law 479 = .ok (.iload_n 3, 1) := dk_29 (dk_at dksL_law_15 21 rfl rfl)
theorem dL_law_480 : decode cL_law 480 = .ok (.iconst 1, 1) := dk_4 (dk_at dksL_law_15 22 rfl rfl)
theorem dL_law_481 : decode cL_law 481 = .ok (.iadd, 1) := dk_96 (dk_at dksL_law_15 23 rfl rfl)
theorem dL_law_482 : decode cL_law 482 = .ok (.iaload, 1) := dk_46 (dk_at dksL_law_16 0 rfl rfl)
theorem dL_law_483 : decode cL_law 483 = .ok (.aload_n 0, 1) := dk_42 (dk_at dksL_law_16 1 rfl rfl)
theorem dL_law_484 : decode cL_law 484 = .ok (.iload_n 3, 1) := dk_29 (dk_at dksL_law_16 2 rfl rfl)
theorem dL_law_485 : decode cL_law 485 = .ok (.iconst 2, 1) := dk_5 (dk_at dksL_law_16 3 rfl rfl)
theorem dL_law_486 : decode cL_law 486 = .ok (.iadd, 1) := dk_96 (dk_at dksL_law_16 4 rfl rfl)
theorem dL_law_487 : decode cL_law 487 = .ok (.iaload, 1) := dk_46 (dk_at dksL_law_16 5 rfl rfl)
theorem dL_law_488 : decode cL_law 488 = .ok (.invokevirtual 58, 3) := dk_182 0 58 (dk_at dksL_law_16 6 rfl rfl)
theorem dL_law_491 : decode cL_law 491 = .ok (.if_icmp .eq 641, 3) := dk_159 2 129 (dk_at dksL_law_16 9 rfl rfl)
theorem dL_law_494 : decode cL_law 494 = .ok (.iconst 0, 1) := dk_3 (dk_at dksL_law_16 12 rfl rfl)
theorem dL_law_495 : decode cL_law 495 = .ok (.ireturn, 1) := dk_172 (dk_at dksL_law_16 13 rfl rfl)
theorem dL_law_496 : decode cL_law 496 = .ok (.aload_n 1, 1) := dk_43 (dk_at dksL_law_16 14 rfl rfl)
theorem dL_law_497 : decode cL_law 497 = .ok (.aload_n 0, 1) := dk_42 (dk_at dksL_law_16 15 rfl rfl)
theorem dL_law_498 : decode cL_law 498 = .ok (.iload_n 3, 1) := dk_29 (dk_at dksL_law_16 16 rfl rfl)
theorem dL_law_499 : decode cL_law 499 = .ok (.iconst 1, 1) := dk_4 (dk_at dksL_law_16 17 rfl rfl)
theorem dL_law_500 : decode cL_law 500 = .ok (.iadd, 1) := dk_96 (dk_at dksL_law_16 18 rfl rfl)
theorem dL_law_501 : decode cL_law 501 = .ok (.iaload, 1) := dk_46 (dk_at dksL_law_16 19 rfl rfl)
theorem dL_law_502 : decode cL_law 502 = .ok (.aload_n 0, 1) := dk_42 (dk_at dksL_law_16 20 rfl rfl)
theorem dL_law_503 : decode cL_law 503 = .ok (.iload_n 3, 1) := dk_29 (dk_at dksL_law_16 21 rfl rfl)
theorem dL_law_504 : decode cL_law 504 = .ok (.iconst 2, 1) := dk_5 (dk_at dksL_law_16 22 rfl rfl)
theorem dL_law_505 : decode cL_law 505 = .ok (.iadd, 1) := dk_96 (dk_at dksL_law_16 23 rfl rfl)
theorem dL_law_506 : decode cL_law 506 = .ok (.iaload, 1) := dk_46 (dk_at dksL_law_17 0 rfl rfl)
theorem dL_law_507 : decode cL_law 507 = .ok (.invokevirtual 59, 3) := dk_182 0 59 (dk_at dksL_law_17 1 rfl rfl)
theorem dL_law_510 : decode cL_law 510 = .ok (.aload_n 2, 1) := dk_44 (dk_at dksL_law_17 4 rfl rfl)
theorem dL_law_511 : decode cL_law 511 = .ok (.aload_n 0, 1) := dk_42 (dk_at dksL_law_17 5 rfl rfl)
theorem dL_law_512 : decode cL_law 512 = .ok (.iload_n 3, 1) := dk_29 (dk_at dksL_law_17 6 rfl rfl)
theorem dL_law_513 : decode cL_law 513 = .ok (.iconst 1, 1) := dk_4 (dk_at dksL_law_17 7 rfl rfl)
theorem dL_law_514 : decode cL_law 514 = .ok (.iadd, 1) := dk_96 (dk_at dksL_law_17 8 rfl rfl)
theorem dL_law_515 : decode cL_law 515 = .ok (.iaload, 1) := dk_46 (dk_at dksL_law_17 9 rfl rfl)
theorem dL_law_516 : decode cL_law 516 = .ok (.aload_n 0, 1) := dk_42 (dk_at dksL_law_17 10 rfl rfl)
theorem dL_law_517 : decode cL_law 517 = .ok (.iload_n 3, 1) := dk_29 (dk_at dksL_law_17 11 rfl rfl)
theorem dL_law_518 : decode cL_law 518 = .ok (.iconst 2, 1) := dk_5 (dk_at dksL_law_17 12 rfl rfl)
theorem dL_law_519 : decode cL_law 519 = .ok (.iadd, 1) := dk_96 (dk_at dksL_law_17 13 rfl rfl)
theorem dL_law_520 : decode cL_law 520 = .ok (.iaload, 1) := dk_46 (dk_at dksL_law_17 14 rfl rfl)
theorem dL_law_521 : decode cL_law 521 = .ok (.invokevirtual 62, 3) := dk_182 0 62 (dk_at dksL_law_17 15 rfl rfl)
theorem dL_law_524 : decode cL_law 524 = .ok (.if_icmp .eq 608, 3) := dk_159 2 96 (dk_at dksL_law_17 18 rfl rfl)
theorem dL_law_527 : decode cL_law 527 = .ok (.iconst 0, 1) := dk_3 (dk_at dksL_law_17 21 rfl rfl)
theorem dL_law_528 : decode cL_law 528 = .ok (.ireturn, 1) := dk_172 (dk_at dksL_law_17 22 rfl rfl)
theorem dL_law_529 : decode cL_law 529 = .ok (.aload_n 1, 1) := dk_43 (dk_at dksL_law_17 23 rfl rfl)
theorem dL_law_530 : decode cL_law 530 = .ok (.aload_n 0, 1) := dk_42 (dk_at dksL_law_18 0 rfl rfl)
theorem dL_law_531 : decode cL_law 531 = .ok (.iload_n 3, 1) := dk_29 (dk_at dksL_law_18 1 rfl rfl)
theorem dL_law_532 : decode cL_law 532 = .ok (.iconst 1, 1) := dk_4 (dk_at dksL_law_18 2 rfl rfl)
theorem dL_law_533 : decode cL_law 533 = .ok (.iadd, 1) := dk_96 (dk_at dksL_law_18 3 rfl rfl)
theorem dL_law_534 : decode cL_law 534 = .ok (.iaload, 1) := dk_46 (dk_at dksL_law_18 4 rfl rfl)
theorem dL_law_535 : decode cL_law 535 = .ok (.aload_n 0, 1) := dk_42 (dk_at dksL_law_18 5 rfl rfl)
theorem dL_law_536 : decode cL_law 536 = .ok (.iload_n 3, 1) := dk_29 (dk_at dksL_law_18 6 rfl rfl)
theorem dL_law_537 : decode cL_law 537 = .ok (.iconst 2, 1) := dk_5 (dk_at dksL_law_18 7 rfl rfl)
theorem dL_law_538 : decode cL_law 538 = .ok (.iadd, 1) := dk_96 (dk_at dksL_law_18 8 rfl rfl)
theorem dL_law_539 : decode cL_law 539 = .ok (.iaload, 1) := dk_46 (dk_at dksL_law_18 9 rfl rfl)
theorem dL_law_540 : decode cL_law 540 = .ok (.invokevirtual 63, 3) := dk_182 0 63 (dk_at dksL_law_18 10 rfl rfl)
theorem dL_law_543 : decode cL_law 543 = .ok (.aload_n 2, 1) := dk_44 (dk_at dksL_law_18 13 rfl rfl)
theorem dL_law_544 : decode cL_law 544 = .ok (.aload_n 0, 1) := dk_42 (dk_at dksL_law_18 14 rfl rfl)
theorem dL_law_545 : decode cL_law 545 = .ok (.iload_n 3, 1) := dk_29 (dk_at dksL_law_18 15 rfl rfl)
theorem dL_law_546 : decode cL_law 546 = .ok (.iconst 1, 1) := dk_4 (dk_at dksL_law_18 16 rfl rfl)
theorem dL_law_547 : decode cL_law 547 = .ok (.iadd, 1) := dk_96 (dk_at dksL_law_18 17 rfl rfl)
theorem dL_law_548 : decode cL_law 548 = .ok (.iaload, 1) := dk_46 (dk_at dksL_law_18 18 rfl rfl)
theorem dL_law_549 : decode cL_law 549 = .ok (.aload_n 0, 1) := dk_42 (dk_at dksL_law_18 19 rfl rfl)
theorem dL_law_550 : decode cL_law 550 = .ok (.iload_n 3, 1) := dk_29 (dk_at dksL_law_18 20 rfl rfl)
theorem dL_law_551 : decode cL_law 551 = .ok (.iconst 2, 1) := dk_5 (dk_at dksL_law_18 21 rfl rfl)
theorem dL_law_552 : decode cL_law 552 = .ok (.iadd, 1) := dk_96 (dk_at dksL_law_18 22 rfl rfl)
theorem dL_law_553 : decode cL_law 553 = .ok (.iaload, 1) := dk_46 (dk_at dksL_law_18 23 rfl rfl)
theorem dL_law_554 : decode cL_law 554 = .ok (.invokevirtual 66, 3) := dk_182 0 66 (dk_at dksL_law_19 0 rfl rfl)
theorem dL_law_557 : decode cL_law 557 = .ok (.if_icmp .eq 575, 3) := dk_159 2 63 (dk_at dksL_law_19 3 rfl rfl)
theorem dL_law_560 : decode cL_law 560 = .ok (.iconst 0, 1) := dk_3 (dk_at dksL_law_19 6 rfl rfl)
theorem dL_law_561 : decode cL_law 561 = .ok (.ireturn, 1) := dk_172 (dk_at dksL_law_19 7 rfl rfl)
theorem dL_law_562 : decode cL_law 562 = .ok (.aload_n 1, 1) := dk_43 (dk_at dksL_law_19 8 rfl rfl)
theorem dL_law_563 : decode cL_law 563 = .ok (.aload_n 0, 1) := dk_42 (dk_at dksL_law_19 9 rfl rfl)
theorem dL_law_564 : decode cL_law 564 = .ok (.iload_n 3, 1) := dk_29 (dk_at dksL_law_19 10 rfl rfl)
theorem dL_law_565 : decode cL_law 565 = .ok (.iconst 1, 1) := dk_4 (dk_at dksL_law_19 11 rfl rfl)
theorem dL_law_566 : decode cL_law 566 = .ok (.iadd, 1) := dk_96 (dk_at dksL_law_19 12 rfl rfl)
theorem dL_law_567 : decode cL_law 567 = .ok (.iaload, 1) := dk_46 (dk_at dksL_law_19 13 rfl rfl)
theorem dL_law_568 : decode cL_law 568 = .ok (.aload_n 0, 1) := dk_42 (dk_at dksL_law_19 14 rfl rfl)
theorem dL_law_569 : decode cL_law 569 = .ok (.iload_n 3, 1) := dk_29 (dk_at dksL_law_19 15 rfl rfl)
theorem dL_law_570 : decode cL_law 570 = .ok (.iconst 2, 1) := dk_5 (dk_at dksL_law_19 16 rfl rfl)
theorem dL_law_571 : decode cL_law 571 = .ok (.iadd, 1) := dk_96 (dk_at dksL_law_19 17 rfl rfl)
theorem dL_law_572 : decode cL_law 572 = .ok (.iaload, 1) := dk_46 (dk_at dksL_law_19 18 rfl rfl)
theorem dL_law_573 : decode cL_law 573 = .ok (.invokevirtual 67, 3) := dk_182 0 67 (dk_at dksL_law_19 19 rfl rfl)
theorem dL_law_576 : decode cL_law 576 = .ok (.aload_n 2, 1) := dk_44 (dk_at dksL_law_19 22 rfl rfl)
theorem dL_law_577 : decode cL_law 577 = .ok (.aload_n 0, 1) := dk_42 (dk_at dksL_law_19 23 rfl rfl)
theorem dL_law_578 : decode cL_law 578 = .ok (.iload_n 3, 1) := dk_29 (dk_at dksL_law_20 0 rfl rfl)
theorem dL_law_579 : decode cL_law 579 = .ok (.iconst 1, 1) := dk_4 (dk_at dksL_law_20 1 rfl rfl)
theorem dL_law_580 : decode cL_law 580 = .ok (.iadd, 1) := dk_96 (dk_at dksL_law_20 2 rfl rfl)
theorem dL_law_581 : decode cL_law 581 = .ok (.iaload, 1) := dk_46 (dk_at dksL_law_20 3 rfl rfl)
theorem dL_law_582 : decode cL_law 582 = .ok (.aload_n 0, 1) := dk_42 (dk_at dksL_law_20 4 rfl rfl)
theorem dL_law_583 : decode cL_law 583 = .ok (.iload_n 3, 1) := dk_29 (dk_at dksL_law_20 5 rfl rfl)
theorem dL_law_584 : decode cL_law 584 = .ok (.iconst 2, 1) := dk_5 (dk_at dksL_law_20 6 rfl rfl)
theorem dL_law_585 : decode cL_law 585 = .ok (.iadd, 1) := dk_96 (dk_at dksL_law_20 7 rfl rfl)
theorem dL_law_586 : decode cL_law 586 = .ok (.iaload, 1) := dk_46 (dk_at dksL_law_20 8 rfl rfl)
theorem dL_law_587 : decode cL_law 587 = .ok (.invokevirtual 70, 3) := dk_182 0 70 (dk_at dksL_law_20 9 rfl rfl)
theorem dL_law_590 : decode cL_law 590 = .ok (.if_icmp .eq 542, 3) := dk_159 2 30 (dk_at dksL_law_20 12 rfl rfl)
theorem dL_law_593 : decode cL_law 593 = .ok (.iconst 0, 1) := dk_3 (dk_at dksL_law_20 15 rfl rfl)
theorem dL_law_594 : decode cL_law 594 = .ok (.ireturn, 1) := dk_172 (dk_at dksL_law_20 16 rfl rfl)
theorem dL_law_595 : decode cL_law 595 = .ok (.aload_n 1, 1) := dk_43 (dk_at dksL_law_20 17 rfl rfl)
theorem dL_law_596 : decode cL_law 596 = .ok (.aload_n 0, 1) := dk_42 (dk_at dksL_law_20 18 rfl rfl)
theorem dL_law_597 : decode cL_law 597 = .ok (.iload_n 3, 1) := dk_29 (dk_at dksL_law_20 19 rfl rfl)
theorem dL_law_598 : decode cL_law 598 = .ok (.iconst 1, 1) := dk_4 (dk_at dksL_law_20 20 rfl rfl)
theorem dL_law_599 : decode cL_law 599 = .ok (.iadd, 1) := dk_96 (dk_at dksL_law_20 21 rfl rfl)
theorem dL_law_600 : decode cL_law 600 = .ok (.iaload, 1) := dk_46 (dk_at dksL_law_20 22 rfl rfl)
theorem dL_law_601 : decode cL_law 601 = .ok (.invokevirtual 71, 3) := dk_182 0 71 (dk_at dksL_law_21 0 rfl rfl)
theorem dL_law_604 : decode cL_law 604 = .ok (.aload_n 2, 1) := dk_44 (dk_at dksL_law_21 3 rfl rfl)
theorem dL_law_605 : decode cL_law 605 = .ok (.aload_n 0, 1) := dk_42 (dk_at dksL_law_21 4 rfl rfl)
theorem dL_law_606 : decode cL_law 606 = .ok (.iload_n 3, 1) := dk_29 (dk_at dksL_law_21 5 rfl rfl)
theorem dL_law_607 : decode cL_law 607 = .ok (.iconst 1, 1) := dk_4 (dk_at dksL_law_21 6 rfl rfl)
theorem dL_law_608 : decode cL_law 608 = .ok (.iadd, 1) := dk_96 (dk_at dksL_law_21 7 rfl rfl)
theorem dL_law_609 : decode cL_law 609 = .ok (.iaload, 1) := dk_46 (dk_at dksL_law_21 8 rfl rfl)
theorem dL_law_610 : decode cL_law 610 = .ok (.invokevirtual 75, 3) := dk_182 0 75 (dk_at dksL_law_21 9 rfl rfl)
theorem dL_law_613 : decode cL_law 613 = .ok (.if_icmp .eq 519, 3) := dk_159 2 7 (dk_at dksL_law_21 12 rfl rfl)
theorem dL_law_616 : decode cL_law 616 = .ok (.iconst 0, 1) := dk_3 (dk_at dksL_law_21 15 rfl rfl)
theorem dL_law_617 : decode cL_law 617 = .ok (.ireturn, 1) := dk_172 (dk_at dksL_law_21 16 rfl rfl)
theorem dL_law_618 : decode cL_law 618 = .ok (.aload_n 1, 1) := dk_43 (dk_at dksL_law_21 17 rfl rfl)
theorem dL_law_619 : decode cL_law 619 = .ok (.aload_n 0, 1) := dk_42 (dk_at dksL_law_21 18 rfl rfl)
theorem dL_law_620 : decode cL_law 620 = .ok (.iload_n 3, 1) := dk_29 (dk_at dksL_law_21 19 rfl rfl)
theorem dL_law_621 : decode cL_law 621 = .ok (.iconst 1, 1) := dk_4 (dk_at dksL_law_21 20 rfl rfl)
theorem dL_law_622 : decode cL_law 622 = .ok (.iadd, 1) := dk_96 (dk_at dksL_law_21 21 rfl rfl)
theorem dL_law_623 : decode cL_law 623 = .ok (.iaload, 1) := dk_46 (dk_at dksL_law_21 22 rfl rfl)
theorem dL_law_624 : decode cL_law 624 = .ok (.invokevirtual 76, 3) := dk_182 0 76 (dk_at dksL_law_22 0 rfl rfl)
theorem dL_law_627 : decode cL_law 627 = .ok (.aload_n 2, 1) := dk_44 (dk_at dksL_law_22 3 rfl rfl)
theorem dL_law_628 : decode cL_law 628 = .ok (.aload_n 0, 1) := dk_42 (dk_at dksL_law_22 4 rfl rfl)
theorem dL_law_629 : decode cL_law 629 = .ok (.iload_n 3, 1) := dk_29 (dk_at dksL_law_22 5 rfl rfl)
theorem dL_law_630 : decode cL_law 630 = .ok (.iconst 1, 1) := dk_4 (dk_at dksL_law_22 6 rfl rfl)
theorem dL_law_631 : decode cL_law 631 = .ok (.iadd, 1) := dk_96 (dk_at dksL_law_22 7 rfl rfl)
theorem dL_law_632 : decode cL_law 632 = .ok (.iaload, 1) := dk_46 (dk_at dksL_law_22 8 rfl rfl)
theorem dL_law_633 : decode cL_law 633 = .ok (.invokevirtual 79, 3) := dk_182 0 79 (dk_at dksL_law_22 9 rfl rfl)
theorem dL_law_636 : decode cL_law 636 = .ok (.if_icmp .eq 496, 3) := dk_159 1 240 (dk_at dksL_law_22 12 rfl rfl)
theorem dL_law_639 : decode cL_law 639 = .ok (.iconst 0, 1) := dk_3 (dk_at dksL_law_22 15 rfl rfl)
theorem dL_law_640 : decode cL_law 640 = .ok (.ireturn, 1) := dk_172 (dk_at dksL_law_22 16 rfl rfl)
theorem dL_law_641 : decode cL_law 641 = .ok (.aload_n 1, 1) := dk_43 (dk_at dksL_law_22 17 rfl rfl)
theorem dL_law_642 : decode cL_law 642 = .ok (.aload_n 0, 1) := dk_42 (dk_at dksL_law_22 18 rfl rfl)
theorem dL_law_643 : decode cL_law 643 = .ok (.iload_n 3, 1) := dk_29 (dk_at dksL_law_22 19 rfl rfl)
theorem dL_law_644 : decode cL_law 644 = .ok (.iconst 1, 1) := dk_4 (dk_at dksL_law_22 20 rfl rfl)
theorem dL_law_645 : decode cL_law 645 = .ok (.iadd, 1) := dk_96 (dk_at dksL_law_22 21 rfl rfl)
theorem dL_law_646 : decode cL_law 646 = .ok (.iaload, 1) := dk_46 (dk_at dksL_law_22 22 rfl rfl)
theorem dL_law_647 : decode cL_law 647 = .ok (.aload_n 0, 1) := dk_42 (dk_at dksL_law_22 23 rfl rfl)
theorem dL_law_648 : decode cL_law 648 = .ok (.iload_n 3, 1) := dk_29 (dk_at dksL_law_23 0 rfl rfl)
theorem dL_law_649 : decode cL_law 649 = .ok (.iconst 2, 1) := dk_5 (dk_at dksL_law_23 1 rfl rfl)
theorem dL_law_650 : decode cL_law 650 = .ok (.iadd, 1) := dk_96 (dk_at dksL_law_23 2 rfl rfl)
theorem dL_law_651 : decode cL_law 651 = .ok (.iaload, 1) := dk_46 (dk_at dksL_law_23 3 rfl rfl)
theorem dL_law_652 : decode cL_law 652 = .ok (.aload_n 0, 1) := dk_42 (dk_at dksL_law_23 4 rfl rfl)
theorem dL_law_653 : decode cL_law 653 = .ok (.iload_n 3, 1) := dk_29 (dk_at dksL_law_23 5 rfl rfl)
theorem dL_law_654 : decode cL_law 654 = .ok (.iconst 3, 1) := dk_6 (dk_at dksL_law_23 6 rfl rfl)
theorem dL_law_655 : decode cL_law 655 = .ok (.iadd, 1) := dk_96 (dk_at dksL_law_23 7 rfl rfl)
theorem dL_law_656 : decode cL_law 656 = .ok (.iaload, 1) := dk_46 (dk_at dksL_law_23 8 rfl rfl)
theorem dL_law_657 : decode cL_law 657 = .ok (.invokevirtual 80, 3) := dk_182 0 80 (dk_at dksL_law_23 9 rfl rfl)
theorem dL_law_660 : decode cL_law 660 = .ok (.aload_n 2, 1) := dk_44 (dk_at dksL_law_23 12 rfl rfl)
theorem dL_law_661 : decode cL_law 661 = .ok (.aload_n 0, 1) := dk_42 (dk_at dksL_law_23 13 rfl rfl)
theorem dL_law_662 : decode cL_law 662 = .ok (.iload_n 3, 1) := dk_29 (dk_at dksL_law_23 14 rfl rfl)
theorem dL_law_663 : decode cL_law 663 = .ok (.iconst 1, 1) := dk_4 (dk_at dksL_law_23 15 rfl rfl)
theorem dL_law_664 : decode cL_law 664 = .ok (.iadd, 1) := dk_96 (dk_at dksL_law_23 16 rfl rfl)
theorem dL_law_665 : decode cL_law 665 = .ok (.iaload, 1) := dk_46 (dk_at dksL_law_23 17 rfl rfl)
theorem dL_law_666 : decode cL_law 666 = .ok (.aload_n 0, 1) := dk_42 (dk_at dksL_law_23 18 rfl rfl)
theorem dL_law_667 : decode cL_law 667 = .ok (.iload_n 3, 1) := dk_29 (dk_at dksL_law_23 19 rfl rfl)
theorem dL_law_668 : decode cL_law 668 = .ok (.iconst 2, 1) := dk_5 (dk_at dksL_law_23 20 rfl rfl)
theorem dL_law_669 : decode cL_law 669 = .ok (.iadd, 1) := dk_96 (dk_at dksL_law_23 21 rfl rfl)
theorem dL_law_670 : decode cL_law 670 = .ok (.iaload, 1) := dk_46 (dk_at dksL_law_23 22 rfl rfl)
theorem dL_law_671 : decode cL_law 671 = .ok (.aload_n 0, 1) := dk_42 (dk_at dksL_law_23 23 rfl rfl)
theorem dL_law_672 : decode cL_law 672 = .ok (.iload_n 3, 1) := dk_29 (dk_at dksL_law_24 0 rfl rfl)
theorem dL_law_673 : decode cL_law 673 = .ok (.iconst 3, 1) := dk_6 (dk_at dksL_law_24 1 rfl rfl)
theorem dL_law_674 : decode cL_law 674 = .ok (.iadd, 1) := dk_96 (dk_at dksL_law_24 2 rfl rfl)
theorem dL_law_675 : decode cL_law 675 = .ok (.iaload, 1) := dk_46 (dk_at dksL_law_24 3 rfl rfl)
theorem dL_law_676 : decode cL_law 676 = .ok (.invokevirtual 83, 3) := dk_182 0 83 (dk_at dksL_law_24 4 rfl rfl)
theorem dL_law_679 : decode cL_law 679 = .ok (.if_icmp .eq 453, 3) := dk_159 1 197 (dk_at dksL_law_24 7 rfl rfl)
theorem dL_law_682 : decode cL_law 682 = .ok (.iconst 0, 1) := dk_3 (dk_at dksL_law_24 10 rfl rfl)
theorem dL_law_683 : decode cL_law 683 = .ok (.ireturn, 1) := dk_172 (dk_at dksL_law_24 11 rfl rfl)
theorem dL_law_684 : decode cL_law 684 = .ok (.aload_n 1, 1) := dk_43 (dk_at dksL_law_24 12 rfl rfl)
theorem dL_law_685 : decode cL_law 685 = .ok (.aload_n 0, 1) := dk_42 (dk_at dksL_law_24 13 rfl rfl)
theorem dL_law_686 : decode cL_law 686 = .ok (.iload_n 3, 1) := dk_29 (dk_at dksL_law_24 14 rfl rfl)
theorem dL_law_687 : decode cL_law 687 = .ok (.iconst 1, 1) := dk_4 (dk_at dksL_law_24 15 rfl rfl)
theorem dL_law_688 : decode cL_law 688 = .ok (.iadd, 1) := dk_96 (dk_at dksL_law_24 16 rfl rfl)
theorem dL_law_689 : decode cL_law 689 = .ok (.iaload, 1) := dk_46 (dk_at dksL_law_24 17 rfl rfl)
theorem dL_law_690 : decode cL_law 690 = .ok (.aload_n 0, 1) := dk_42 (dk_at dksL_law_24 18 rfl rfl)
theorem dL_law_691 : decode cL_law 691 = .ok (.iload_n 3, 1) := dk_29 (dk_at dksL_law_24 19 rfl rfl)
theorem dL_law_692 : decode cL_law 692 = .ok (.iconst 2, 1) := dk_5 (dk_at dksL_law_24 20 rfl rfl)
theorem dL_law_693 : decode cL_law 693 = .ok (.iadd, 1) := dk_96 (dk_at dksL_law_24 21 rfl rfl)
theorem dL_law_694 : decode cL_law 694 = .ok (.iaload, 1) := dk_46 (dk_at dksL_law_24 22 rfl rfl)
theorem dL_law_695 : decode cL_law 695 = .ok (.aload_n 0, 1) := dk_42 (dk_at dksL_law_24 23 rfl rfl)
theorem dL_law_696 : decode cL_law 696 = .ok (.iload_n 3, 1) := dk_29 (dk_at dksL_law_25 0 rfl rfl)
theorem dL_law_697 : decode cL_law 697 = .ok (.iconst 3, 1) := dk_6 (dk_at dksL_law_25 1 rfl rfl)
theorem dL_law_698 : decode cL_law 698 = .ok (.iadd, 1) := dk_96 (dk_at dksL_law_25 2 rfl rfl)
theorem dL_law_699 : decode cL_law 699 = .ok (.iaload, 1) := dk_46 (dk_at dksL_law_25 3 rfl rfl)
theorem dL_law_700 : decode cL_law 700 = .ok (.aload_n 0, 1) := dk_42 (dk_at dksL_law_25 4 rfl rfl)
theorem dL_law_701 : decode cL_law 701 = .ok (.iload_n 3, 1) := dk_29 (dk_at dksL_law_25 5 rfl rfl)
theorem dL_law_702 : decode cL_law 702 = .ok (.iconst 4, 1) := dk_7 (dk_at dksL_law_25 6 rfl rfl)
theorem dL_law_703 : decode cL_law 703 = .ok (.iadd, 1) := dk_96 (dk_at dksL_law_25 7 rfl rfl)
theorem dL_law_704 : decode cL_law 704 = .ok (.iaload, 1) := dk_46 (dk_at dksL_law_25 8 rfl rfl)
theorem dL_law_705 : decode cL_law 705 = .ok (.invokevirtual 84, 3) := dk_182 0 84 (dk_at dksL_law_25 9 rfl rfl)
theorem dL_law_708 : decode cL_law 708 = .ok (.aload_n 2, 1) := dk_44 (dk_at dksL_law_25 12 rfl rfl)
theorem dL_law_709 : decode cL_law 709 = .ok (.aload_n 0, 1) := dk_42 (dk_at dksL_law_25 13 rfl rfl)
theorem dL_law_710 : decode cL_law 710 = .ok (.iload_n 3, 1) := dk_29 (dk_at dksL_law_25 14 rfl rfl)
theorem dL_law_711 : decode cL_law 711 = .ok (.iconst 1, 1) := dk_4 (dk_at dksL_law_25 15 rfl rfl)
theorem dL_law_712 : decode cL_law 712 = .ok (.iadd, 1) := dk_96 (dk_at dksL_law_25 16 rfl rfl)
theorem dL_law_713 : decode cL_law 713 = .ok (.iaload, 1) := dk_46 (dk_at dksL_law_25 17 rfl rfl)
theorem dL_law_714 : decode cL_law 714 = .ok (.aload_n 0, 1) := dk_42 (dk_at dksL_law_25 18 rfl rfl)
theorem dL_law_715 : decode cL_law 715 = .ok (.iload_n 3, 1) := dk_29 (dk_at dksL_law_25 19 rfl rfl)
theorem dL_law_716 : decode cL_law 716 = .ok (.iconst 2, 1) := dk_5 (dk_at dksL_law_25 20 rfl rfl)
theorem dL_law_717 : decode cL_law 717 = .ok (.iadd, 1) := dk_96 (dk_at dksL_law_25 21 rfl rfl)
theorem dL_law_718 : decode cL_law 718 = .ok (.iaload, 1) := dk_46 (dk_at dksL_law_25 22 rfl rfl)
theorem dL_law_719 : decode cL_law 719 = .ok (.aload_n 0, 1) := dk_42 (dk_at dksL_law_25 23 rfl rfl)
theorem dL_law_720 : decode cL_law 720 = .ok (.iload_n 3, 1) := dk_29 (dk_at dksL_law_26 0 rfl rfl)
theorem dL_law_721 : decode cL_law 721 = .ok (.iconst 3, 1) := dk_6 (dk_at dksL_law_26 1 rfl rfl)
theorem dL_law_722 : decode cL_law 722 = .ok (.iadd, 1) := dk_96 (dk_at dksL_law_26 2 rfl rfl)
theorem dL_law_723 : decode cL_law 723 = .ok (.iaload, 1) := dk_46 (dk_at dksL_law_26 3 rfl rfl)
theorem dL_law_724 : decode cL_law 724 = .ok (.aload_n 0, 1) := dk_42 (dk_at dksL_law_26 4 rfl rfl)
theorem dL_law_725 : decode cL_law 725 = .ok (.iload_n 3, 1) := dk_29 (dk_at dksL_law_26 5 rfl rfl)
theorem dL_law_726 : decode cL_law 726 = .ok (.iconst 4, 1) := dk_7 (dk_at dksL_law_26 6 rfl rfl)
theorem dL_law_727 : decode cL_law 727 = .ok (.iadd, 1) := dk_96 (dk_at dksL_law_26 7 rfl rfl)
theorem dL_law_728 : decode cL_law 728 = .ok (.iaload, 1) := dk_46 (dk_at dksL_law_26 8 rfl rfl)
theorem dL_law_729 : decode cL_law 729 = .ok (.invokevirtual 88, 3) := dk_182 0 88 (dk_at dksL_law_26 9 rfl rfl)
theorem dL_law_732 : decode cL_law 732 = .ok (.if_icmp .eq 400, 3) := dk_159 1 144 (dk_at dksL_law_26 12 rfl rfl)
theorem dL_law_735 : decode cL_law 735 = .ok (.iconst 0, 1) := dk_3 (dk_at dksL_law_26 15 rfl rfl)
theorem dL_law_736 : decode cL_law 736 = .ok (.ireturn, 1) := dk_172 (dk_at dksL_law_26 16 rfl rfl)
theorem dL_law_737 : decode cL_law 737 = .ok (.aload_n 1, 1) := dk_43 (dk_at dksL_law_26 17 rfl rfl)
theorem dL_law_738 : decode cL_law 738 = .ok (.aload_n 0, 1) := dk_42 (dk_at dksL_law_26 18 rfl rfl)
theorem dL_law_739 : decode cL_law 739 = .ok (.iload_n 3, 1) := dk_29 (dk_at dksL_law_26 19 rfl rfl)
theorem dL_law_740 : decode cL_law 740 = .ok (.iconst 1, 1) := dk_4 (dk_at dksL_law_26 20 rfl rfl)
theorem dL_law_741 : decode cL_law 741 = .ok (.iadd, 1) := dk_96 (dk_at dksL_law_26 21 rfl rfl)
theorem dL_law_742 : decode cL_law 742 = .ok (.iaload, 1) := dk_46 (dk_at dksL_law_26 22 rfl rfl)
theorem dL_law_743 : decode cL_law 743 = .ok (.aload_n 0, 1) := dk_42 (dk_at dksL_law_26 23 rfl rfl)
theorem dL_law_744 : decode cL_law 744 = .ok (.iload_n 3, 1) := dk_29 (dk_at dksL_law_27 0 rfl rfl)
theorem dL_law_745 : decode cL_law 745 = .ok (.iconst 2, 1) := dk_5 (dk_at dksL_law_27 1 rfl rfl)
theorem dL_law_746 : decode cL_law 746 = .ok (.iadd, 1) := dk_96 (dk_at dksL_law_27 2 rfl rfl)
theorem dL_law_747 : decode cL_law 747 = .ok (.iaload, 1) := dk_46 (dk_at dksL_law_27 3 rfl rfl)
theorem dL_law_748 : decode cL_law 748 = .ok (.aload_n 0, 1) := dk_42 (dk_at dksL_law_27 4 rfl rfl)
theorem dL_law_749 : decode cL_law 749 = .ok (.iload_n 3, 1) := dk_29 (dk_at dksL_law_27 5 rfl rfl)
theorem dL_law_750 : decode cL_law 750 = .ok (.iconst 3, 1) := dk_6 (dk_at dksL_law_27 6 rfl rfl)
theorem dL_law_751 : decode cL_law 751 = .ok (.iadd, 1) := dk_96 (dk_at dksL_law_27 7 rfl rfl)
theorem dL_law_752 : decode cL_law 752 = .ok (.iaload, 1) := dk_46 (dk_at dksL_law_27 8 rfl rfl)
theorem dL_law_753 : decode cL_law 753 = .ok (.invokevirtual 89, 3) := dk_182 0 89 (dk_at dksL_law_27 9 rfl rfl)
theorem dL_law_756 : decode cL_law 756 = .ok (.aload_n 2, 1) := dk_44 (dk_at dksL_law_27 12 rfl rfl)
theorem dL_law_757 : decode cL_law 757 = .ok (.aload_n 0, 1) := dk_42 (dk_at dksL_law_27 13 rfl rfl)
theorem dL_law_758 : decode cL_law 758 = .ok (.iload_n 3, 1) := dk_29 (dk_at dksL_law_27 14 rfl rfl)
theorem dL_law_759 : decode cL_law 759 = .ok (.iconst 1, 1) := dk_4 (dk_at dksL_law_27 15 rfl rfl)
theorem dL_law_760 : decode cL_law 760 = .ok (.iadd, 1) := dk_96 (dk_at dksL_law_27 16 rfl rfl)
theorem dL_law_761 : decode cL_law 761 = .ok (.iaload, 1) := dk_46 (dk_at dksL_law_27 17 rfl rfl)
theorem dL_law_762 : decode cL_law 762 = .ok (.aload_n 0, 1) := dk_42 (dk_at dksL_law_27 18 rfl rfl)
theorem dL_law_763 : decode cL_law 763 = .ok (.iload_n 3, 1) := dk_29 (dk_at dksL_law_27 19 rfl rfl)
theorem dL_law_764 : decode cL_law 764 = .ok (.iconst 2, 1) := dk_5 (dk_at dksL_law_27 20 rfl rfl)
theorem dL_law_765 : decode cL_law 765 = .ok (.iadd, 1) := dk_96 (dk_at dksL_law_27 21 rfl rfl)
theorem dL_law_766 : decode cL_law 766 = .ok (.iaload, 1) := dk_46 (dk_at dksL_law_27 22 rfl rfl)
theorem dL_law_767 : decode cL_law 767 = .ok (.aload_n 0, 1) := dk_42 (dk_at dksL_law_27 23 rfl rfl)
theorem dL_law_768 : decode cL_law 768 = .ok (.iload_n 3, 1) := dk_29 (dk_at dksL_law_28 0 rfl rfl)
theorem dL_law_769 : decode cL_law 769 = .ok (.iconst 3, 1) := dk_6 (dk_at dksL_law_28 1 rfl rfl)
theorem dL_law_770 : decode cL_law 770 = .ok (.iadd, 1) := dk_96 (dk_at dksL_law_28 2 rfl rfl)
theorem dL_law_771 : decode cL_law 771 = .ok (.iaload, 1) := dk_46 (dk_at dksL_law_28 3 rfl rfl)
theorem dL_law_772 : decode cL_law 772 = .ok (.invokevirtual 92, 3) := dk_182 0 92 (dk_at dksL_law_28 4 rfl rfl)
theorem dL_law_775 : decode cL_law 775 = .ok (.if_icmp .eq 357, 3) := dk_159 1 101 (dk_at dksL_law_28 7 rfl rfl)
theorem dL_law_778 : decode cL_law 778 = .ok (.iconst 0, 1) := dk_3 (dk_at dksL_law_28 10 rfl rfl)
theorem dL_law_779 : decode cL_law 779 = .ok (.ireturn, 1) := dk_172 (dk_at dksL_law_28 11 rfl rfl)
theorem dL_law_780 : decode cL_law 780 = .ok (.aload_n 1, 1) := dk_43 (dk_at dksL_law_28 12 rfl rfl)
theorem dL_law_781 : decode cL_law 781 = .ok (.aload_n 0, 1) := dk_42 (dk_at dksL_law_28 13 rfl rfl)
theorem dL_law_782 : decode cL_law 782 = .ok (.iload_n 3, 1) := dk_29 (dk_at dksL_law_28 14 rfl rfl)
theorem dL_law_783 : decode cL_law 783 = .ok (.iconst 1, 1) := dk_4 (dk_at dksL_law_28 15 rfl rfl)
theorem dL_law_784 : decode cL_law 784 = .ok (.iadd, 1) := dk_96 (dk_at dksL_law_28 16 rfl rfl)
theorem dL_law_785 : decode cL_law 785 = .ok (.iaload, 1) := dk_46 (dk_at dksL_law_28 17 rfl rfl)
theorem dL_law_786 : decode cL_law 786 = .ok (.invokevirtual 93, 3) := dk_182 0 93 (dk_at dksL_law_28 18 rfl rfl)
theorem dL_law_789 : decode cL_law 789 = .ok (.aload_n 2, 1) := dk_44 (dk_at dksL_law_28 21 rfl rfl)
theorem dL_law_790 : decode cL_law 790 = .ok (.aload_n 0, 1) := dk_42 (dk_at dksL_law_28 22 rfl rfl)
theorem dL_law_791 : decode cL_law 791 = .ok (.iload_n 3, 1) := dk_29 (dk_at dksL_law_28 23 rfl rfl)
theorem dL_law_792 : decode cL_law 792 = .ok (.iconst 1, 1) := dk_4 (dk_at dksL_law_29 0 rfl rfl)
theorem dL_law_793 : decode cL_law 793 = .ok (.iadd, 1) := dk_96 (dk_at dksL_law_29 1 rfl rfl)
theorem dL_law_794 : decode cL_law 794 = .ok (.iaload, 1) := dk_46 (dk_at dksL_law_29 2 rfl rfl)
theorem dL_law_795 : decode cL_law 795 = .ok (.invokevirtual 96, 3) := dk_182 0 96 (dk_at dksL_law_29 3 rfl rfl)
theorem dL_law_798 : decode cL_law 798 = .ok (.if_icmp .eq 334, 3) := dk_159 1 78 (dk_at dksL_law_29 6 rfl rfl)
theorem dL_law_801 : decode cL_law 801 = .ok (.iconst 0, 1) := dk_3 (dk_at dksL_law_29 9 rfl rfl)
theorem dL_law_802 : decode cL_law 802 = .ok (.ireturn, 1) := dk_172 (dk_at dksL_law_29 10 rfl rfl)
theorem dL_law_803 : decode cL_law 803 = .ok (.aload_n 1, 1) := dk_43 (dk_at dksL_law_29 11 rfl rfl)
theorem dL_law_804 : decode cL_law 804 = .ok (.aload_n 0, 1) := dk_42 (dk_at dksL_law_29 12 rfl rfl)
theorem dL_law_805 : decode cL_law 805 = .ok (.iload_n 3, 1) := dk_29 (dk_at dksL_law_29 13 rfl rfl)
theorem dL_law_806 : decode cL_law 806 = .ok (.iconst 1, 1) := dk_4 (dk_at dksL_law_29 14 rfl rfl)
theorem dL_law_807 : decode cL_law 807 = .ok (.iadd, 1) := dk_96 (dk_at dksL_law_29 15 rfl rfl)
theorem dL_law_808 : decode cL_law 808 = .ok (.iaload, 1) := dk_46 (dk_at dksL_law_29 16 rfl rfl)
theorem dL_law_809 : decode cL_law 809 = .ok (.aload_n 0, 1) := dk_42 (dk_at dksL_law_29 17 rfl rfl)
theorem dL_law_810 : decode cL_law 810 = .ok (.iload_n 3, 1) := dk_29 (dk_at dksL_law_29 18 rfl rfl)
theorem dL_law_811 : decode cL_law 811 = .ok (.iconst 2, 1) := dk_5 (dk_at dksL_law_29 19 rfl rfl)
theorem dL_law_812 : decode cL_law 812 = .ok (.iadd, 1) := dk_96 (dk_at dksL_law_29 20 rfl rfl)
theorem dL_law_813 : decode cL_law 813 = .ok (.iaload, 1) := dk_46 (dk_at dksL_law_29 21 rfl rfl)
theorem dL_law_814 : decode cL_law 814 = .ok (.invokevirtual 97, 3) := dk_182 0 97 (dk_at dksL_law_30 0 rfl rfl)
theorem dL_law_817 : decode cL_law 817 = .ok (.aload_n 2, 1) := dk_44 (dk_at dksL_law_30 3 rfl rfl)
theorem dL_law_818 : decode cL_law 818 = .ok (.aload_n 0, 1) := dk_42 (dk_at dksL_law_30 4 rfl rfl)
theorem dL_law_819 : decode cL_law 819 = .ok (.iload_n 3, 1) := dk_29 (dk_at dksL_law_30 5 rfl rfl)
theorem dL_law_820 : decode cL_law 820 = .ok (.iconst 1, 1) := dk_4 (dk_at dksL_law_30 6 rfl rfl)
theorem dL_law_821 : decode cL_law 821 = .ok (.iadd, 1) := dk_96 (dk_at dksL_law_30 7 rfl rfl)
theorem dL_law_822 : decode cL_law 822 = .ok (.iaload, 1) := dk_46 (dk_at dksL_law_30 8 rfl rfl)
theorem dL_law_823 : decode cL_law 823 = .ok (.aload_n 0, 1) := dk_42 (dk_at dksL_law_30 9 rfl rfl)
theorem dL_law_824 : decode cL_law 824 = .ok (.iload_n 3, 1) := dk_29 (dk_at dksL_law_30 10 rfl rfl)
theorem dL_law_825 : decode cL_law 825 = .ok (.iconst 2, 1) := dk_5 (dk_at dksL_law_30 11 rfl rfl)
theorem dL_law_826 : decode cL_law 826 = .ok (.iadd, 1) := dk_96 (dk_at dksL_law_30 12 rfl rfl)
theorem dL_law_827 : decode cL_law 827 = .ok (.iaload, 1) := dk_46 (dk_at dksL_law_30 13 rfl rfl)
theorem dL_law_828 : decode cL_law 828 = .ok (.invokevirtual 100, 3) := dk_182 0 100 (dk_at dksL_law_30 14 rfl rfl)
theorem dL_law_831 : decode cL_law 831 = .ok (.if_icmp .eq 301, 3) := dk_159 1 45 (dk_at dksL_law_30 17 rfl rfl)
theorem dL_law_834 : decode cL_law 834 = .ok (.iconst 0, 1) := dk_3 (dk_at dksL_law_30 20 rfl rfl)
theorem dL_law_835 : decode cL_law 835 = .ok (.ireturn, 1) := dk_172 (dk_at dksL_law_30 21 rfl rfl)
theorem dL_law_836 : decode cL_law 836 = .ok (.aload_n 1, 1) := dk_43 (dk_at dksL_law_30 22 rfl rfl)
theorem dL_law_837 : decode cL_law 837 = .ok (.invokevirtual 101, 3) := dk_182 0 101 (dk_at dksL_law_31 0 rfl rfl)
theorem dL_law_840 : decode cL_law 840 = .ok (.aload_n 2, 1) := dk_44 (dk_at dksL_law_31 3 rfl rfl)
theorem dL_law_841 : decode cL_law 841 = .ok (.invokevirtual 104, 3) := dk_182 0 104 (dk_at dksL_law_31 4 rfl rfl)
theorem dL_law_844 : decode cL_law 844 = .ok (.if_icmp .eq 288, 3) := dk_159 1 32 (dk_at dksL_law_31 7 rfl rfl)
theorem dL_law_847 : decode cL_law 847 = .ok (.iconst 0, 1) := dk_3 (dk_at dksL_law_31 10 rfl rfl)
theorem dL_law_848 : decode cL_law 848 = .ok (.ireturn, 1) := dk_172 (dk_at dksL_law_31 11 rfl rfl)
theorem dL_law_849 : decode cL_law 849 = .ok (.aload_n 1, 1) := dk_43 (dk_at dksL_law_31 12 rfl rfl)
theorem dL_law_850 : decode cL_law 850 = .ok (.aload_n 0, 1) := dk_42 (dk_at dksL_law_31 13 rfl rfl)
theorem dL_law_851 : decode cL_law 851 = .ok (.iload_n 3, 1) := dk_29 (dk_at dksL_law_31 14 rfl rfl)
theorem dL_law_852 : decode cL_law 852 = .ok (.iconst 1, 1) := dk_4 (dk_at dksL_law_31 15 rfl rfl)
theorem dL_law_853 : decode cL_law 853 = .ok (.iadd, 1) := dk_96 (dk_at dksL_law_31 16 rfl rfl)
theorem dL_law_854 : decode cL_law 854 = .ok (.iaload, 1) := dk_46 (dk_at dksL_law_31 17 rfl rfl)
theorem dL_law_855 : decode cL_law 855 = .ok (.invokevirtual 105, 3) := dk_182 0 105 (dk_at dksL_law_31 18 rfl rfl)
theorem dL_law_858 : decode cL_law 858 = .ok (.aload_n 2, 1) := dk_44 (dk_at dksL_law_31 21 rfl rfl)
theorem dL_law_859 : decode cL_law 859 = .ok (.aload_n 0, 1) := dk_42 (dk_at dksL_law_31 22 rfl rfl)
theorem dL_law_860 : decode cL_law 860 = .ok (.iload_n 3, 1) := dk_29 (dk_at dksL_law_31 23 rfl rfl)
theorem dL_law_861 : decode cL_law 861 = .ok (.iconst 1, 1) := dk_4 (dk_at dksL_law_32 0 rfl rfl)
theorem dL_law_862 : decode cL_law 862 = .ok (.iadd, 1) := dk_96 (dk_at dksL_law_32 1 rfl rfl)
theorem dL_law_863 : decode cL_law 863 = .ok (.iaload, 1) := dk_46 (dk_at dksL_law_32 2 rfl rfl)
theorem dL_law_864 : decode cL_law 864 = .ok (.invokevirtual 108, 3) := dk_182 0 108 (dk_at dksL_law_32 3 rfl rfl)
theorem dL_law_867 : decode cL_law 867 = .ok (.if_icmp .eq 265, 3) := dk_159 1 9 (dk_at dksL_law_32 6 rfl rfl)
theorem dL_law_870 : decode cL_law 870 = .ok (.iconst 0, 1) := dk_3 (dk_at dksL_law_32 9 rfl rfl)
theorem dL_law_871 : decode cL_law 871 = .ok (.ireturn, 1) := dk_172 (dk_at dksL_law_32 10 rfl rfl)
theorem dL_law_872 : decode cL_law 872 = .ok (.aload_n 1, 1) := dk_43 (dk_at dksL_law_32 11 rfl rfl)
theorem dL_law_873 : decode cL_law 873 = .ok (.aload_n 0, 1) := dk_42 (dk_at dksL_law_32 12 rfl rfl)
theorem dL_law_874 : decode cL_law 874 = .ok (.iload_n 3, 1) := dk_29 (dk_at dksL_law_32 13 rfl rfl)
theorem dL_law_875 : decode cL_law 875 = .ok (.iconst 1, 1) := dk_4 (dk_at dksL_law_32 14 rfl rfl)
theorem dL_law_876 : decode cL_law 876 = .ok (.iadd, 1) := dk_96 (dk_at dksL_law_32 15 rfl rfl)
theorem dL_law_877 : decode cL_law 877 = .ok (.iaload, 1) := dk_46 (dk_at dksL_law_32 16 rfl rfl)
theorem dL_law_878 : decode cL_law 878 = .ok (.invokevirtual 109, 3) := dk_182 0 109 (dk_at dksL_law_32 17 rfl rfl)
theorem dL_law_881 : decode cL_law 881 = .ok (.aload_n 2, 1) := dk_44 (dk_at dksL_law_32 20 rfl rfl)
theorem dL_law_882 : decode cL_law 882 = .ok (.aload_n 0, 1) := dk_42 (dk_at dksL_law_32 21 rfl rfl)
theorem dL_law_883 : decode cL_law 883 = .ok (.iload_n 3, 1) := dk_29 (dk_at dksL_law_32 22 rfl rfl)
theorem dL_law_884 : decode cL_law 884 = .ok (.iconst 1, 1) := dk_4 (dk_at dksL_law_32 23 rfl rfl)
theorem dL_law_885 : decode cL_law 885 = .ok (.iadd, 1) := dk_96 (dk_at dksL_law_33 0 rfl rfl)
theorem dL_law_886 : decode cL_law 886 = .ok (.iaload, 1) := dk_46 (dk_at dksL_law_33 1 rfl rfl)
theorem dL_law_887 : decode cL_law 887 = .ok (.invokevirtual 112, 3) := dk_182 0 112 (dk_at dksL_law_33 2 rfl rfl)
theorem dL_law_890 : decode cL_law 890 = .ok (.if_icmp .eq 242, 3) := dk_159 0 242 (dk_at dksL_law_33 5 rfl rfl)
theorem dL_law_893 : decode cL_law 893 = .ok (.iconst 0, 1) := dk_3 (dk_at dksL_law_33 8 rfl rfl)
theorem dL_law_894 : decode cL_law 894 = .ok (.ireturn, 1) := dk_172 (dk_at dksL_law_33 9 rfl rfl)
theorem dL_law_895 : decode cL_law 895 = .ok (.aload_n 1, 1) := dk_43 (dk_at dksL_law_33 10 rfl rfl)
theorem dL_law_896 : decode cL_law 896 = .ok (.aload_n 0, 1) := dk_42 (dk_at dksL_law_33 11 rfl rfl)
theorem dL_law_897 : decode cL_law 897 = .ok (.iload_n 3, 1) := dk_29 (dk_at dksL_law_33 12 rfl rfl)
theorem dL_law_898 : decode cL_law 898 = .ok (.iconst 1, 1) := dk_4 (dk_at dksL_law_33 13 rfl rfl)
theorem dL_law_899 : decode cL_law 899 = .ok (.iadd, 1) := dk_96 (dk_at dksL_law_33 14 rfl rfl)
theorem dL_law_900 : decode cL_law 900 = .ok (.iaload, 1) := dk_46 (dk_at dksL_law_33 15 rfl rfl)
theorem dL_law_901 : decode cL_law 901 = .ok (.aload_n 0, 1) := dk_42 (dk_at dksL_law_33 16 rfl rfl)
theorem dL_law_902 : decode cL_law 902 = .ok (.iload_n 3, 1) := dk_29 (dk_at dksL_law_33 17 rfl rfl)
theorem dL_law_903 : decode cL_law 903 = .ok (.iconst 2, 1) := dk_5 (dk_at dksL_law_33 18 rfl rfl)
theorem dL_law_904 : decode cL_law 904 = .ok (.iadd, 1) := dk_96 (dk_at dksL_law_33 19 rfl rfl)
theorem dL_law_905 : decode cL_law 905 = .ok (.iaload, 1) := dk_46 (dk_at dksL_law_33 20 rfl rfl)
theorem dL_law_906 : decode cL_law 906 = .ok (.invokevirtual 113, 3) := dk_182 0 113 (dk_at dksL_law_33 21 rfl rfl)
theorem dL_law_909 : decode cL_law 909 = .ok (.aload_n 2, 1) := dk_44 (dk_at dksL_law_34 0 rfl rfl)
theorem dL_law_910 : decode cL_law 910 = .ok (.aload_n 0, 1) := dk_42 (dk_at dksL_law_34 1 rfl rfl)
theorem dL_law_911 : decode cL_law 911 = .ok (.iload_n 3, 1) := dk_29 (dk_at dksL_law_34 2 rfl rfl)
theorem dL_law_912 : decode cL_law 912 = .ok (.iconst 1, 1) := dk_4 (dk_at dksL_law_34 3 rfl rfl)
theorem dL_law_913 : decode cL_law 913 = .ok (.iadd, 1) := dk_96 (dk_at dksL_law_34 4 rfl rfl)
theorem dL_law_914 : decode cL_law 914 = .ok (.iaload, 1) := dk_46 (dk_at dksL_law_34 5 rfl rfl)
theorem dL_law_915 : decode cL_law 915 = .ok (.aload_n 0, 1) := dk_42 (dk_at dksL_law_34 6 rfl rfl)
theorem dL_law_916 : decode cL_law 916 = .ok (.iload_n 3, 1) := dk_29 (dk_at dksL_law_34 7 rfl rfl)
theorem dL_law_917 : decode cL_law 917 = .ok (.iconst 2, 1) := dk_5 (dk_at dksL_law_34 8 rfl rfl)
theorem dL_law_918 : decode cL_law 918 = .ok (.iadd, 1) := dk_96 (dk_at dksL_law_34 9 rfl rfl)
theorem dL_law_919 : decode cL_law 919 = .ok (.iaload, 1) := dk_46 (dk_at dksL_law_34 10 rfl rfl)
theorem dL_law_920 : decode cL_law 920 = .ok (.invokevirtual 116, 3) := dk_182 0 116 (dk_at dksL_law_34 11 rfl rfl)
theorem dL_law_923 : decode cL_law 923 = .ok (.if_icmp .eq 209, 3) := dk_159 0 209 (dk_at dksL_law_34 14 rfl rfl)
theorem dL_law_926 : decode cL_law 926 = .ok (.iconst 0, 1) := dk_3 (dk_at dksL_law_34 17 rfl rfl)
theorem dL_law_927 : decode cL_law 927 = .ok (.ireturn, 1) := dk_172 (dk_at dksL_law_34 18 rfl rfl)
theorem dL_law_928 : decode cL_law 928 = .ok (.aload_n 1, 1) := dk_43 (dk_at dksL_law_34 19 rfl rfl)
theorem dL_law_929 : decode cL_law 929 = .ok (.invokevirtual 117, 3) := dk_182 0 117 (dk_at dksL_law_34 20 rfl rfl)
theorem dL_law_932 : decode cL_law 932 = .ok (.aload_n 2, 1) := dk_44 (dk_at dksL_law_34 23 rfl rfl)
theorem dL_law_933 : decode cL_law 933 = .ok (.invokevirtual 120, 3) := dk_182 0 120 (dk_at dksL_law_35 0 rfl rfl)
theorem dL_law_936 : decode cL_law 936 = .ok (.if_icmp .eq 196, 3) := dk_159 0 196 (dk_at dksL_law_35 3 rfl rfl)
theorem dL_law_939 : decode cL_law 939 = .ok (.iconst 0, 1) := dk_3 (dk_at dksL_law_35 6 rfl rfl)
theorem dL_law_940 : decode cL_law 940 = .ok (.ireturn, 1) := dk_172 (dk_at dksL_law_35 7 rfl rfl)
theorem dL_law_941 : decode cL_law 941 = .ok (.aload_n 1, 1) := dk_43 (dk_at dksL_law_35 8 rfl rfl)
theorem dL_law_942 : decode cL_law 942 = .ok (.aload_n 0, 1) := dk_42 (dk_at dksL_law_35 9 rfl rfl)
theorem dL_law_943 : decode cL_law 943 = .ok (.iload_n 3, 1) := dk_29 (dk_at dksL_law_35 10 rfl rfl)
theorem dL_law_944 : decode cL_law 944 = .ok (.iconst 1, 1) := dk_4 (dk_at dksL_law_35 11 rfl rfl)
theorem dL_law_945 : decode cL_law 945 = .ok (.iadd, 1) := dk_96 (dk_at dksL_law_35 12 rfl rfl)
theorem dL_law_946 : decode cL_law 946 = .ok (.iaload, 1) := dk_46 (dk_at dksL_law_35 13 rfl rfl)
theorem dL_law_947 : decode cL_law 947 = .ok (.invokevirtual 121, 3) := dk_182 0 121 (dk_at dksL_law_35 14 rfl rfl)
theorem dL_law_950 : decode cL_law 950 = .ok (.aload_n 2, 1) := dk_44 (dk_at dksL_law_35 17 rfl rfl)
theorem dL_law_951 : decode cL_law 951 = .ok (.aload_n 0, 1) := dk_42 (dk_at dksL_law_35 18 rfl rfl)
theorem dL_law_952 : decode cL_law 952 = .ok (.iload_n 3, 1) := dk_29 (dk_at dksL_law_35 19 rfl rfl)
theorem dL_law_953 : decode cL_law 953 = .ok (.iconst 1, 1) := dk_4 (dk_at dksL_law_35 20 rfl rfl)
theorem dL_law_954 : decode cL_law 954 = .ok (.iadd, 1) := dk_96 (dk_at dksL_law_35 21 rfl rfl)
theorem dL_law_955 : decode cL_law 955 = .ok (.iaload, 1) := dk_46 (dk_at dksL_law_35 22 rfl rfl)
theorem dL_law_956 : decode cL_law 956 = .ok (.invokevirtual 124, 3) := dk_182 0 124 (dk_at dksL_law_36 0 rfl rfl)
theorem dL_law_959 : decode cL_law 959 = .ok (.if_icmp .eq 173, 3) := dk_159 0 173 (dk_at dksL_law_36 3 rfl rfl)
theorem dL_law_962 : decode cL_law 962 = .ok (.iconst 0, 1) := dk_3 (dk_at dksL_law_36 6 rfl rfl)
theorem dL_law_963 : decode cL_law 963 = .ok (.ireturn, 1) := dk_172 (dk_at dksL_law_36 7 rfl rfl)
theorem dL_law_964 : decode cL_law 964 = .ok (.aload_n 1, 1) := dk_43 (dk_at dksL_law_36 8 rfl rfl)
theorem dL_law_965 : decode cL_law 965 = .ok (.aload_n 0, 1) := dk_42 (dk_at dksL_law_36 9 rfl rfl)
theorem dL_law_966 : decode cL_law 966 = .ok (.iload_n 3, 1) := dk_29 (dk_at dksL_law_36 10 rfl rfl)
theorem dL_law_967 : decode cL_law 967 = .ok (.iconst 1, 1) := dk_4 (dk_at dksL_law_36 11 rfl rfl)
theorem dL_law_968 : decode cL_law 968 = .ok (.iadd, 1) := dk_96 (dk_at dksL_law_36 12 rfl rfl)
theorem dL_law_969 : decode cL_law 969 = .ok (.iaload, 1) := dk_46 (dk_at dksL_law_36 13 rfl rfl)
theorem dL_law_970 : decode cL_law 970 = .ok (.invokevirtual 125, 3) := dk_182 0 125 (dk_at dksL_law_36 14 rfl rfl)
theorem dL_law_973 : decode cL_law 973 = .ok (.aload_n 2, 1) := dk_44 (dk_at dksL_law_36 17 rfl rfl)
theorem dL_law_974 : decode cL_law 974 = .ok (.aload_n 0, 1) := dk_42 (dk_at dksL_law_36 18 rfl rfl)
theorem dL_law_975 : decode cL_law 975 = .ok (.iload_n 3, 1) := dk_29 (dk_at dksL_law_36 19 rfl rfl)
theorem dL_law_976 : decode cL_law 976 = .ok (.iconst 1, 1) := dk_4 (dk_at dksL_law_36 20 rfl rfl)
theorem dL_law_977 : decode cL_law 977 = .ok (.iadd, 1) := dk_96 (dk_at dksL_law_36 21 rfl rfl)
theorem dL_law_978 : decode cL_law 978 = .ok (.iaload, 1) := dk_46 (dk_at dksL_law_36 22 rfl rfl)
theorem dL_law_979 : decode cL_law 979 = .ok (.invokevirtual 128, 3) := dk_182 0 128 (dk_at dksL_law_37 0 rfl rfl)
theorem dL_law_982 : decode cL_law 982 = .ok (.if_icmp .eq 150, 3) := dk_159 0 150 (dk_at dksL_law_37 3 rfl rfl)
theorem dL_law_985 : decode cL_law 985 = .ok (.iconst 0, 1) := dk_3 (dk_at dksL_law_37 6 rfl rfl)
theorem dL_law_986 : decode cL_law 986 = .ok (.ireturn, 1) := dk_172 (dk_at dksL_law_37 7 rfl rfl)
theorem dL_law_987 : decode cL_law 987 = .ok (.aload_n 1, 1) := dk_43 (dk_at dksL_law_37 8 rfl rfl)
theorem dL_law_988 : decode cL_law 988 = .ok (.aload_n 0, 1) := dk_42 (dk_at dksL_law_37 9 rfl rfl)
theorem dL_law_989 : decode cL_law 989 = .ok (.iload_n 3, 1) := dk_29 (dk_at dksL_law_37 10 rfl rfl)
theorem dL_law_990 : decode cL_law 990 = .ok (.iconst 1, 1) := dk_4 (dk_at dksL_law_37 11 rfl rfl)
theorem dL_law_991 : decode cL_law 991 = .ok (.iadd, 1) := dk_96 (dk_at dksL_law_37 12 rfl rfl)
theorem dL_law_992 : decode cL_law 992 = .ok (.iaload, 1) := dk_46 (dk_at dksL_law_37 13 rfl rfl)
theorem dL_law_993 : decode cL_law 993 = .ok (.aload_n 0, 1) := dk_42 (dk_at dksL_law_37 14 rfl rfl)
theorem dL_law_994 : decode cL_law 994 = .ok (.iload_n 3, 1) := dk_29 (dk_at dksL_law_37 15 rfl rfl)
theorem dL_law_995 : decode cL_law 995 = .ok (.iconst 2, 1) := dk_5 (dk_at dksL_law_37 16 rfl rfl)
theorem dL_law_996 : decode cL_law 996 = .ok (.iadd, 1) := dk_96 (dk_at dksL_law_37 17 rfl rfl)
theorem dL_law_997 : decode cL_law 997 = .ok (.iaload, 1) := dk_46 (dk_at dksL_law_37 18 rfl rfl)
theorem dL_law_998 : decode cL_law 998 = .ok (.invokevirtual 129, 3) := dk_182 0 129 (dk_at dksL_law_37 19 rfl rfl)
theorem dL_law_1001 : decode cL_law 1001 = .ok (.aload_n 2, 1) := dk_44 (dk_at dksL_law_37 22 rfl rfl)
theorem dL_law_1002 : decode cL_law 1002 = .ok (.aload_n 0, 1) := dk_42 (dk_at dksL_law_37 23 rfl rfl)
theorem dL_law_1003 : decode cL_law 1003 = .ok (.iload_n 3, 1) := dk_29 (dk_at dksL_law_38 0 rfl rfl)
theorem dL_law_1004 : decode cL_law 1004 = .ok (.iconst 1, 1) := dk_4 (dk_at dksL_law_38 1 rfl rfl)
theorem dL_law_1005 : decode cL_law 1005 = .ok (.iadd, 1) := dk_96 (dk_at dksL_law_38 2 rfl rfl)
theorem dL_law_1006 : decode cL_law 1006 = .ok (.iaload, 1) := dk_46 (dk_at dksL_law_38 3 rfl rfl)
theorem dL_law_1007 : decode cL_law 1007 = .ok (.aload_n 0, 1) := dk_42 (dk_at dksL_law_38 4 rfl rfl)
theorem dL_law_1008 : decode cL_law 1008 = .ok (.iload_n 3, 1) := dk_29 (dk_at dksL_law_38 5 rfl rfl)
theorem dL_law_1009 : decode cL_law 1009 = .ok (.iconst 2, 1) := dk_5 (dk_at dksL_law_38 6 rfl rfl)
theorem dL_law_1010 : decode cL_law 1010 = .ok (.iadd, 1) := dk_96 (dk_at dksL_law_38 7 rfl rfl)
theorem dL_law_1011 : decode cL_law 1011 = .ok (.iaload, 1) := dk_46 (dk_at dksL_law_38 8 rfl rfl)
theorem dL_law_1012 : decode cL_law 1012 = .ok (.invokevirtual 132, 3) := dk_182 0 132 (dk_at dksL_law_38 9 rfl rfl)
theorem dL_law_1015 : decode cL_law 1015 = .ok (.if_icmp .eq 117, 3) := dk_159 0 117 (dk_at dksL_law_38 12 rfl rfl)
theorem dL_law_1018 : decode cL_law 1018 = .ok (.iconst 0, 1) := dk_3 (dk_at dksL_law_38 15 rfl rfl)
theorem dL_law_1019 : decode cL_law 1019 = .ok (.ireturn, 1) := dk_172 (dk_at dksL_law_38 16 rfl rfl)
theorem dL_law_1020 : decode cL_law 1020 = .ok (.aload_n 1, 1) := dk_43 (dk_at dksL_law_38 17 rfl rfl)
theorem dL_law_1021 : decode cL_law 1021 = .ok (.aload_n 0, 1) := dk_42 (dk_at dksL_law_38 18 rfl rfl)
theorem dL_law_1022 : decode cL_law 1022 = .ok (.iload_n 3, 1) := dk_29 (dk_at dksL_law_38 19 rfl rfl)
theorem dL_law_1023 : decode cL_law 1023 = .ok (.iconst 1, 1) := dk_4 (dk_at dksL_law_38 20 rfl rfl)
theorem dL_law_1024 : decode cL_law 1024 = .ok (.iadd, 1) := dk_96 (dk_at dksL_law_38 21 rfl rfl)
theorem dL_law_1025 : decode cL_law 1025 = .ok (.iaload, 1) := dk_46 (dk_at dksL_law_38 22 rfl rfl)
theorem dL_law_1026 : decode cL_law 1026 = .ok (.aload_n 0, 1) := dk_42 (dk_at dksL_law_38 23 rfl rfl)
theorem dL_law_1027 : decode cL_law 1027 = .ok (.iload_n 3, 1) := dk_29 (dk_at dksL_law_39 0 rfl rfl)
theorem dL_law_1028 : decode cL_law 1028 = .ok (.iconst 2, 1) := dk_5 (dk_at dksL_law_39 1 rfl rfl)
theorem dL_law_1029 : decode cL_law 1029 = .ok (.iadd, 1) := dk_96 (dk_at dksL_law_39 2 rfl rfl)
theorem dL_law_1030 : decode cL_law 1030 = .ok (.iaload, 1) := dk_46 (dk_at dksL_law_39 3 rfl rfl)
theorem dL_law_1031 : decode cL_law 1031 = .ok (.aload_n 0, 1) := dk_42 (dk_at dksL_law_39 4 rfl rfl)
theorem dL_law_1032 : decode cL_law 1032 = .ok (.iload_n 3, 1) := dk_29 (dk_at dksL_law_39 5 rfl rfl)
theorem dL_law_1033 : decode cL_law 1033 = .ok (.iconst 3, 1) := dk_6 (dk_at dksL_law_39 6 rfl rfl)
theorem dL_law_1034 : decode cL_law 1034 = .ok (.iadd, 1) := dk_96 (dk_at dksL_law_39 7 rfl rfl)
theorem dL_law_1035 : decode cL_law 1035 = .ok (.iaload, 1) := dk_46 (dk_at dksL_law_39 8 rfl rfl)
theorem dL_law_1036 : decode cL_law 1036 = .ok (.invokevirtual 133, 3) := dk_182 0 133 (dk_at dksL_law_39 9 rfl rfl)
theorem dL_law_1039 : decode cL_law 1039 = .ok (.aload_n 2, 1) := dk_44 (dk_at dksL_law_39 12 rfl rfl)
theorem dL_law_1040 : decode cL_law 1040 = .ok (.aload_n 0, 1) := dk_42 (dk_at dksL_law_39 13 rfl rfl)
theorem dL_law_1041 : decode cL_law 1041 = .ok (.iload_n 3, 1) := dk_29 (dk_at dksL_law_39 14 rfl rfl)
theorem dL_law_1042 : decode cL_law 1042 = .ok (.iconst 1, 1) := dk_4 (dk_at dksL_law_39 15 rfl rfl)
theorem dL_law_1043 : decode cL_law 1043 = .ok (.iadd, 1) := dk_96 (dk_at dksL_law_39 16 rfl rfl)
theorem dL_law_1044 : decode cL_law 1044 = .ok (.iaload, 1) := dk_46 (dk_at dksL_law_39 17 rfl rfl)
theorem dL_law_1045 : decode cL_law 1045 = .ok (.aload_n 0, 1) := dk_42 (dk_at dksL_law_39 18 rfl rfl)
theorem dL_law_1046 : decode cL_law 1046 = .ok (.iload_n 3, 1) := dk_29 (dk_at dksL_law_39 19 rfl rfl)
theorem dL_law_1047 : decode cL_law 1047 = .ok (.iconst 2, 1) := dk_5 (dk_at dksL_law_39 20 rfl rfl)
theorem dL_law_1048 : decode cL_law 1048 = .ok (.iadd, 1) := dk_96 (dk_at dksL_law_39 21 rfl rfl)
theorem dL_law_1049 : decode cL_law 1049 = .ok (.iaload, 1) := dk_46 (dk_at dksL_law_39 22 rfl rfl)
theorem dL_law_1050 : decode cL_law 1050 = .ok (.aload_n 0, 1) := dk_42 (dk_at dksL_law_39 23 rfl rfl)
theorem dL_law_1051 : decode cL_law 1051 = .ok (.iload_n 3, 1) := dk_29 (dk_at dksL_law_40 0 rfl rfl)
theorem dL_law_1052 : decode cL_law 1052 = .ok (.iconst 3, 1) := dk_6 (dk_at dksL_law_40 1 rfl rfl)
theorem dL_law_1053 : decode cL_law 1053 = .ok (.iadd, 1) := dk_96 (dk_at dksL_law_40 2 rfl rfl)
theorem dL_law_1054 : decode cL_law 1054 = .ok (.iaload, 1) := dk_46 (dk_at dksL_law_40 3 rfl rfl)
theorem dL_law_1055 : decode cL_law 1055 = .ok (.invokevirtual 136, 3) := dk_182 0 136 (dk_at dksL_law_40 4 rfl rfl)
theorem dL_law_1058 : decode cL_law 1058 = .ok (.if_icmp .eq 74, 3) := dk_159 0 74 (dk_at dksL_law_40 7 rfl rfl)
theorem dL_law_1061 : decode cL_law 1061 = .ok (.iconst 0, 1) := dk_3 (dk_at dksL_law_40 10 rfl rfl)
theorem dL_law_1062 : decode cL_law 1062 = .ok (.ireturn, 1) := dk_172 (dk_at dksL_law_40 11 rfl rfl)
theorem dL_law_1063 : decode cL_law 1063 = .ok (.aload_n 1, 1) := dk_43 (dk_at dksL_law_40 12 rfl rfl)
theorem dL_law_1064 : decode cL_law 1064 = .ok (.invokevirtual 137, 3) := dk_182 0 137 (dk_at dksL_law_40 13 rfl rfl)
theorem dL_law_1067 : decode cL_law 1067 = .ok (.aload_n 2, 1) := dk_44 (dk_at dksL_law_40 16 rfl rfl)
theorem dL_law_1068 : decode cL_law 1068 = .ok (.invokevirtual 140, 3) := dk_182 0 140 (dk_at dksL_law_40 17 rfl rfl)
theorem dL_law_1071 : decode cL_law 1071 = .ok (.if_icmp .eq 61, 3) := dk_159 0 61 (dk_at dksL_law_40 20 rfl rfl)
theorem dL_law_1074 : decode cL_law 1074 = .ok (.iconst 0, 1) := dk_3 (dk_at dksL_law_40 23 rfl rfl)
theorem dL_law_1075 : decode cL_law 1075 = .ok (.ireturn, 1) := dk_172 (dk_at dksL_law_41 0 rfl rfl)
theorem dL_law_1076 : decode cL_law 1076 = .ok (.aload_n 1, 1) := dk_43 (dk_at dksL_law_41 1 rfl rfl)
theorem dL_law_1077 : decode cL_law 1077 = .ok (.aload_n 0, 1) := dk_42 (dk_at dksL_law_41 2 rfl rfl)
theorem dL_law_1078 : decode cL_law 1078 = .ok (.iload_n 3, 1) := dk_29 (dk_at dksL_law_41 3 rfl rfl)
theorem dL_law_1079 : decode cL_law 1079 = .ok (.iconst 1, 1) := dk_4 (dk_at dksL_law_41 4 rfl rfl)
theorem dL_law_1080 : decode cL_law 1080 = .ok (.iadd, 1) := dk_96 (dk_at dksL_law_41 5 rfl rfl)
theorem dL_law_1081 : decode cL_law 1081 = .ok (.iaload, 1) := dk_46 (dk_at dksL_law_41 6 rfl rfl)
theorem dL_law_1082 : decode cL_law 1082 = .ok (.aload_n 0, 1) := dk_42 (dk_at dksL_law_41 7 rfl rfl)
theorem dL_law_1083 : decode cL_law 1083 = .ok (.iload_n 3, 1) := dk_29 (dk_at dksL_law_41 8 rfl rfl)
theorem dL_law_1084 : decode cL_law 1084 = .ok (.iconst 2, 1) := dk_5 (dk_at dksL_law_41 9 rfl rfl)
theorem dL_law_1085 : decode cL_law 1085 = .ok (.iadd, 1) := dk_96 (dk_at dksL_law_41 10 rfl rfl)
theorem dL_law_1086 : decode cL_law 1086 = .ok (.iaload, 1) := dk_46 (dk_at dksL_law_41 11 rfl rfl)
theorem dL_law_1087 : decode cL_law 1087 = .ok (.invokevirtual 141, 3) := dk_182 0 141 (dk_at dksL_law_41 12 rfl rfl)
theorem dL_law_1090 : decode cL_law 1090 = .ok (.aload_n 2, 1) := dk_44 (dk_at dksL_law_41 15 rfl rfl)
theorem dL_law_1091 : decode cL_law 1091 = .ok (.aload_n 0, 1) := dk_42 (dk_at dksL_law_41 16 rfl rfl)
theorem dL_law_1092 : decode cL_law 1092 = .ok (.iload_n 3, 1) := dk_29 (dk_at dksL_law_41 17 rfl rfl)
theorem dL_law_1093 : decode cL_law 1093 = .ok (.iconst 1, 1) := dk_4 (dk_at dksL_law_41 18 rfl rfl)
theorem dL_law_1094 : decode cL_law 1094 = .ok (.iadd, 1) := dk_96 (dk_at dksL_law_41 19 rfl rfl)
theorem dL_law_1095 : decode cL_law 1095 = .ok (.iaload, 1) := dk_46 (dk_at dksL_law_41 20 rfl rfl)
theorem dL_law_1096 : decode cL_law 1096 = .ok (.aload_n 0, 1) := dk_42 (dk_at dksL_law_41 21 rfl rfl)
theorem dL_law_1097 : decode cL_law 1097 = .ok (.iload_n 3, 1) := dk_29 (dk_at dksL_law_41 22 rfl rfl)
theorem dL_law_1098 : decode cL_law 1098 = .ok (.iconst 2, 1) := dk_5 (dk_at dksL_law_41 23 rfl rfl)
theorem dL_law_1099 : decode cL_law 1099 = .ok (.iadd, 1) := dk_96 (dk_at dksL_law_42 0 rfl rfl)
theorem dL_law_1100 : decode cL_law 1100 = .ok (.iaload, 1) := dk_46 (dk_at dksL_law_42 1 rfl rfl)
theorem dL_law_1101 : decode cL_law 1101 = .ok (.invokevirtual 144, 3) := dk_182 0 144 (dk_at dksL_law_42 2 rfl rfl)
theorem dL_law_1104 : decode cL_law 1104 = .ok (.if_icmp .eq 28, 3) := dk_159 0 28 (dk_at dksL_law_42 5 rfl rfl)
theorem dL_law_1107 : decode cL_law 1107 = .ok (.iconst 0, 1) := dk_3 (dk_at dksL_law_42 8 rfl rfl)
theorem dL_law_1108 : decode cL_law 1108 = .ok (.ireturn, 1) := dk_172 (dk_at dksL_law_42 9 rfl rfl)
theorem dL_law_1109 : decode cL_law 1109 = .ok (.aload_n 1, 1) := dk_43 (dk_at dksL_law_42 10 rfl rfl)
theorem dL_law_1110 : decode cL_law 1110 = .ok (.aload_n 0, 1) := dk_42 (dk_at dksL_law_42 11 rfl rfl)
theorem dL_law_1111 : decode cL_law 1111 = .ok (.iload_n 3, 1) := dk_29 (dk_at dksL_law_42 12 rfl rfl)
theorem dL_law_1112 : decode cL_law 1112 = .ok (.iconst 1, 1) := dk_4 (dk_at dksL_law_42 13 rfl rfl)
theorem dL_law_1113 : decode cL_law 1113 = .ok (.iadd, 1) := dk_96 (dk_at dksL_law_42 14 rfl rfl)
theorem dL_law_1114 : decode cL_law 1114 = .ok (.iaload, 1) := dk_46 (dk_at dksL_law_42 15 rfl rfl)
theorem dL_law_1115 : decode cL_law 1115 = .ok (.invokevirtual 145, 3) := dk_182 0 145 (dk_at dksL_law_42 16 rfl rfl)
theorem dL_law_1118 : decode cL_law 1118 = .ok (.aload_n 2, 1) := dk_44 (dk_at dksL_law_42 19 rfl rfl)
theorem dL_law_1119 : decode cL_law 1119 = .ok (.aload_n 0, 1) := dk_42 (dk_at dksL_law_42 20 rfl rfl)
theorem dL_law_1120 : decode cL_law 1120 = .ok (.iload_n 3, 1) := dk_29 (dk_at dksL_law_42 21 rfl rfl)
theorem dL_law_1121 : decode cL_law 1121 = .ok (.iconst 1, 1) := dk_4 (dk_at dksL_law_42 22 rfl rfl)
theorem dL_law_1122 : decode cL_law 1122 = .ok (.iadd, 1) := dk_96 (dk_at dksL_law_42 23 rfl rfl)
theorem dL_law_1123 : decode cL_law 1123 = .ok (.iaload, 1) := dk_46 (dk_at dksL_law_43 0 rfl rfl)
theorem dL_law_1124 : decode cL_law 1124 = .ok (.invokevirtual 148, 3) := dk_182 0 148 (dk_at dksL_law_43 1 rfl rfl)
theorem dL_law_1127 : decode cL_law 1127 = .ok (.if_icmp .eq 5, 3) := dk_159 0 5 (dk_at dksL_law_43 4 rfl rfl)
theorem dL_law_1130 : decode cL_law 1130 = .ok (.iconst 0, 1) := dk_3 (dk_at dksL_law_43 7 rfl rfl)
theorem dL_law_1131 : decode cL_law 1131 = .ok (.ireturn, 1) := dk_172 (dk_at dksL_law_43 8 rfl rfl)
theorem dL_law_1132 : decode cL_law 1132 = .ok (.iinc 3 6, 3) := dk_132 3 6 (dk_at dksL_law_43 9 rfl rfl)
theorem dL_law_1135 : decode cL_law 1135 = .ok (.goto (-1117), 3) := dk_167 251 163 (dk_at dksL_law_43 12 rfl rfl)
theorem dL_law_1138 : decode cL_law 1138 = .ok (.iconst 1, 1) := dk_4 (dk_at dksL_law_43 15 rfl rfl)
theorem dL_law_1139 : decode cL_law 1139 = .ok (.ireturn, 1) := dk_172 (dk_at dksL_law_43 16 rfl rfl)
def dkwX1_init_1 : List UInt8 := [181, 0, 18, 177]
abbrev dktX1_init_1 : List UInt8 := dkwX1_init_1 ++ []
def dkwX1_init_0 : List UInt8 := [42, 183, 0, 3, 42, 187, 0, 9, 89, 183, 0, 11, 181, 0, 12, 42, 187, 0, 9, 89, 183, 0, 11]
abbrev dktX1_init_0 : List UInt8 := dkwX1_init_0 ++ dktX1_init_1
theorem dksX1_init_0 : cX1_init.data.toList.drop 0 = dktX1_init_0 := by decide +kernel
theorem dksX1_init_1 : cX1_init.data.toList.drop 23 = dktX1_init_1 := dk_seg dksX1_init_0 23 rfl rfl
theorem dX1_init_0 : decode cX1_init 0 = .ok (.aload_n 0, 1) := dk_42 (dk_at dksX1_init_0 0 rfl rfl)
theorem dX1_init_1 : decode cX1_init 1 = .ok (.invokespecial 3, 3) := dk_183 0 3 (dk_at dksX1_init_0 1 rfl rfl)
theorem dX1_init_4 : decode cX1_init 4 = .ok (.aload_n 0, 1) := dk_42 (dk_at dksX1_init_0 4 rfl rfl)
theorem dX1_init_5 : decode cX1_init 5 = .ok (.new 9, 3) := dk_187 0 9 (dk_at dksX1_init_0 5 rfl rfl)
theorem dX1_init_8 : decode cX1_init 8 = .ok (.dup, 1) := dk_89 (dk_at dksX1_init_0 8 rfl rfl)
theorem dX1_init_9 : decode cX1_init 9 = .ok (.invokespecial 11, 3) := dk_183 0 11 (dk_at dksX1_init_0 9 rfl rfl)
theorem dX1_init_12 : decode cX1_init 12 = .ok (.putfield 12, 3) := dk_181 0 12 (dk_at dksX1_init_0 12 rfl rfl)
theorem dX1_init_15 : decode cX1_init 15 = .ok (.aload_n 0, 1) := dk_42 (dk_at dksX1_init_0 15 rfl rfl)
theorem dX1_init_16 : decode cX1_init 16 = .ok (.new 9, 3) := dk_187 0 9 (dk_at dksX1_init_0 16 rfl rfl)
theorem dX1_init_19 : decode cX1_init 19 = .ok (.dup, 1) := dk_89 (dk_at dksX1_init_0 19 rfl rfl)
theorem dX1_init_20 : decode cX1_init 20 = .ok (.invokespecial 11, 3) := dk_183 0 11 (dk_at dksX1_init_0 20 rfl rfl)
theorem dX1_init_23 : decode cX1_init 23 = .ok (.putfield 18, 3) := dk_181 0 18 (dk_at dksX1_init_1 0 rfl rfl)
theorem dX1_init_26 : decode cX1_init 26 = .ok (.return_, 1) := dk_177 (dk_at dksX1_init_1 3 rfl rfl)
def dkwX1_read_4 : List UInt8 := [153, 0, 8, 42, 182, 0, 47, 191, 177]
abbrev dktX1_read_4 : List UInt8 := dkwX1_read_4 ++ []
def dkwX1_read_3 : List UInt8 := [182, 0, 162, 42, 182, 0, 57, 154, 0, 10, 42, 182, 0, 162, 167, 255, 245, 42, 180, 0, 12, 182, 0, 165]
abbrev dktX1_read_3 : List UInt8 := dkwX1_read_3 ++ dktX1_read_4
def dkwX1_read_2 : List UInt8 := [182, 0, 159, 42, 187, 0, 150, 89, 3, 4, 5, 183, 0, 152, 181, 0, 155, 42, 182, 0, 73, 42]
abbrev dktX1_read_2 : List UInt8 := dkwX1_read_2 ++ dktX1_read_3
def dkwX1_read_1 : List UInt8 := [181, 0, 90, 42, 4, 181, 0, 93, 42, 3, 181, 0, 112, 42, 180, 0, 12, 182, 0, 159, 42, 180, 0, 18]
abbrev dktX1_read_1 : List UInt8 := dkwX1_read_1 ++ dktX1_read_2
def dkwX1_read_0 : List UInt8 := [42, 43, 181, 0, 36, 42, 28, 181, 0, 33, 42, 3, 181, 0, 30, 42, 3, 181, 0, 85, 42, 4]
abbrev dktX1_read_0 : List UInt8 := dkwX1_read_0 ++ dktX1_read_1
theorem dksX1_read_0 : cX1_read.data.toList.drop 0 = dktX1_read_0 := by decide +kernel
theorem dksX1_read_1 : cX1_read.data.toList.drop 22 = dktX1_read_1 := dk_seg dksX1_read_0 22 rfl rfl
theorem dksX1_read_2 : cX1_read.data.toList.drop 46 = dktX1_read_2 := dk_seg dksX1_read_1 24 rfl rfl
theorem dksX1_read_3 : cX1_read.data.toList.drop 68 = dktX1_read_3 := dk_seg dksX1_read_2 22 rfl rfl
theorem dksX1_read_4 : cX1_read.data.toList.drop 92 = dktX1_read_4 := dk_seg dksX1_read_3 24 rfl rfl
theorem dX1_read_0 : decode cX1_read 0 = .ok (.aload_n 0, 1) := dk_42 (dk_at dksX1_read_0 0 rfl rfl)
theorem dX1_read_1 : decode cX1_read 1 = .ok (.aload_n 1, 1) := dk_43 (dk_at dksX1_read_0 1 rfl rfl)
theorem dX1_read_2 : decode cX1_read 2 = .ok (.putfield 36, 3) := dk_181 0 36 (dk_at dksX1_read_0 2 rfl rfl)
theorem dX1_read_5 : decode cX1_read 5 = .ok (.aload_n 0, 1) := dk_42 (dk_at dksX1_read_0 5 rfl rfl)
theorem dX1_read_6 : decode cX1_read 6 = .ok (.iload_n 2, 1) := dk_28 (dk_at dksX1_read_0 6 rfl rfl)
theorem dX1_read_7 : decode cX1_read 7 = .ok (.putfield 33, 3) := dk_181 0 33 (dk_at dksX1_read_0 7 rfl rfl)
theorem dX1_read_10 : decode cX1_read 10 = .ok (.aload_n 0, 1) := dk_42 (dk_at dksX1_read_0 10 rfl rfl)
theorem dX1_read_11 : decode cX1_read 11 = .ok (.iconst 0, 1) := dk_3 (dk_at dksX1_read_0 11 rfl rfl)
theorem dX1_read_12 : decode cX1_read 12 = .ok (.putfield 30, 3) := dk_181 0 30 (dk_at dksX1_read_0 12 rfl rfl)
theorem dX1_read_15 : decode cX1_read 15 = .ok (.aload_n 0, 1) := dk_42 (dk_at dksX1_read_0 15 rfl rfl)
theorem dX1_read_16 : decode cX1_read 16 = .ok (.iconst 0, 1) := dk_3 (dk_at dksX1_read_0 16 rfl rfl)
theorem dX1_read_17 : decode cX1_read 17 = .ok (.putfield 85, 3) := dk_181 0 85 (dk_at dksX1_read_0 17 rfl rfl)
theorem dX1_read_20 : decode cX1_read 20 = .ok (.aload_n 0, 1) := dk_42 (dk_at dksX1_read_0 20 rfl rfl)
theorem dX1_read_21 : decode cX1_read 21 = .ok (.iconst 1, 1) := dk_4 (dk_at dksX1_read_0 21 rfl rfl)
theorem dX1_read_22 : decode cX1_read 22 = .ok (.putfield 90, 3) := dk_181 0 90 (dk_at dksX1_read_1 0 rfl rfl)
theorem dX1_read_25 : decode cX1_read 25 = .ok (.aload_n 0, 1) := dk_42 (dk_at dksX1_read_1 3 rfl rfl)
theorem dX1_read_26 : decode cX1_read 26 = .ok (.iconst 1, 1) := dk_4 (dk_at dksX1_read_1 4 rfl rfl)
theorem dX1_read_27 : decode cX1_read 27 = .ok (.putfield 93, 3) := dk_181 0 93 (dk_at dksX1_read_1 5 rfl rfl)
theorem dX1_read_30 : decode cX1_read 30 = .ok (.aload_n 0, 1) := dk_42 (dk_at dksX1_read_1 8 rfl rfl)
theorem dX1_read_31 : decode cX1_read 31 = .ok (.iconst 0, 1) := dk_3 (dk_at dksX1_read_1 9 rfl rfl)
theorem dX1_read_32 : decode cX1_read 32 = .ok (.putfield 112, 3) := dk_181 0 112 (dk_at dksX1_read_1 10 rfl rfl)
theorem dX1_read_35 : decode cX1_read 35 = .ok (.aload_n 0, 1) := dk_42 (dk_at dksX1_read_1 13 rfl rfl)
theorem dX1_read_36 : decode cX1_read 36 = .ok (.getfield 12, 3) := dk_180 0 12 (dk_at dksX1_read_1 14 rfl rfl)
theorem dX1_read_39 : decode cX1_read 39 = .ok (.invokevirtual 159, 3) := dk_182 0 159 (dk_at dksX1_read_1 17 rfl rfl)
theorem dX1_read_42 : decode cX1_read 42 = .ok (.aload_n 0, 1) := dk_42 (dk_at dksX1_read_1 20 rfl rfl)
theorem dX1_read_43 : decode cX1_read 43 = .ok (.getfield 18, 3) := dk_180 0 18 (dk_at dksX1_read_1 21 rfl rfl)
theorem dX1_read_46 : decode cX1_read 46 = .ok (.invokevirtual 159, 3) := dk_182 0 159 (dk_at dksX1_read_2 0 rfl rfl)
theorem dX1_read_49 : decode cX1_read 49 = .ok (.aload_n 0, 1) := dk_42 (dk_at dksX1_read_2 3 rfl rfl)
theorem dX1_read_50 : decode cX1_read 50 = .ok (.new 150, 3) := dk_187 0 150 (dk_at dksX1_read_2 4 rfl rfl)
theorem dX1_read_53 : decode cX1_read 53 = .ok (.dup, 1) := dk_89 (dk_at dksX1_read_2 7 rfl rfl)
theorem dX1_read_54 : decode cX1_read 54 = .ok (.iconst 0, 1) := dk_3 (dk_at dksX1_read_2 8 rfl rfl)
theorem dX1_read_55 : decode cX1_read 55 = .ok (.iconst 1, 1) := dk_4 (dk_at dksX1_read_2 9 rfl rfl)
theorem dX1_read_56 : decode cX1_read 56 = .ok (.iconst 2, 1) := dk_5 (dk_at dksX1_read_2 10 rfl rfl)
theorem dX1_read_57 : decode cX1_read 57 = .ok (.invokespecial 152, 3) := dk_183 0 152 (dk_at dksX1_read_2 11 rfl rfl)
theorem dX1_read_60 : decode cX1_read 60 = .ok (.putfield 155, 3) := dk_181 0 155 (dk_at dksX1_read_2 14 rfl rfl)
theorem dX1_read_63 : decode cX1_read 63 = .ok (.aload_n 0, 1) := dk_42 (dk_at dksX1_read_2 17 rfl rfl)
theorem dX1_read_64 : decode cX1_read 64 = .ok (.invokevirtual 73, 3) := dk_182 0 73 (dk_at dksX1_read_2 18 rfl rfl)
theorem dX1_read_67 : decode cX1_read 67 = .ok (.aload_n 0, 1) := dk_42 (dk_at dksX1_read_2 21 rfl rfl)
theorem dX1_read_68 : decode cX1_read 68 = .ok (.invokevirtual 162, 3) := dk_182 0 162 (dk_at dksX1_read_3 0 rfl rfl)
theorem dX1_read_71 : decode cX1_read 71 = .ok (.aload_n 0, 1) := dk_42 (dk_at dksX1_read_3 3 rfl rfl)
theorem dX1_read_72 : decode cX1_read 72 = .ok (.invokevirtual 57, 3) := dk_182 0 57 (dk_at dksX1_read_3 4 rfl rfl)
theorem dX1_read_75 : decode cX1_read 75 = .ok (.ifCond .ne 10, 3) := dk_154 0 10 (dk_at dksX1_read_3 7 rfl rfl)
theorem dX1_read_78 : decode cX1_read 78 = .ok (.aload_n 0, 1) := dk_42 (dk_at dksX1_read_3 10 rfl rfl)
theorem dX1_read_79 : decode cX1_read 79 = .ok (.invokevirtual 162, 3) := dk_182 0 162 (dk_at dksX1_read_3 11 rfl rfl)
theorem dX1_read_82 : decode cX1_read 82 = .ok (.goto (-11), 3) := dk_167 255 245 (dk_at dksX1_read_3 14 rfl rfl)
theorem dX1_read_85 : decode cX1_read 85 = .ok (.aload_n 0, 1) := dk_42 (dk_at dksX1_read_3 17 rfl rfl)
theorem dX1_read_86 : decode cX1_read 86 = .ok (.getfield 12, 3) := dk_180 0 12 (dk_at dksX1_read_3 18 rfl rfl)
theorem dX1_read_89 : decode cX1_read 89 = .ok (.invokevirtual 165, 3) := dk_182 0 165 (dk_at dksX1_read_3 21 rfl rfl)
theorem dX1_read_92 : decode cX1_read 92 = .ok (.ifCond .eq 8, 3) := dk_153 0 8 (dk_at dksX1_read_4 0 rfl rfl)
theorem dX1_read_95 : decode cX1_read 95 = .ok (.aload_n 0, 1) := dk_42 (dk_at dksX1_read_4 3 rfl rfl)
theorem dX1_read_96 : decode cX1_read 96 = .ok (.invokevirtual 47, 3) := dk_182 0 47 (dk_at dksX1_read_4 4 rfl rfl)
theorem dX1_read_99 : decode cX1_read 99 = .ok (.athrow, 1) := dk_191 (dk_at dksX1_read_4 7 rfl rfl)
theorem dX1_read_100 : decode cX1_read 100 = .ok (.return_, 1) := dk_177 (dk_at dksX1_read_4 8 rfl rfl)
def dkwX1_next_8 : List UInt8 := [16, 59, 159, 0, 14, 27, 16, 47, 159, 0, 8, 42, 182, 0, 47, 191, 177]
abbrev dktX1_next_8 : List UInt8 := dkwX1_next_8 ++ []
def dkwX1_next_7 : List UInt8 := [180, 0, 30, 51, 184, 0, 44, 153, 0, 33, 42, 89, 180, 0, 30, 4, 96, 181, 0, 30, 167, 255, 220, 27]
abbrev dktX1_next_7 : List UInt8 := dkwX1_next_7 ++ dktX1_next_8
def dkwX1_next_6 : List UInt8 := [184, 0, 44, 153, 0, 42, 42, 180, 0, 30, 42, 180, 0, 33, 162, 0, 48, 42, 180, 0, 36, 42]
abbrev dktX1_next_6 : List UInt8 := dkwX1_next_6 ++ dktX1_next_7
def dkwX1_next_5 : List UInt8 := [180, 0, 30, 51, 184, 0, 40, 153, 0, 79, 42, 89, 180, 0, 30, 4, 96, 181, 0, 30, 167, 255, 220, 27]
abbrev dktX1_next_5 : List UInt8 := dkwX1_next_5 ++ dktX1_next_6
def dkwX1_next_4 : List UInt8 := [27, 184, 0, 40, 153, 0, 42, 42, 180, 0, 30, 42, 180, 0, 33, 162, 0, 94, 42, 180, 0, 36, 42]
abbrev dktX1_next_4 : List UInt8 := dkwX1_next_4 ++ dktX1_next_5
def dkwX1_next_3 : List UInt8 := [160, 0, 4, 177, 42, 180, 0, 36, 42, 180, 0, 30, 51, 60, 42, 89, 180, 0, 30, 4, 96, 181, 0, 30]
abbrev dktX1_next_3 : List UInt8 := dkwX1_next_3 ++ dktX1_next_4
def dkwX1_next_2 : List UInt8 := [181, 0, 30, 167, 255, 207, 42, 42, 180, 0, 30, 181, 0, 23, 42, 180, 0, 30, 42, 180, 0, 33]
abbrev dktX1_next_2 : List UInt8 := dkwX1_next_2 ++ dktX1_next_3
def dkwX1_next_1 : List UInt8 := [159, 0, 17, 42, 180, 0, 36, 42, 180, 0, 30, 51, 16, 10, 160, 0, 16, 42, 89, 180, 0, 30, 4, 96]
abbrev dktX1_next_1 : List UInt8 := dkwX1_next_1 ++ dktX1_next_2
def dkwX1_next_0 : List UInt8 := [42, 180, 0, 30, 42, 180, 0, 33, 162, 0, 44, 42, 180, 0, 36, 42, 180, 0, 30, 51, 16, 32]
abbrev dktX1_next_0 : List UInt8 := dkwX1_next_0 ++ dktX1_next_1
theorem dksX1_next_0 : cX1_next.data.toList.drop 0 = dktX1_next_0 := by decide +kernel
theorem dksX1_next_1 : cX1_next.data.toList.drop 22 = dktX1_next_1 := dk_seg dksX1_next_0 22 rfl rfl
theorem dksX1_next_2 : cX1_next.data.toList.drop 46 = dktX1_next_2 := dk_seg dksX1_next_1 24 rfl rfl
theorem dksX1_next_3 : cX1_next.data.toList.drop 68 = dktX1_next_3 := dk_seg dksX1_next_2 22 rfl rfl
theorem dksX1_next_4 : cX1_next.data.toList.drop 92 = dktX1_next_4 := dk_seg dksX1_next_3 24 rfl rfl
theorem dksX1_next_5 : cX1_next.data.toList.drop 115 = dktX1_next_5 := dk_seg dksX1_next_4 23 rfl rfl
theorem dksX1_next_6 : cX1_next.data.toList.drop 139 = dktX1_next_6 := dk_seg dksX1_next_5 24 rfl rfl
theorem dksX1_next_7 : cX1_next.data.toList.drop 161 = dktX1_next_7 := dk_seg dksX1_next_6 22 rfl rfl
theorem dksX1_next_8 : cX1_next.data.toList.drop 185 = dktX1_next_8 := dk_seg dksX1_next_7 24 rfl rfl
theorem dX1_next_0 : decode cX1_next 0 = .ok (.aload_n 0, 1) := dk_42 (dk_at dksX1_next_0 0 rfl rfl)
theorem dX1_next_1 : decode cX1_next 1 = .ok (.getfield 30, 3) := dk_180 0 30 (dk_at dksX1_next_0 1 rfl rfl)
theorem dX1_next_4 : decode cX1_next 4 = .ok (.aload_n 0, 1) := dk_42 (dk_at dksX1_next_0 4 rfl rfl)
theorem dX1_next_5 : decode cX1_next 5 = .ok (.getfield 33, 3) := dk_180 0 33 (dk_at dksX1_next_0 5 rfl rfl)
theorem dX1_next_8 : decode cX1_next 8 = .ok (.if_icmp .ge 44, 3) := dk_162 0 44 (dk_at dksX1_next_0 8 rfl rfl)
theorem dX1_next_11 : decode cX1_next 11 = .ok (.aload_n 0, 1) := dk_42 (dk_at dksX1_next_0 11 rfl rfl)
theorem dX1_next_12 : decode cX1_next 12 = .ok (.getfield 36, 3) := dk_180 0 36 (dk_at dksX1_next_0 12 rfl rfl)
theorem dX1_next_15 : decode cX1_next 15 = .ok (.aload_n 0, 1) := dk_42 (dk_at dksX1_next_0 15 rfl rfl)
theorem dX1_next_16 : decode cX1_next 16 = .ok (.getfield 30, 3) := dk_180 0 30 (dk_at dksX1_next_0 16 rfl rfl)
theorem dX1_next_19 : decode cX1_next 19 = .ok (.baload, 1) := dk_51 (dk_at dksX1_next_0 19 rfl rfl)
theorem dX1_next_20 : decode cX1_next 20 = .ok (.bipush 32, 2) := dk_16 32 (dk_at dksX1_next_0 20 rfl rfl)
theorem dX1_next_22 : decode cX1_next 22 = .ok (.if_icmp .eq 17, 3) := dk_159 0 17 (dk_at dksX1_next_1 0 rfl rfl)
theorem dX1_next_25 : decode cX1_next 25 = .ok (.aload_n 0, 1) := dk_42 (dk_at dksX1_next_1 3 rfl rfl)
theorem dX1_next_26 : decode cX1_next 26 = .ok (.getfield 36, 3) := dk_180 0 36 (dk_at dksX1_next_1 4 rfl rfl)
theorem dX1_next_29 : decode cX1_next 29 = .ok (.aload_n 0, 1) := dk_42 (dk_at dksX1_next_1 7 rfl rfl)
theorem dX1_next_30 : decode cX1_next 30 = .ok (.getfield 30, 3) := dk_180 0 30 (dk_at dksX1_next_1 8 rfl rfl)
theorem dX1_next_33 : decode cX1_next 33 = .ok (.baload, 1) := dk_51 (dk_at dksX1_next_1 11 rfl rfl)
theorem dX1_next_34 : decode cX1_next 34 = .ok (.bipush 10, 2) := dk_16 10 (dk_at dksX1_next_1 12 rfl rfl)
theorem dX1_next_36 : decode cX1_next 36 = .ok (.if_icmp .ne 16, 3) := dk_160 0 16 (dk_at dksX1_next_1 14 rfl rfl)
theorem dX1_next_39 : decode cX1_next 39 = .ok (.aload_n 0, 1) := dk_42 (dk_at dksX1_next_1 17 rfl rfl)
theorem dX1_next_40 : decode cX1_next 40 = .ok (.dup, 1) := dk_89 (dk_at dksX1_next_1 18 rfl rfl)
theorem dX1_next_41 : decode cX1_next 41 = .ok (.getfield 30, 3) := dk_180 0 30 (dk_at dksX1_next_1 19 rfl rfl)
theorem dX1_next_44 : decode cX1_next 44 = .ok (.iconst 1, 1) := dk_4 (dk_at dksX1_next_1 22 rfl rfl)
theorem dX1_next_45 : decode cX1_next 45 = .ok (.iadd, 1) := dk_96 (dk_at dksX1_next_1 23 rfl rfl)
theorem dX1_next_46 : decode cX1_next 46 = .ok (.putfield 30, 3) := dk_181 0 30 (dk_at dksX1_next_2 0 rfl rfl)
theorem dX1_next_49 : decode cX1_next 49 = .ok (.goto (-49), 3) := dk_167 255 207 (dk_at dksX1_next_2 3 rfl rfl)
theorem dX1_next_52 : decode cX1_next 52 = .ok (.aload_n 0, 1) := dk_42 (dk_at dksX1_next_2 6 rfl rfl)
theorem dX1_next_53 : decode cX1_next 53 = .ok (.aload_n 0, 1) := dk_42 (dk_at dksX1_next_2 7 rfl rfl)
theorem dX1_next_54 : decode cX1_next 54 = .ok (.getfield 30, 3) := dk_180 0 30 (dk_at dksX1_next_2 8 rfl rfl)
theorem dX1_next_57 : decode cX1_next 57 = .ok (.putfield 23, 3) := dk_181 0 23 (dk_at dksX1_next_2 11 rfl rfl)
theorem dX1_next_60 : decode cX1_next 60 = .ok (.aload_n 0, 1) := dk_42 (dk_at dksX1_next_2 14 rfl rfl)
theorem dX1_next_61 : decode cX1_next 61 = .ok (.getfield 30, 3) := dk_180 0 30 (dk_at dksX1_next_2 15 rfl rfl)
theorem dX1_next_64 : decode cX1_next 64 = .ok (.aload_n 0, 1) := dk_42 (dk_at dksX1_next_2 18 rfl rfl)
theorem dX1_next_65 : decode cX1_next 65 = .ok (.getfield 33, 3) := dk_180 0 33 (dk_at dksX1_next_2 19 rfl rfl)
theorem dX1_next_68 : decode cX1_next 68 = .ok (.if_icmp .ne 4, 3) := dk_160 0 4 (dk_at dksX1_next_3 0 rfl rfl)
theorem dX1_next_71 : decode cX1_next 71 = .ok (.return_, 1) := dk_177 (dk_at dksX1_next_3 3 rfl rfl)
theorem dX1_next_72 : decode cX1_next 72 = .ok (.aload_n 0, 1) := dk_42 (dk_at dksX1_next_3 4 rfl rfl)
theorem dX1_next_73 : decode cX1_next 73 = .ok (.getfield 36, 3) := dk_180 0 36 (dk_at dksX1_next_3 5 rfl rfl)
theorem dX1_next_76 : decode cX1_next 76 = .ok (.aload_n 0, 1) := dk_42 (dk_at dksX1_next_3 8 rfl rfl)
theorem dX1_next_77 : decode cX1_next 77 = .ok (.getfield 30, 3) := dk_180 0 30 (dk_at dksX1_next_3 9 rfl rfl)
theorem dX1_next_80 : decode cX1_next 80 = .ok (.baload, 1) := dk_51 (dk_at dksX1_next_3 12 rfl rfl)
theorem dX1_next_81 : decode cX1_next 81 = .ok (.istore_n 1, 1) := dk_60 (dk_at dksX1_next_3 13 rfl rfl)
theorem dX1_next_82 : decode cX1_next 82 = .ok (.aload_n 0, 1) := dk_42 (dk_at dksX1_next_3 14 rfl rfl)
theorem dX1_next_83 : decode cX1_next 83 = .ok (.dup, 1) := dk_89 (dk_at dksX1_next_3 15 rfl rfl)
theorem dX1_next_84 : decode cX1_next 84 = .ok (.getfield 30, 3) := dk_180 0 30 (dk_at dksX1_next_3 16 rfl rfl)
theorem dX1_next_87 : decode cX1_next 87 = .ok (.iconst 1, 1) := dk_4 (dk_at dksX1_next_3 19 rfl rfl)
theorem dX1_next_88 : decode cX1_next 88 = .ok (.iadd, 1) := dk_96 (dk_at dksX1_next_3 20 rfl rfl)
theorem dX1_next_89 : decode cX1_next 89 = .ok (.putfield 30, 3) := dk_181 0 30 (dk_at dksX1_next_3 21 rfl rfl)
theorem dX1_next_92 : decode cX1_next 92 = .ok (.iload_n 1, 1) := dk_27 (dk_at dksX1_next_4 0 rfl rfl)
theorem dX1_next_93 : decode cX1_next 93 = .ok (.invokestatic 40, 3) := dk_184 0 40 (dk_at dksX1_next_4 1 rfl rfl)
theorem dX1_next_96 : decode cX1_next 96 = .ok (.ifCond .eq 42, 3) := dk_153 0 42 (dk_at dksX1_next_4 4 rfl rfl)
theorem dX1_next_99 : decode cX1_next 99 = .ok (.aload_n 0, 1) := dk_42 (dk_at dksX1_next_4 7 rfl rfl)
theorem dX1_next_100 : decode cX1_next 100 = .ok (.getfield 30, 3) := dk_180 0 30 (dk_at dksX1_next_4 8 rfl rfl)
theorem dX1_next_103 : decode cX1_next 103 = .ok (.aload_n 0, 1) := dk_42 (dk_at dksX1_next_4 11 rfl rfl)
theorem dX1_next_104 : decode cX1_next 104 = .ok (.getfield 33, 3) := dk_180 0 33 (dk_at dksX1_next_4 12 rfl rfl)
theorem dX1_next_107 : decode cX1_next 107 = .ok (.if_icmp .ge 94, 3) := dk_162 0 94 (dk_at dksX1_next_4 15 rfl rfl)
theorem dX1_next_110 : decode cX1_next 110 = .ok (.aload_n 0, 1) := dk_42 (dk_at dksX1_next_4 18 rfl rfl)
theorem dX1_next_111 : decode cX1_next 111 = .ok (.getfield 36, 3) := dk_180 0 36 (dk_at dksX1_next_4 19 rfl rfl)
theorem dX1_next_114 : decode cX1_next 114 = .ok (.aload_n 0, 1) := dk_42 (dk_at dksX1_next_4 22 rfl rfl)
theorem dX1_next_115 : decode cX1_next 115 = .ok (.getfield 30, 3) := dk_180 0 30 (dk_at dksX1_next_5 0 rfl rfl)
theorem dX1_next_118 : decode cX1_next 118 = .ok (.baload, 1) := dk_51 (dk_at dksX1_next_5 3 rfl rfl)
theorem dX1_next_119 : decode cX1_next 119 = .ok (.invokestatic 40, 3) := dk_184 0 40 (dk_at dksX1_next_5 4 rfl rfl)
theorem dX1_next_122 : decode cX1_next 122 = .ok (.ifCond .eq 79, 3) := dk_153 0 79 (dk_at dksX1_next_5 7 rfl rfl)
theorem dX1_next_125 : decode cX1_next 125 = .ok (.aload_n 0, 1) := dk_42 (dk_at dksX1_next_5 10 rfl rfl)
theorem dX1_next_126 : decode cX1_next 126 = .ok (.dup, 1) := dk_89 (dk_at dksX1_next_5 11 rfl rfl)
theorem dX1_next_127 : decode cX1_next 127 = .ok (.getfield 30, 3) := dk_180 0 30 (dk_at dksX1_next_5 12 rfl rfl)
theorem dX1_next_130 : decode cX1_next 130 = .ok (.iconst 1, 1) := dk_4 (dk_at dksX1_next_5 15 rfl rfl)
theorem dX1_next_131 : decode cX1_next 131 = .ok (.iadd, 1) := dk_96 (dk_at dksX1_next_5 16 rfl rfl)
theorem dX1_next_132 : decode cX1_next 132 = .ok (.putfield 30, 3) := dk_181 0 30 (dk_at dksX1_next_5 17 rfl rfl)
theorem dX1_next_135 : decode cX1_next 135 = .ok (.goto (-36), 3) := dk_167 255 220 (dk_at dksX1_next_5 20 rfl rfl)
theorem dX1_next_138 : decode cX1_next 138 = .ok (.iload_n 1, 1) := dk_27 (dk_at dksX1_next_5 23 rfl rfl)
theorem dX1_next_139 : decode cX1_next 139 = .ok (.invokestatic 44, 3) := dk_184 0 44 (dk_at dksX1_next_6 0 rfl rfl)
theorem dX1_next_142 : decode cX1_next 142 = .ok (.ifCond .eq 42, 3) := dk_153 0 42 (dk_at dksX1_next_6 3 rfl rfl)
theorem dX1_next_145 : decode cX1_next 145 = .ok (.aload_n 0, 1) := dk_42 (dk_at dksX1_next_6 6 rfl rfl)
theorem dX1_next_146 : decode cX1_next 146 = .ok (.getfield 30, 3) := dk_180 0 30 (dk_at dksX1_next_6 7 rfl rfl)
theorem dX1_next_149 : decode cX1_next 149 = .ok (.aload_n 0, 1) := dk_42 (dk_at dksX1_next_6 10 rfl rfl)
theorem dX1_next_150 : decode cX1_next 150 = .ok (.getfield 33, 3) := dk_180 0 33 (dk_at dksX1_next_6 11 rfl rfl)
theorem dX1_next_153 : decode cX1_next 153 = .ok (.if_icmp .ge 48, 3) := dk_162 0 48 (dk_at dksX1_next_6 14 rfl rfl)
theorem dX1_next_156 : decode cX1_next 156 = .ok (.aload_n 0, 1) := dk_42 (dk_at dksX1_next_6 17 rfl rfl)
theorem dX1_next_157 : decode cX1_next 157 = .ok (.getfield 36, 3) := dk_180 0 36 (dk_at dksX1_next_6 18 rfl rfl)
theorem dX1_next_160 : decode cX1_next 160 = .ok (.aload_n 0, 1) := dk_42 (dk_at dksX1_next_6 21 rfl rfl)
theorem dX1_next_161 : decode cX1_next 161 = .ok (.getfield 30, 3) := dk_180 0 30 (dk_at dksX1_next_7 0 rfl rfl)
theorem dX1_next_164 : decode cX1_next 164 = .ok (.baload, 1) := dk_51 (dk_at dksX1_next_7 3 rfl rfl)
theorem dX1_next_165 : decode cX1_next 165 = .ok (.invokestatic 44, 3) := dk_184 0 44 (dk_at dksX1_next_7 4 rfl rfl)
theorem dX1_next_168 : decode cX1_next 168 = .ok (.ifCond .eq 33, 3) := dk_153 0 33 (dk_at dksX1_next_7 7 rfl rfl)
theorem dX1_next_171 : decode cX1_next 171 = .ok (.aload_n 0, 1) := dk_42 (dk_at dksX1_next_7 10 rfl rfl)
theorem dX1_next_172 : decode cX1_next 172 = .ok (.dup, 1) := dk_89 (dk_at dksX1_next_7 11 rfl rfl)
theorem dX1_next_173 : decode cX1_next 173 = .ok (.getfield 30, 3) := dk_180 0 30 (dk_at dksX1_next_7 12 rfl rfl)
theorem dX1_next_176 : decode cX1_next 176 = .ok (.iconst 1, 1) := dk_4 (dk_at dksX1_next_7 15 rfl rfl)
theorem dX1_next_177 : decode cX1_next 177 = .ok (.iadd, 1) := dk_96 (dk_at dksX1_next_7 16 rfl rfl)
theorem dX1_next_178 : decode cX1_next 178 = .ok (.putfield 30, 3) := dk_181 0 30 (dk_at dksX1_next_7 17 rfl rfl)
theorem dX1_next_181 : decode cX1_next 181 = .ok (.goto (-36), 3) := dk_167 255 220 (dk_at dksX1_next_7 20 rfl rfl)
theorem dX1_next_184 : decode cX1_next 184 = .ok (.iload_n 1, 1) := dk_27 (dk_at dksX1_next_7 23 rfl rfl)
theorem dX1_next_185 : decode cX1_next 185 = .ok (.bipush 59, 2) := dk_16 59 (dk_at dksX1_next_8 0 rfl rfl)
theorem dX1_next_187 : decode cX1_next 187 = .ok (.if_icmp .eq 14, 3) := dk_159 0 14 (dk_at dksX1_next_8 2 rfl rfl)
theorem dX1_next_190 : decode cX1_next 190 = .ok (.iload_n 1, 1) := dk_27 (dk_at dksX1_next_8 5 rfl rfl)
theorem dX1_next_191 : decode cX1_next 191 = .ok (.bipush 47, 2) := dk_16 47 (dk_at dksX1_next_8 6 rfl rfl)
theorem dX1_next_193 : decode cX1_next 193 = .ok (.if_icmp .eq 8, 3) := dk_159 0 8 (dk_at dksX1_next_8 8 rfl rfl)
theorem dX1_next_196 : decode cX1_next 196 = .ok (.aload_n 0, 1) := dk_42 (dk_at dksX1_next_8 11 rfl rfl)
theorem dX1_next_197 : decode cX1_next 197 = .ok (.invokevirtual 47, 3) := dk_182 0 47 (dk_at dksX1_next_8 12 rfl rfl)
theorem dX1_next_200 : decode cX1_next 200 = .ok (.athrow, 1) := dk_191 (dk_at dksX1_next_8 15 rfl rfl)
theorem dX1_next_201 : decode cX1_next 201 = .ok (.return_, 1) := dk_177 (dk_at dksX1_next_8 16 rfl rfl)
def dkwX1_isLetter_0 : List UInt8 := [26, 16, 97, 161, 0, 13, 26, 16, 122, 163, 0, 7, 4, 167, 0, 4, 3, 172]
abbrev dktX1_isLetter_0 : List UInt8 := dkwX1_isLetter_0 ++ []
theorem dksX1_isLetter_0 : cX1_isLetter.data.toList.drop 0 = dktX1_isLetter_0 := by decide +kernel
theorem dX1_isLetter_0 : decode cX1_isLetter 0 = .ok (.iload_n 0, 1) := dk_26 (dk_at dksX1_isLetter_0 0 rfl rfl)
theorem dX1_isLetter_1 : decode cX1_isLetter 1 = .ok (.bipush 97, 2) := dk_16 97 (dk_at dksX1_isLetter_0 1 rfl rfl)
theorem dX1_isLetter_3 : decode cX1_isLetter 3 = .ok (.if_icmp .lt 13, 3) := dk_161 0 13 (dk_at dksX1_isLetter_0 3 rfl rfl)
theorem dX1_isLetter_6 : decode cX1_isLetter 6 = .ok (.iload_n 0, 1) := dk_26 (dk_at dksX1_isLetter_0 6 rfl rfl)
theorem dX1_isLetter_7 : decode cX1_isLetter 7 = .ok (.bipush 122, 2) := dk_16 122 (dk_at dksX1_isLetter_0 7 rfl rfl)
theorem dX1_isLetter_9 : decode cX1_isLetter 9 = .ok (.if_icmp .gt 7, 3) := dk_163 0 7 (dk_at dksX1_isLetter_0 9 rfl rfl)
theorem dX1_isLetter_12 : decode cX1_isLetter 12 = .ok (.iconst 1, 1) := dk_4 (dk_at dksX1_isLetter_0 12 rfl rfl)
theorem dX1_isLetter_13 : decode cX1_isLetter 13 = .ok (.goto 4, 3) := dk_167 0 4 (dk_at dksX1_isLetter_0 13 rfl rfl)
theorem dX1_isLetter_16 : decode cX1_isLetter 16 = .ok (.iconst 0, 1) := dk_3 (dk_at dksX1_isLetter_0 16 rfl rfl)
theorem dX1_isLetter_17 : decode cX1_isLetter 17 = .ok (.ireturn, 1) := dk_172 (dk_at dksX1_isLetter_0 17 rfl rfl)
def dkwX1_isDigit_0 : List UInt8 := [26, 16, 48, 161, 0, 13, 26, 16, 57, 163, 0, 7, 4, 167, 0, 4, 3, 172]
abbrev dktX1_isDigit_0 : List UInt8 := dkwX1_isDigit_0 ++ []
theorem dksX1_isDigit_0 : cX1_isDigit.data.toList.drop 0 = dktX1_isDigit_0 := by decide +kernel
theorem dX1_isDigit_0 : decode cX1_isDigit 0 = .ok (.iload_n 0, 1) := dk_26 (dk_at dksX1_isDigit_0 0 rfl rfl)
theorem dX1_isDigit_1 : decode cX1_isDigit 1 = .ok (.bipush 48, 2) := dk_16 48 (dk_at dksX1_isDigit_0 1 rfl rfl)
theorem dX1_isDigit_3 : decode cX1_isDigit 3 = .ok (.if_icmp .lt 13, 3) := dk_161 0 13 (dk_at dksX1_isDigit_0 3 rfl rfl)
theorem dX1_isDigit_6 : decode cX1_isDigit 6 = .ok (.iload_n 0, 1) := dk_26 (dk_at dksX1_isDigit_0 6 rfl rfl)
theorem dX1_isDigit_7 : decode cX1_isDigit 7 = .ok (.bipush 57, 2) := dk_16 57 (dk_at dksX1_isDigit_0 7 rfl rfl)
theorem dX1_isDigit_9 : decode cX1_isDigit 9 = .ok (.if_icmp .gt 7, 3) := dk_163 0 7 (dk_at dksX1_isDigit_0 9 rfl rfl)
theorem dX1_isDigit_12 : decode cX1_isDigit 12 = .ok (.iconst 1, 1) := dk_4 (dk_at dksX1_isDigit_0 12 rfl rfl)
theorem dX1_isDigit_13 : decode cX1_isDigit 13 = .ok (.goto 4, 3) := dk_167 0 4 (dk_at dksX1_isDigit_0 13 rfl rfl)
theorem dX1_isDigit_16 : decode cX1_isDigit 16 = .ok (.iconst 0, 1) := dk_3 (dk_at dksX1_isDigit_0 16 rfl rfl)
theorem dX1_isDigit_17 : decode cX1_isDigit 17 = .ok (.ireturn, 1) := dk_172 (dk_at dksX1_isDigit_0 17 rfl rfl)
def dkwX1_wrong_0 : List UInt8 := [187, 0, 21, 89, 42, 180, 0, 23, 183, 0, 27, 176]
abbrev dktX1_wrong_0 : List UInt8 := dkwX1_wrong_0 ++ []
theorem dksX1_wrong_0 : cX1_wrong.data.toList.drop 0 = dktX1_wrong_0 := by decide +kernel
theorem dX1_wrong_0 : decode cX1_wrong 0 = .ok (.new 21, 3) := dk_187 0 21 (dk_at dksX1_wrong_0 0 rfl rfl)
theorem dX1_wrong_3 : decode cX1_wrong 3 = .ok (.dup, 1) := dk_89 (dk_at dksX1_wrong_0 3 rfl rfl)
theorem dX1_wrong_4 : decode cX1_wrong 4 = .ok (.aload_n 0, 1) := dk_42 (dk_at dksX1_wrong_0 4 rfl rfl)
theorem dX1_wrong_5 : decode cX1_wrong 5 = .ok (.getfield 23, 3) := dk_180 0 23 (dk_at dksX1_wrong_0 5 rfl rfl)
theorem dX1_wrong_8 : decode cX1_wrong 8 = .ok (.invokespecial 27, 3) := dk_183 0 27 (dk_at dksX1_wrong_0 8 rfl rfl)
theorem dX1_wrong_11 : decode cX1_wrong 11 = .ok (.areturn, 1) := dk_176 (dk_at dksX1_wrong_0 11 rfl rfl)
def dkwX1_tells_8 : List UInt8 := [183, 0, 129, 182, 0, 132, 87, 167, 0, 7, 42, 182, 0, 136, 42, 16, 59, 182, 0, 139, 177]
abbrev dktX1_tells_8 : List UInt8 := dkwX1_tells_8 ++ []
def dkwX1_tells_7 : List UInt8 := [16, 99, 182, 0, 121, 62, 42, 180, 0, 18, 187, 0, 127, 89, 29, 42, 3, 16, 99, 182, 0, 121]
abbrev dktX1_tells_7 : List UInt8 := dkwX1_tells_7 ++ dktX1_tells_8
def dkwX1_tells_6 : List UInt8 := [42, 42, 4, 16, 9, 182, 0, 121, 181, 0, 93, 167, 0, 48, 42, 182, 0, 124, 167, 0, 41, 42, 3]
abbrev dktX1_tells_6 : List UInt8 := dkwX1_tells_6 ++ dktX1_tells_7
def dkwX1_tells_5 : List UInt8 := [42, 42, 18, 116, 182, 0, 118, 181, 0, 85, 167, 0, 73, 42, 42, 4, 16, 9, 182, 0, 121, 181, 0, 90]
abbrev dktX1_tells_5 : List UInt8 := dkwX1_tells_5 ++ dktX1_tells_6
def dkwX1_tells_4 : List UInt8 := [170, 0, 0, 0, 0, 109, 0, 0, 0, 0, 0, 0, 0, 3, 0, 0, 0, 30, 0, 0, 0, 43, 0, 0, 0, 68, 0, 0, 0, 75]
abbrev dktX1_tells_4 : List UInt8 := dkwX1_tells_4 ++ dktX1_tells_5
def dkwX1_tells_3 : List UInt8 := [182, 0, 47, 191, 42, 182, 0, 73, 27]
abbrev dktX1_tells_3 : List UInt8 := dkwX1_tells_3 ++ dktX1_tells_4
def dkwX1_tells_2 : List UInt8 := [180, 0, 112, 153, 0, 7, 4, 167, 0, 4, 3, 61, 27, 2, 159, 0, 7, 28, 153, 0, 8, 42]
abbrev dktX1_tells_2 : List UInt8 := dkwX1_tells_2 ++ dktX1_tells_3
def dkwX1_tells_1 : List UInt8 := [27, 6, 160, 0, 15, 42, 180, 0, 18, 182, 0, 110, 16, 20, 159, 0, 15, 27, 7, 160, 0, 14, 42]
abbrev dktX1_tells_1 : List UInt8 := dkwX1_tells_1 ++ dktX1_tells_2
def dkwX1_tells_0 : List UInt8 := [42, 18, 108, 182, 0, 69, 60, 27, 5, 160, 0, 15, 42, 180, 0, 12, 182, 0, 110, 16, 15, 159, 0, 32]
abbrev dktX1_tells_0 : List UInt8 := dkwX1_tells_0 ++ dktX1_tells_1
theorem dksX1_tells_0 : cX1_tells.data.toList.drop 0 = dktX1_tells_0 := by decide +kernel
theorem dksX1_tells_1 : cX1_tells.data.toList.drop 24 = dktX1_tells_1 := dk_seg dksX1_tells_0 24 rfl rfl
theorem dksX1_tells_2 : cX1_tells.data.toList.drop 47 = dktX1_tells_2 := dk_seg dksX1_tells_1 23 rfl rfl
theorem dksX1_tells_3 : cX1_tells.data.toList.drop 69 = dktX1_tells_3 := dk_seg dksX1_tells_2 22 rfl rfl
theorem dksX1_tells_4 : cX1_tells.data.toList.drop 78 = dktX1_tells_4 := dk_seg dksX1_tells_3 9 rfl rfl
theorem dksX1_tells_5 : cX1_tells.data.toList.drop 108 = dktX1_tells_5 := dk_seg dksX1_tells_4 30 rfl rfl
theorem dksX1_tells_6 : cX1_tells.data.toList.drop 132 = dktX1_tells_6 := dk_seg dksX1_tells_5 24 rfl rfl
theorem dksX1_tells_7 : cX1_tells.data.toList.drop 155 = dktX1_tells_7 := dk_seg dksX1_tells_6 23 rfl rfl
theorem dksX1_tells_8 : cX1_tells.data.toList.drop 177 = dktX1_tells_8 := dk_seg dksX1_tells_7 22 rfl rfl
theorem dX1_tells_0 : decode cX1_tells 0 = .ok (.aload_n 0, 1) := dk_42 (dk_at dksX1_tells_0 0 rfl rfl)
theorem dX1_tells_1 : decode cX1_tells 1 = .ok (.ldc 108, 2) := dk_18 108 (dk_at dksX1_tells_0 1 rfl rfl)
theorem dX1_tells_3 : decode cX1_tells 3 = .ok (.invokevirtual 69, 3) := dk_182 0 69 (dk_at dksX1_tells_0 3 rfl rfl)
theorem dX1_tells_6 : decode cX1_tells 6 = .ok (.istore_n 1, 1) := dk_60 (dk_at dksX1_tells_0 6 rfl rfl)
theorem dX1_tells_7 : decode cX1_tells 7 = .ok (.iload_n 1, 1) := dk_27 (dk_at dksX1_tells_0 7 rfl rfl)
theorem dX1_tells_8 : decode cX1_tells 8 = .ok (.iconst 2, 1) := dk_5 (dk_at dksX1_tells_0 8 rfl rfl)
theorem dX1_tells_9 : decode cX1_tells 9 = .ok (.if_icmp .ne 15, 3) := dk_160 0 15 (dk_at dksX1_tells_0 9 rfl rfl)
theorem dX1_tells_12 : decode cX1_tells 12 = .ok (.aload_n 0, 1) := dk_42 (dk_at dksX1_tells_0 12 rfl rfl)
theorem dX1_tells_13 : decode cX1_tells 13 = .ok (.getfield 12, 3) := dk_180 0 12 (dk_at dksX1_tells_0 13 rfl rfl)
theorem dX1_tells_16 : decode cX1_tells 16 = .ok (.invokevirtual 110, 3) := dk_182 0 110 (dk_at dksX1_tells_0 16 rfl rfl)
theorem dX1_tells_19 : decode cX1_tells 19 = .ok (.bipush 15, 2) := dk_16 15 (dk_at dksX1_tells_0 19 rfl rfl)
theorem dX1_tells_21 : decode cX1_tells 21 = .ok (.if_icmp .eq 32, 3) := dk_159 0 32 (dk_at dksX1_tells_0 21 rfl rfl)
theorem dX1_tells_24 : decode cX1_tells 24 = .ok (.iload_n 1, 1) := dk_27 (dk_at dksX1_tells_1 0 rfl rfl)
theorem dX1_tells_25 : decode cX1_tells 25 = .ok (.iconst 3, 1) := dk_6 (dk_at dksX1_tells_1 1 rfl rfl)
theorem dX1_tells_26 : decode cX1_tells 26 = .ok (.if_icmp .ne 15, 3) := dk_160 0 15 (dk_at dksX1_tells_1 2 rfl rfl)
theorem dX1_tells_29 : decode cX1_tells 29 = .ok (.aload_n 0, 1) := dk_42 (dk_at dksX1_tells_1 5 rfl rfl)
theorem dX1_tells_30 : decode cX1_tells 30 = .ok (.getfield 18, 3) := dk_180 0 18 (dk_at dksX1_tells_1 6 rfl rfl)
theorem dX1_tells_33 : decode cX1_tells 33 = .ok (.invokevirtual 110, 3) := dk_182 0 110 (dk_at dksX1_tells_1 9 rfl rfl)
theorem dX1_tells_36 : decode cX1_tells 36 = .ok (.bipush 20, 2) := dk_16 20 (dk_at dksX1_tells_1 12 rfl rfl)
theorem dX1_tells_38 : decode cX1_tells 38 = .ok (.if_icmp .eq 15, 3) := dk_159 0 15 (dk_at dksX1_tells_1 14 rfl rfl)
theorem dX1_tells_41 : decode cX1_tells 41 = .ok (.iload_n 1, 1) := dk_27 (dk_at dksX1_tells_1 17 rfl rfl)
theorem dX1_tells_42 : decode cX1_tells 42 = .ok (.iconst 4, 1) := dk_7 (dk_at dksX1_tells_1 18 rfl rfl)
theorem dX1_tells_43 : decode cX1_tells 43 = .ok (.if_icmp .ne 14, 3) := dk_160 0 14 (dk_at dksX1_tells_1 19 rfl rfl)
theorem dX1_tells_46 : decode cX1_tells 46 = .ok (.aload_n 0, 1) := dk_42 (dk_at dksX1_tells_1 22 rfl rfl)
theorem dX1_tells_47 : decode cX1_tells 47 = .ok (.getfield 112, 3) := dk_180 0 112 (dk_at dksX1_tells_2 0 rfl rfl)
theorem dX1_tells_50 : decode cX1_tells 50 = .ok (.ifCond .eq 7, 3) := dk_153 0 7 (dk_at dksX1_tells_2 3 rfl rfl)
theorem dX1_tells_53 : decode cX1_tells 53 = .ok (.iconst 1, 1) := dk_4 (dk_at dksX1_tells_2 6 rfl rfl)
theorem dX1_tells_54 : decode cX1_tells 54 = .ok (.goto 4, 3) := dk_167 0 4 (dk_at dksX1_tells_2 7 rfl rfl)
theorem dX1_tells_57 : decode cX1_tells 57 = .ok (.iconst 0, 1) := dk_3 (dk_at dksX1_tells_2 10 rfl rfl)
theorem dX1_tells_58 : decode cX1_tells 58 = .ok (.istore_n 2, 1) := dk_61 (dk_at dksX1_tells_2 11 rfl rfl)
theorem dX1_tells_59 : decode cX1_tells 59 = .ok (.iload_n 1, 1) := dk_27 (dk_at dksX1_tells_2 12 rfl rfl)
theorem dX1_tells_60 : decode cX1_tells 60 = .ok (.iconst (-1), 1) := dk_2 (dk_at dksX1_tells_2 13 rfl rfl)
theorem dX1_tells_61 : decode cX1_tells 61 = .ok (.if_icmp .eq 7, 3) := dk_159 0 7 (dk_at dksX1_tells_2 14 rfl rfl)
theorem dX1_tells_64 : decode cX1_tells 64 = .ok (.iload_n 2, 1) := dk_28 (dk_at dksX1_tells_2 17 rfl rfl)
theorem dX1_tells_65 : decode cX1_tells 65 = .ok (.ifCond .eq 8, 3) := dk_153 0 8 (dk_at dksX1_tells_2 18 rfl rfl)
theorem dX1_tells_68 : decode cX1_tells 68 = .ok (.aload_n 0, 1) := dk_42 (dk_at dksX1_tells_2 21 rfl rfl)
theorem dX1_tells_69 : decode cX1_tells 69 = .ok (.invokevirtual 47, 3) := dk_182 0 47 (dk_at dksX1_tells_3 0 rfl rfl)
theorem dX1_tells_72 : decode cX1_tells 72 = .ok (.athrow, 1) := dk_191 (dk_at dksX1_tells_3 3 rfl rfl)
theorem dX1_tells_73 : decode cX1_tells 73 = .ok (.aload_n 0, 1) := dk_42 (dk_at dksX1_tells_3 4 rfl rfl)
theorem dX1_tells_74 : decode cX1_tells 74 = .ok (.invokevirtual 73, 3) := dk_182 0 73 (dk_at dksX1_tells_3 5 rfl rfl)
theorem dX1_tells_77 : decode cX1_tells 77 = .ok (.iload_n 1, 1) := dk_27 (dk_at dksX1_tells_3 8 rfl rfl)
theorem dX1_tells_78 : decode cX1_tells 78 = .ok (.tableswitch 109 0 3 #[30, 43, 68, 75], 30) := by decide +kernel
theorem dX1_tells_108 : decode cX1_tells 108 = .ok (.aload_n 0, 1) := dk_42 (dk_at dksX1_tells_5 0 rfl rfl)
theorem dX1_tells_109 : decode cX1_tells 109 = .ok (.aload_n 0, 1) := dk_42 (dk_at dksX1_tells_5 1 rfl rfl)
theorem dX1_tells_110 : decode cX1_tells 110 = .ok (.ldc 116, 2) := dk_18 116 (dk_at dksX1_tells_5 2 rfl rfl)
theorem dX1_tells_112 : decode cX1_tells 112 = .ok (.invokevirtual 118, 3) := dk_182 0 118 (dk_at dksX1_tells_5 4 rfl rfl)
theorem dX1_tells_115 : decode cX1_tells 115 = .ok (.putfield 85, 3) := dk_181 0 85 (dk_at dksX1_tells_5 7 rfl rfl)
theorem dX1_tells_118 : decode cX1_tells 118 = .ok (.goto 73, 3) := dk_167 0 73 (dk_at dksX1_tells_5 10 rfl rfl)
theorem dX1_tells_121 : decode cX1_tells 121 = .ok (.aload_n 0, 1) := dk_42 (dk_at dksX1_tells_5 13 rfl rfl)
theorem dX1_tells_122 : decode cX1_tells 122 = .ok (.aload_n 0, 1) := dk_42 (dk_at dksX1_tells_5 14 rfl rfl)
theorem dX1_tells_123 : decode cX1_tells 123 = .ok (.iconst 1, 1) := dk_4 (dk_at dksX1_tells_5 15 rfl rfl)
theorem dX1_tells_124 : decode cX1_tells 124 = .ok (.bipush 9, 2) := dk_16 9 (dk_at dksX1_tells_5 16 rfl rfl)
theorem dX1_tells_126 : decode cX1_tells 126 = .ok (.invokevirtual 121, 3) := dk_182 0 121 (dk_at dksX1_tells_5 18 rfl rfl)
theorem dX1_tells_129 : decode cX1_tells 129 = .ok (.putfield 90, 3) := dk_181 0 90 (dk_at dksX1_tells_5 21 rfl rfl)
theorem dX1_tells_132 : decode cX1_tells 132 = .ok (.aload_n 0, 1) := dk_42 (dk_at dksX1_tells_6 0 rfl rfl)
theorem dX1_tells_133 : decode cX1_tells 133 = .ok (.aload_n 0, 1) := dk_42 (dk_at dksX1_tells_6 1 rfl rfl)
theorem dX1_tells_134 : decode cX1_tells 134 = .ok (.iconst 1, 1) := dk_4 (dk_at dksX1_tells_6 2 rfl rfl)
theorem dX1_tells_135 : decode cX1_tells 135 = .ok (.bipush 9, 2) := dk_16 9 (dk_at dksX1_tells_6 3 rfl rfl)
theorem dX1_tells_137 : decode cX1_tells 137 = .ok (.invokevirtual 121, 3) := dk_182 0 121 (dk_at dksX1_tells_6 5 rfl rfl)
theorem dX1_tells_140 : decode cX1_tells 140 = .ok (.putfield 93, 3) := dk_181 0 93 (dk_at dksX1_tells_6 8 rfl rfl)
theorem dX1_tells_143 : decode cX1_tells 143 = .ok (.goto 48, 3) := dk_167 0 48 (dk_at dksX1_tells_6 11 rfl rfl)
theorem dX1_tells_146 : decode cX1_tells 146 = .ok (.aload_n 0, 1) := dk_42 (dk_at dksX1_tells_6 14 rfl rfl)
theorem dX1_tells_147 : decode cX1_tells 147 = .ok (.invokevirtual 124, 3) := dk_182 0 124 (dk_at dksX1_tells_6 15 rfl rfl)
theorem dX1_tells_150 : decode cX1_tells 150 = .ok (.goto 41, 3) := dk_167 0 41 (dk_at dksX1_tells_6 18 rfl rfl)
theorem dX1_tells_153 : decode cX1_tells 153 = .ok (.aload_n 0, 1) := dk_42 (dk_at dksX1_tells_6 21 rfl rfl)
theorem dX1_tells_154 : decode cX1_tells 154 = .ok (.iconst 0, 1) := dk_3 (dk_at dksX1_tells_6 22 rfl rfl)
theorem dX1_tells_155 : decode cX1_tells 155 = .ok (.bipush 99, 2) := dk_16 99 (dk_at dksX1_tells_7 0 rfl rfl)
theorem dX1_tells_157 : decode cX1_tells 157 = .ok (.invokevirtual 121, 3) := dk_182 0 121 (dk_at dksX1_tells_7 2 rfl rfl)
theorem dX1_tells_160 : decode cX1_tells 160 = .ok (.istore_n 3, 1) := dk_62 (dk_at dksX1_tells_7 5 rfl rfl)
theorem dX1_tells_161 : decode cX1_tells 161 = .ok (.aload_n 0, 1) := dk_42 (dk_at dksX1_tells_7 6 rfl rfl)
theorem dX1_tells_162 : decode cX1_tells 162 = .ok (.getfield 18, 3) := dk_180 0 18 (dk_at dksX1_tells_7 7 rfl rfl)
theorem dX1_tells_165 : decode cX1_tells 165 = .ok (.new 127, 3) := dk_187 0 127 (dk_at dksX1_tells_7 10 rfl rfl)
theorem dX1_tells_168 : decode cX1_tells 168 = .ok (.dup, 1) := dk_89 (dk_at dksX1_tells_7 13 rfl rfl)
theorem dX1_tells_169 : decode cX1_tells 169 = .ok (.iload_n 3, 1) := dk_29 (dk_at dksX1_tells_7 14 rfl rfl)
theorem dX1_tells_170 : decode cX1_tells 170 = .ok (.aload_n 0, 1) := dk_42 (dk_at dksX1_tells_7 15 rfl rfl)
theorem dX1_tells_171 : decode cX1_tells 171 = .ok (.iconst 0, 1) := dk_3 (dk_at dksX1_tells_7 16 rfl rfl)
theorem dX1_tells_172 : decode cX1_tells 172 = .ok (.bipush 99, 2) := dk_16 99 (dk_at dksX1_tells_7 17 rfl rfl)
theorem dX1_tells_174 : decode cX1_tells 174 = .ok (.invokevirtual 121, 3) := dk_182 0 121 (dk_at dksX1_tells_7 19 rfl rfl)
theorem dX1_tells_177 : decode cX1_tells 177 = .ok (.invokespecial 129, 3) := dk_183 0 129 (dk_at dksX1_tells_8 0 rfl rfl)
theorem dX1_tells_180 : decode cX1_tells 180 = .ok (.invokevirtual 132, 3) := dk_182 0 132 (dk_at dksX1_tells_8 3 rfl rfl)
theorem dX1_tells_183 : decode cX1_tells 183 = .ok (.pop, 1) := dk_87 (dk_at dksX1_tells_8 6 rfl rfl)
theorem dX1_tells_184 : decode cX1_tells 184 = .ok (.goto 7, 3) := dk_167 0 7 (dk_at dksX1_tells_8 7 rfl rfl)
theorem dX1_tells_187 : decode cX1_tells 187 = .ok (.aload_n 0, 1) := dk_42 (dk_at dksX1_tells_8 10 rfl rfl)
theorem dX1_tells_188 : decode cX1_tells 188 = .ok (.invokevirtual 136, 3) := dk_182 0 136 (dk_at dksX1_tells_8 11 rfl rfl)
theorem dX1_tells_191 : decode cX1_tells 191 = .ok (.aload_n 0, 1) := dk_42 (dk_at dksX1_tells_8 14 rfl rfl)
theorem dX1_tells_192 : decode cX1_tells 192 = .ok (.bipush 59, 2) := dk_16 59 (dk_at dksX1_tells_8 15 rfl rfl)
theorem dX1_tells_194 : decode cX1_tells 194 = .ok (.invokevirtual 139, 3) := dk_182 0 139 (dk_at dksX1_tells_8 17 rfl rfl)
theorem dX1_tells_197 : decode cX1_tells 197 = .ok (.return_, 1) := dk_177 (dk_at dksX1_tells_8 20 rfl rfl)
def dkwX1_word_5 : List UInt8 := [2, 172]
abbrev dktX1_word_5 : List UInt8 := dkwX1_word_5 ++ []
def dkwX1_word_4 : List UInt8 := [180, 0, 30, 42, 180, 0, 23, 100, 160, 0, 5, 28, 172, 21, 4, 4, 96, 62, 132, 2, 1, 167, 255, 144]
abbrev dktX1_word_4 : List UInt8 := dkwX1_word_4 ++ dktX1_word_5
def dkwX1_word_3 : List UInt8 := [182, 0, 65, 160, 0, 9, 132, 5, 1, 167, 255, 207, 21, 5, 21, 4, 29, 100, 160, 0, 19, 21, 5, 42]
abbrev dktX1_word_3 : List UInt8 := dkwX1_word_3 ++ dktX1_word_4
def dkwX1_word_2 : List UInt8 := [42, 180, 0, 30, 162, 0, 32, 42, 180, 0, 36, 42, 180, 0, 23, 21, 5, 96, 51, 43, 29, 21, 5, 96]
abbrev dktX1_word_2 : List UInt8 := dkwX1_word_2 ++ dktX1_word_3
def dkwX1_word_1 : List UInt8 := [182, 0, 61, 54, 4, 3, 54, 5, 21, 5, 21, 4, 29, 100, 162, 0, 46, 42, 180, 0, 23, 21, 5, 96]
abbrev dktX1_word_1 : List UInt8 := dkwX1_word_1 ++ dktX1_word_2
def dkwX1_word_0 : List UInt8 := [3, 61, 3, 62, 29, 43, 182, 0, 51, 162, 0, 110, 42, 182, 0, 57, 154, 0, 103, 43, 16, 32, 29]
abbrev dktX1_word_0 : List UInt8 := dkwX1_word_0 ++ dktX1_word_1
theorem dksX1_word_0 : cX1_word.data.toList.drop 0 = dktX1_word_0 := by decide +kernel
theorem dksX1_word_1 : cX1_word.data.toList.drop 23 = dktX1_word_1 := dk_seg dksX1_word_0 23 rfl rfl
theorem dksX1_word_2 : cX1_word.data.toList.drop 47 = dktX1_word_2 := dk_seg dksX1_word_1 24 rfl rfl
theorem dksX1_word_3 : cX1_word.data.toList.drop 71 = dktX1_word_3 := dk_seg dksX1_word_2 24 rfl rfl
theorem dksX1_word_4 : cX1_word.data.toList.drop 95 = dktX1_word_4 := dk_seg dksX1_word_3 24 rfl rfl
theorem dksX1_word_5 : cX1_word.data.toList.drop 119 = dktX1_word_5 := dk_seg dksX1_word_4 24 rfl rfl
theorem dX1_word_0 : decode cX1_word 0 = .ok (.iconst 0, 1) := dk_3 (dk_at dksX1_word_0 0 rfl rfl)
theorem dX1_word_1 : decode cX1_word 1 = .ok (.istore_n 2, 1) := dk_61 (dk_at dksX1_word_0 1 rfl rfl)
theorem dX1_word_2 : decode cX1_word 2 = .ok (.iconst 0, 1) := dk_3 (dk_at dksX1_word_0 2 rfl rfl)
theorem dX1_word_3 : decode cX1_word 3 = .ok (.istore_n 3, 1) := dk_62 (dk_at dksX1_word_0 3 rfl rfl)
theorem dX1_word_4 : decode cX1_word 4 = .ok (.iload_n 3, 1) := dk_29 (dk_at dksX1_word_0 4 rfl rfl)
theorem dX1_word_5 : decode cX1_word 5 = .ok (.aload_n 1, 1) := dk_43 (dk_at dksX1_word_0 5 rfl rfl)
theorem dX1_word_6 : decode cX1_word 6 = .ok (.invokevirtual 51, 3) := dk_182 0 51 (dk_at dksX1_word_0 6 rfl rfl)
theorem dX1_word_9 : decode cX1_word 9 = .ok (.if_icmp .ge 110, 3) := dk_162 0 110 (dk_at dksX1_word_0 9 rfl rfl)
theorem dX1_word_12 : decode cX1_word 12 = .ok (.aload_n 0, 1) := dk_42 (dk_at dksX1_word_0 12 rfl rfl)
theorem dX1_word_13 : decode cX1_word 13 = .ok (.invokevirtual 57, 3) := dk_182 0 57 (dk_at dksX1_word_0 13 rfl rfl)
theorem dX1_word_16 : decode cX1_word 16 = .ok (.ifCond .ne 103, 3) := dk_154 0 103 (dk_at dksX1_word_0 16 rfl rfl)
theorem dX1_word_19 : decode cX1_word 19 = .ok (.aload_n 1, 1) := dk_43 (dk_at dksX1_word_0 19 rfl rfl)
theorem dX1_word_20 : decode cX1_word 20 = .ok (.bipush 32, 2) := dk_16 32 (dk_at dksX1_word_0 20 rfl rfl)
theorem dX1_word_22 : decode cX1_word 22 = .ok (.iload_n 3, 1) := dk_29 (dk_at dksX1_word_0 22 rfl rfl)
theorem dX1_word_23 : decode cX1_word 23 = .ok (.invokevirtual 61, 3) := dk_182 0 61 (dk_at dksX1_word_1 0 rfl rfl)
theorem dX1_word_26 : decode cX1_word 26 = .ok (.istore 4, 2) := dk_54 4 (dk_at dksX1_word_1 3 rfl rfl)
theorem dX1_word_28 : decode cX1_word 28 = .ok (.iconst 0, 1) := dk_3 (dk_at dksX1_word_1 5 rfl rfl)
theorem dX1_word_29 : decode cX1_word 29 = .ok (.istore 5, 2) := dk_54 5 (dk_at dksX1_word_1 6 rfl rfl)
theorem dX1_word_31 : decode cX1_word 31 = .ok (.iload 5, 2) := dk_21 5 (dk_at dksX1_word_1 8 rfl rfl)
theorem dX1_word_33 : decode cX1_word 33 = .ok (.iload 4, 2) := dk_21 4 (dk_at dksX1_word_1 10 rfl rfl)
theorem dX1_word_35 : decode cX1_word 35 = .ok (.iload_n 3, 1) := dk_29 (dk_at dksX1_word_1 12 rfl rfl)
theorem dX1_word_36 : decode cX1_word 36 = .ok (.isub, 1) := dk_100 (dk_at dksX1_word_1 13 rfl rfl)
theorem dX1_word_37 : decode cX1_word 37 = .ok (.if_icmp .ge 46, 3) := dk_162 0 46 (dk_at dksX1_word_1 14 rfl rfl)
theorem dX1_word_40 : decode cX1_word 40 = .ok (.aload_n 0, 1) := dk_42 (dk_at dksX1_word_1 17 rfl rfl)
theorem dX1_word_41 : decode cX1_word 41 = .ok (.getfield 23, 3) := dk_180 0 23 (dk_at dksX1_word_1 18 rfl rfl)
theorem dX1_word_44 : decode cX1_word 44 = .ok (.iload 5, 2) := dk_21 5 (dk_at dksX1_word_1 21 rfl rfl)
theorem dX1_word_46 : decode cX1_word 46 = .ok (.iadd, 1) := dk_96 (dk_at dksX1_word_1 23 rfl rfl)
theorem dX1_word_47 : decode cX1_word 47 = .ok (.aload_n 0, 1) := dk_42 (dk_at dksX1_word_2 0 rfl rfl)
theorem dX1_word_48 : decode cX1_word 48 = .ok (.getfield 30, 3) := dk_180 0 30 (dk_at dksX1_word_2 1 rfl rfl)
theorem dX1_word_51 : decode cX1_word 51 = .ok (.if_icmp .ge 32, 3) := dk_162 0 32 (dk_at dksX1_word_2 4 rfl rfl)
theorem dX1_word_54 : decode cX1_word 54 = .ok (.aload_n 0, 1) := dk_42 (dk_at dksX1_word_2 7 rfl rfl)
theorem dX1_word_55 : decode cX1_word 55 = .ok (.getfield 36, 3) := dk_180 0 36 (dk_at dksX1_word_2 8 rfl rfl)
theorem dX1_word_58 : decode cX1_word 58 = .ok (.aload_n 0, 1) := dk_42 (dk_at dksX1_word_2 11 rfl rfl)
theorem dX1_word_59 : decode cX1_word 59 = .ok (.getfield 23, 3) := dk_180 0 23 (dk_at dksX1_word_2 12 rfl rfl)
theorem dX1_word_62 : decode cX1_word 62 = .ok (.iload 5, 2) := dk_21 5 (dk_at dksX1_word_2 15 rfl rfl)
theorem dX1_word_64 : decode cX1_word 64 = .ok (.iadd, 1) := dk_96 (dk_at dksX1_word_2 17 rfl rfl)
theorem dX1_word_65 : decode cX1_word 65 = .ok (.baload, 1) := dk_51 (dk_at dksX1_word_2 18 rfl rfl)
theorem dX1_word_66 : decode cX1_word 66 = .ok (.aload_n 1, 1) := dk_43 (dk_at dksX1_word_2 19 rfl rfl)
theorem dX1_word_67 : decode cX1_word 67 = .ok (.iload_n 3, 1) := dk_29 (dk_at dksX1_word_2 20 rfl rfl)
theorem dX1_word_68 : decode cX1_word 68 = .ok (.iload 5, 2) := dk_21 5 (dk_at dksX1_word_2 21 rfl rfl)
theorem dX1_word_70 : decode cX1_word 70 = .ok (.iadd, 1) := dk_96 (dk_at dksX1_word_2 23 rfl rfl)
theorem dX1_word_71 : decode cX1_word 71 = .ok (.invokevirtual 65, 3) := dk_182 0 65 (dk_at dksX1_word_3 0 rfl rfl)
theorem dX1_word_74 : decode cX1_word 74 = .ok (.if_icmp .ne 9, 3) := dk_160 0 9 (dk_at dksX1_word_3 3 rfl rfl)
theorem dX1_word_77 : decode cX1_word 77 = .ok (.iinc 5 1, 3) := dk_132 5 1 (dk_at dksX1_word_3 6 rfl rfl)
theorem dX1_word_80 : decode cX1_word 80 = .ok (.goto (-49), 3) := dk_167 255 207 (dk_at dksX1_word_3 9 rfl rfl)
theorem dX1_word_83 : decode cX1_word 83 = .ok (.iload 5, 2) := dk_21 5 (dk_at dksX1_word_3 12 rfl rfl)
theorem dX1_word_85 : decode cX1_word 85 = .ok (.iload 4, 2) := dk_21 4 (dk_at dksX1_word_3 14 rfl rfl)
theorem dX1_word_87 : decode cX1_word 87 = .ok (.iload_n 3, 1) := dk_29 (dk_at dksX1_word_3 16 rfl rfl)
theorem dX1_word_88 : decode cX1_word 88 = .ok (.isub, 1) := dk_100 (dk_at dksX1_word_3 17 rfl rfl)
theorem dX1_word_89 : decode cX1_word 89 = .ok (.if_icmp .ne 19, 3) := dk_160 0 19 (dk_at dksX1_word_3 18 rfl rfl)
theorem dX1_word_92 : decode cX1_word 92 = .ok (.iload 5, 2) := dk_21 5 (dk_at dksX1_word_3 21 rfl rfl)
theorem dX1_word_94 : decode cX1_word 94 = .ok (.aload_n 0, 1) := dk_42 (dk_at dksX1_word_3 23 rfl rfl)
theorem dX1_word_95 : decode cX1_word 95 = .ok (.getfield 30, 3) := dk_180 0 30 (dk_at dksX1_word_4 0 rfl rfl)
theorem dX1_word_98 : decode cX1_word 98 = .ok (.aload_n 0, 1) := dk_42 (dk_at dksX1_word_4 3 rfl rfl)
theorem dX1_word_99 : decode cX1_word 99 = .ok (.getfield 23, 3) := dk_180 0 23 (dk_at dksX1_word_4 4 rfl rfl)
theorem dX1_word_102 : decode cX1_word 102 = .ok (.isub, 1) := dk_100 (dk_at dksX1_word_4 7 rfl rfl)
theorem dX1_word_103 : decode cX1_word 103 = .ok (.if_icmp .ne 5, 3) := dk_160 0 5 (dk_at dksX1_word_4 8 rfl rfl)
theorem dX1_word_106 : decode cX1_word 106 = .ok (.iload_n 2, 1) := dk_28 (dk_at dksX1_word_4 11 rfl rfl)
theorem dX1_word_107 : decode cX1_word 107 = .ok (.ireturn, 1) := dk_172 (dk_at dksX1_word_4 12 rfl rfl)
theorem dX1_word_108 : decode cX1_word 108 = .ok (.iload 4, 2) := dk_21 4 (dk_at dksX1_word_4 13 rfl rfl)
theorem dX1_word_110 : decode cX1_word 110 = .ok (.iconst 1, 1) := dk_4 (dk_at dksX1_word_4 15 rfl rfl)
theorem dX1_word_111 : decode cX1_word 111 = .ok (.iadd, 1) := dk_96 (dk_at dksX1_word_4 16 rfl rfl)
theorem dX1_word_112 : decode cX1_word 112 = .ok (.istore_n 3, 1) := dk_62 (dk_at dksX1_word_4 17 rfl rfl)
theorem dX1_word_113 : decode cX1_word 113 = .ok (.iinc 2 1, 3) := dk_132 2 1 (dk_at dksX1_word_4 18 rfl rfl)
theorem dX1_word_116 : decode cX1_word 116 = .ok (.goto (-112), 3) := dk_167 255 144 (dk_at dksX1_word_4 21 rfl rfl)
theorem dX1_word_119 : decode cX1_word 119 = .ok (.iconst (-1), 1) := dk_2 (dk_at dksX1_word_5 0 rfl rfl)
theorem dX1_word_120 : decode cX1_word 120 = .ok (.ireturn, 1) := dk_172 (dk_at dksX1_word_5 1 rfl rfl)
def dkwX1_isOver_0 : List UInt8 := [42, 180, 0, 23, 42, 180, 0, 33, 160, 0, 7, 4, 167, 0, 4, 3, 172]
abbrev dktX1_isOver_0 : List UInt8 := dkwX1_isOver_0 ++ []
theorem dksX1_isOver_0 : cX1_isOver.data.toList.drop 0 = dktX1_isOver_0 := by decide +kernel
theorem dX1_isOver_0 : decode cX1_isOver 0 = .ok (.aload_n 0, 1) := dk_42 (dk_at dksX1_isOver_0 0 rfl rfl)
theorem dX1_isOver_1 : decode cX1_isOver 1 = .ok (.getfield 23, 3) := dk_180 0 23 (dk_at dksX1_isOver_0 1 rfl rfl)
theorem dX1_isOver_4 : decode cX1_isOver 4 = .ok (.aload_n 0, 1) := dk_42 (dk_at dksX1_isOver_0 4 rfl rfl)
theorem dX1_isOver_5 : decode cX1_isOver 5 = .ok (.getfield 33, 3) := dk_180 0 33 (dk_at dksX1_isOver_0 5 rfl rfl)
theorem dX1_isOver_8 : decode cX1_isOver 8 = .ok (.if_icmp .ne 7, 3) := dk_160 0 7 (dk_at dksX1_isOver_0 8 rfl rfl)
theorem dX1_isOver_11 : decode cX1_isOver 11 = .ok (.iconst 1, 1) := dk_4 (dk_at dksX1_isOver_0 11 rfl rfl)
theorem dX1_isOver_12 : decode cX1_isOver 12 = .ok (.goto 4, 3) := dk_167 0 4 (dk_at dksX1_isOver_0 12 rfl rfl)
theorem dX1_isOver_15 : decode cX1_isOver 15 = .ok (.iconst 0, 1) := dk_3 (dk_at dksX1_isOver_0 15 rfl rfl)
theorem dX1_isOver_16 : decode cX1_isOver 16 = .ok (.ireturn, 1) := dk_172 (dk_at dksX1_isOver_0 16 rfl rfl)
def dkwX1_needsWord_0 : List UInt8 := [42, 43, 182, 0, 69, 61, 28, 2, 160, 0, 8, 42, 182, 0, 47, 191, 42, 182, 0, 73, 28, 172]
abbrev dktX1_needsWord_0 : List UInt8 := dkwX1_needsWord_0 ++ []
theorem dksX1_needsWord_0 : cX1_needsWord.data.toList.drop 0 = dktX1_needsWord_0 := by decide +kernel
theorem dX1_needsWord_0 : decode cX1_needsWord 0 = .ok (.aload_n 0, 1) := dk_42 (dk_at dksX1_needsWord_0 0 rfl rfl)
theorem dX1_needsWord_1 : decode cX1_needsWord 1 = .ok (.aload_n 1, 1) := dk_43 (dk_at dksX1_needsWord_0 1 rfl rfl)
theorem dX1_needsWord_2 : decode cX1_needsWord 2 = .ok (.invokevirtual 69, 3) := dk_182 0 69 (dk_at dksX1_needsWord_0 2 rfl rfl)
theorem dX1_needsWord_5 : decode cX1_needsWord 5 = .ok (.istore_n 2, 1) := dk_61 (dk_at dksX1_needsWord_0 5 rfl rfl)
theorem dX1_needsWord_6 : decode cX1_needsWord 6 = .ok (.iload_n 2, 1) := dk_28 (dk_at dksX1_needsWord_0 6 rfl rfl)
theorem dX1_needsWord_7 : decode cX1_needsWord 7 = .ok (.iconst (-1), 1) := dk_2 (dk_at dksX1_needsWord_0 7 rfl rfl)
theorem dX1_needsWord_8 : decode cX1_needsWord 8 = .ok (.if_icmp .ne 8, 3) := dk_160 0 8 (dk_at dksX1_needsWord_0 8 rfl rfl)
theorem dX1_needsWord_11 : decode cX1_needsWord 11 = .ok (.aload_n 0, 1) := dk_42 (dk_at dksX1_needsWord_0 11 rfl rfl)
theorem dX1_needsWord_12 : decode cX1_needsWord 12 = .ok (.invokevirtual 47, 3) := dk_182 0 47 (dk_at dksX1_needsWord_0 12 rfl rfl)
theorem dX1_needsWord_15 : decode cX1_needsWord 15 = .ok (.athrow, 1) := dk_191 (dk_at dksX1_needsWord_0 15 rfl rfl)
theorem dX1_needsWord_16 : decode cX1_needsWord 16 = .ok (.aload_n 0, 1) := dk_42 (dk_at dksX1_needsWord_0 16 rfl rfl)
theorem dX1_needsWord_17 : decode cX1_needsWord 17 = .ok (.invokevirtual 73, 3) := dk_182 0 73 (dk_at dksX1_needsWord_0 17 rfl rfl)
theorem dX1_needsWord_20 : decode cX1_needsWord 20 = .ok (.iload_n 2, 1) := dk_28 (dk_at dksX1_needsWord_0 20 rfl rfl)
theorem dX1_needsWord_21 : decode cX1_needsWord 21 = .ok (.ireturn, 1) := dk_172 (dk_at dksX1_needsWord_0 21 rfl rfl)
def dkwX1_number_3 : List UInt8 := [167, 255, 222, 29, 27, 28, 184, 0, 81, 154, 0, 8, 42, 182, 0, 47, 191, 42, 182, 0, 73, 29, 172]
abbrev dktX1_number_3 : List UInt8 := dkwX1_number_3 ++ []
def dkwX1_number_2 : List UInt8 := [16, 10, 29, 104, 42, 180, 0, 36, 21, 4, 51, 96, 16, 48, 100, 184, 0, 76, 62, 132, 4, 1]
abbrev dktX1_number_2 : List UInt8 := dkwX1_number_2 ++ dktX1_number_3
def dkwX1_number_1 : List UInt8 := [182, 0, 47, 191, 3, 62, 42, 180, 0, 23, 54, 4, 21, 4, 42, 180, 0, 30, 162, 0, 31, 17, 3, 232]
abbrev dktX1_number_1 : List UInt8 := dkwX1_number_1 ++ dktX1_number_2
def dkwX1_number_0 : List UInt8 := [42, 182, 0, 57, 154, 0, 18, 42, 180, 0, 36, 42, 180, 0, 23, 51, 184, 0, 44, 154, 0, 8, 42]
abbrev dktX1_number_0 : List UInt8 := dkwX1_number_0 ++ dktX1_number_1
theorem dksX1_number_0 : cX1_number.data.toList.drop 0 = dktX1_number_0 := by decide +kernel
theorem dksX1_number_1 : cX1_number.data.toList.drop 23 = dktX1_number_1 := dk_seg dksX1_number_0 23 rfl rfl
theorem dksX1_number_2 : cX1_number.data.toList.drop 47 = dktX1_number_2 := dk_seg dksX1_number_1 24 rfl rfl
theorem dksX1_number_3 : cX1_number.data.toList.drop 69 = dktX1_number_3 := dk_seg dksX1_number_2 22 rfl rfl
theorem dX1_number_0 : decode cX1_number 0 = .ok (.aload_n 0, 1) := dk_42 (dk_at dksX1_number_0 0 rfl rfl)
theorem dX1_number_1 : decode cX1_number 1 = .ok (.invokevirtual 57, 3) := dk_182 0 57 (dk_at dksX1_number_0 1 rfl rfl)
theorem dX1_number_4 : decode cX1_number 4 = .ok (.ifCond .ne 18, 3) := dk_154 0 18 (dk_at dksX1_number_0 4 rfl rfl)
theorem dX1_number_7 : decode cX1_number 7 = .ok (.aload_n 0, 1) := dk_42 (dk_at dksX1_number_0 7 rfl rfl)
theorem dX1_number_8 : decode cX1_number 8 = .ok (.getfield 36, 3) := dk_180 0 36 (dk_at dksX1_number_0 8 rfl rfl)
theorem dX1_number_11 : decode cX1_number 11 = .ok (.aload_n 0, 1) := dk_42 (dk_at dksX1_number_0 11 rfl rfl)
theorem dX1_number_12 : decode cX1_number 12 = .ok (.getfield 23, 3) := dk_180 0 23 (dk_at dksX1_number_0 12 rfl rfl)
theorem dX1_number_15 : decode cX1_number 15 = .ok (.baload, 1) := dk_51 (dk_at dksX1_number_0 15 rfl rfl)
theorem dX1_number_16 : decode cX1_number 16 = .ok (.invokestatic 44, 3) := dk_184 0 44 (dk_at dksX1_number_0 16 rfl rfl)
theorem dX1_number_19 : decode cX1_number 19 = .ok (.ifCond .ne 8, 3) := dk_154 0 8 (dk_at dksX1_number_0 19 rfl rfl)
theorem dX1_number_22 : decode cX1_number 22 = .ok (.aload_n 0, 1) := dk_42 (dk_at dksX1_number_0 22 rfl rfl)
theorem dX1_number_23 : decode cX1_number 23 = .ok (.invokevirtual 47, 3) := dk_182 0 47 (dk_at dksX1_number_1 0 rfl rfl)
theorem dX1_number_26 : decode cX1_number 26 = .ok (.athrow, 1) := dk_191 (dk_at dksX1_number_1 3 rfl rfl)
theorem dX1_number_27 : decode cX1_number 27 = .ok (.iconst 0, 1) := dk_3 (dk_at dksX1_number_1 4 rfl rfl)
theorem dX1_number_28 : decode cX1_number 28 = .ok (.istore_n 3, 1) := dk_62 (dk_at dksX1_number_1 5 rfl rfl)
theorem dX1_number_29 : decode cX1_number 29 = .ok (.aload_n 0, 1) := dk_42 (dk_at dksX1_number_1 6 rfl rfl)
theorem dX1_number_30 : decode cX1_number 30 = .ok (.getfield 23, 3) := dk_180 0 23 (dk_at dksX1_number_1 7 rfl rfl)
theorem dX1_number_33 : decode cX1_number 33 = .ok (.istore 4, 2) := dk_54 4 (dk_at dksX1_number_1 10 rfl rfl)
theorem dX1_number_35 : decode cX1_number 35 = .ok (.iload 4, 2) := dk_21 4 (dk_at dksX1_number_1 12 rfl rfl)
theorem dX1_number_37 : decode cX1_number 37 = .ok (.aload_n 0, 1) := dk_42 (dk_at dksX1_number_1 14 rfl rfl)
theorem dX1_number_38 : decode cX1_number 38 = .ok (.getfield 30, 3) := dk_180 0 30 (dk_at dksX1_number_1 15 rfl rfl)
theorem dX1_number_41 : decode cX1_number 41 = .ok (.if_icmp .ge 31, 3) := dk_162 0 31 (dk_at dksX1_number_1 18 rfl rfl)
theorem dX1_number_44 : decode cX1_number 44 = .ok (.sipush 1000, 3) := dk_17 3 232 (dk_at dksX1_number_1 21 rfl rfl)
theorem dX1_number_47 : decode cX1_number 47 = .ok (.bipush 10, 2) := dk_16 10 (dk_at dksX1_number_2 0 rfl rfl)
theorem dX1_number_49 : decode cX1_number 49 = .ok (.iload_n 3, 1) := dk_29 (dk_at dksX1_number_2 2 rfl rfl)
theorem dX1_number_50 : decode cX1_number 50 = .ok (.imul, 1) := dk_104 (dk_at dksX1_number_2 3 rfl rfl)
theorem dX1_number_51 : decode cX1_number 51 = .ok (.aload_n 0, 1) := dk_42 (dk_at dksX1_number_2 4 rfl rfl)
theorem dX1_number_52 : decode cX1_number 52 = .ok (.getfield 36, 3) := dk_180 0 36 (dk_at dksX1_number_2 5 rfl rfl)
theorem dX1_number_55 : decode cX1_number 55 = .ok (.iload 4, 2) := dk_21 4 (dk_at dksX1_number_2 8 rfl rfl)
theorem dX1_number_57 : decode cX1_number 57 = .ok (.baload, 1) := dk_51 (dk_at dksX1_number_2 10 rfl rfl)
theorem dX1_number_58 : decode cX1_number 58 = .ok (.iadd, 1) := dk_96 (dk_at dksX1_number_2 11 rfl rfl)
theorem dX1_number_59 : decode cX1_number 59 = .ok (.bipush 48, 2) := dk_16 48 (dk_at dksX1_number_2 12 rfl rfl)
theorem dX1_number_61 : decode cX1_number 61 = .ok (.isub, 1) := dk_100 (dk_at dksX1_number_2 14 rfl rfl)
theorem dX1_number_62 : decode cX1_number 62 = .ok (.invokestatic 76, 3) := dk_184 0 76 (dk_at dksX1_number_2 15 rfl rfl)
theorem dX1_number_65 : decode cX1_number 65 = .ok (.istore_n 3, 1) := dk_62 (dk_at dksX1_number_2 18 rfl rfl)
theorem dX1_number_66 : decode cX1_number 66 = .ok (.iinc 4 1, 3) := dk_132 4 1 (dk_at dksX1_number_2 19 rfl rfl)
theorem dX1_number_69 : decode cX1_number 69 = .ok (.goto (-34), 3) := dk_167 255 222 (dk_at dksX1_number_3 0 rfl rfl)
theorem dX1_number_72 : decode cX1_number 72 = .ok (.iload_n 3, 1) := dk_29 (dk_at dksX1_number_3 3 rfl rfl)
theorem dX1_number_73 : decode cX1_number 73 = .ok (.iload_n 1, 1) := dk_27 (dk_at dksX1_number_3 4 rfl rfl)
theorem dX1_number_74 : decode cX1_number 74 = .ok (.iload_n 2, 1) := dk_28 (dk_at dksX1_number_3 5 rfl rfl)
theorem dX1_number_75 : decode cX1_number 75 = .ok (.invokestatic 81, 3) := dk_184 0 81 (dk_at dksX1_number_3 6 rfl rfl)
theorem dX1_number_78 : decode cX1_number 78 = .ok (.ifCond .ne 8, 3) := dk_154 0 8 (dk_at dksX1_number_3 9 rfl rfl)
theorem dX1_number_81 : decode cX1_number 81 = .ok (.aload_n 0, 1) := dk_42 (dk_at dksX1_number_3 12 rfl rfl)
theorem dX1_number_82 : decode cX1_number 82 = .ok (.invokevirtual 47, 3) := dk_182 0 47 (dk_at dksX1_number_3 13 rfl rfl)
theorem dX1_number_85 : decode cX1_number 85 = .ok (.athrow, 1) := dk_191 (dk_at dksX1_number_3 16 rfl rfl)
theorem dX1_number_86 : decode cX1_number 86 = .ok (.aload_n 0, 1) := dk_42 (dk_at dksX1_number_3 17 rfl rfl)
theorem dX1_number_87 : decode cX1_number 87 = .ok (.invokevirtual 73, 3) := dk_182 0 73 (dk_at dksX1_number_3 18 rfl rfl)
theorem dX1_number_90 : decode cX1_number 90 = .ok (.iload_n 3, 1) := dk_29 (dk_at dksX1_number_3 21 rfl rfl)
theorem dX1_number_91 : decode cX1_number 91 = .ok (.ireturn, 1) := dk_172 (dk_at dksX1_number_3 22 rfl rfl)
def dkwX1_voter_2 : List UInt8 := [182, 0, 144, 182, 0, 132, 87, 177]
abbrev dktX1_voter_2 : List UInt8 := dkwX1_voter_2 ++ []
def dkwX1_voter_1 : List UInt8 := [154, 0, 15, 42, 182, 0, 73, 42, 4, 16, 9, 182, 0, 121, 62, 42, 180, 0, 12, 42, 27, 28, 29]
abbrev dktX1_voter_1 : List UInt8 := dkwX1_voter_1 ++ dktX1_voter_2
def dkwX1_voter_0 : List UInt8 := [42, 3, 16, 99, 182, 0, 121, 60, 42, 3, 16, 99, 182, 0, 121, 61, 4, 62, 42, 18, 142, 182, 0, 69]
abbrev dktX1_voter_0 : List UInt8 := dkwX1_voter_0 ++ dktX1_voter_1
theorem dksX1_voter_0 : cX1_voter.data.toList.drop 0 = dktX1_voter_0 := by decide +kernel
theorem dksX1_voter_1 : cX1_voter.data.toList.drop 24 = dktX1_voter_1 := dk_seg dksX1_voter_0 24 rfl rfl
theorem dksX1_voter_2 : cX1_voter.data.toList.drop 47 = dktX1_voter_2 := dk_seg dksX1_voter_1 23 rfl rfl
theorem dX1_voter_0 : decode cX1_voter 0 = .ok (.aload_n 0, 1) := dk_42 (dk_at dksX1_voter_0 0 rfl rfl)
theorem dX1_voter_1 : decode cX1_voter 1 = .ok (.iconst 0, 1) := dk_3 (dk_at dksX1_voter_0 1 rfl rfl)
theorem dX1_voter_2 : decode cX1_voter 2 = .ok (.bipush 99, 2) := dk_16 99 (dk_at dksX1_voter_0 2 rfl rfl)
theorem dX1_voter_4 : decode cX1_voter 4 = .ok (.invokevirtual 121, 3) := dk_182 0 121 (dk_at dksX1_voter_0 4 rfl rfl)
theorem dX1_voter_7 : decode cX1_voter 7 = .ok (.istore_n 1, 1) := dk_60 (dk_at dksX1_voter_0 7 rfl rfl)
theorem dX1_voter_8 : decode cX1_voter 8 = .ok (.aload_n 0, 1) := dk_42 (dk_at dksX1_voter_0 8 rfl rfl)
theorem dX1_voter_9 : decode cX1_voter 9 = .ok (.iconst 0, 1) := dk_3 (dk_at dksX1_voter_0 9 rfl rfl)
theorem dX1_voter_10 : decode cX1_voter 10 = .ok (.bipush 99, 2) := dk_16 99 (dk_at dksX1_voter_0 10 rfl rfl)
theorem dX1_voter_12 : decode cX1_voter 12 = .ok (.invokevirtual 121, 3) := dk_182 0 121 (dk_at dksX1_voter_0 12 rfl rfl)
theorem dX1_voter_15 : decode cX1_voter 15 = .ok (.istore_n 2, 1) := dk_61 (dk_at dksX1_voter_0 15 rfl rfl)
theorem dX1_voter_16 : decode cX1_voter 16 = .ok (.iconst 1, 1) := dk_4 (dk_at dksX1_voter_0 16 rfl rfl)
theorem dX1_voter_17 : decode cX1_voter 17 = .ok (.istore_n 3, 1) := dk_62 (dk_at dksX1_voter_0 17 rfl rfl)
theorem dX1_voter_18 : decode cX1_voter 18 = .ok (.aload_n 0, 1) := dk_42 (dk_at dksX1_voter_0 18 rfl rfl)
theorem dX1_voter_19 : decode cX1_voter 19 = .ok (.ldc 142, 2) := dk_18 142 (dk_at dksX1_voter_0 19 rfl rfl)
theorem dX1_voter_21 : decode cX1_voter 21 = .ok (.invokevirtual 69, 3) := dk_182 0 69 (dk_at dksX1_voter_0 21 rfl rfl)
theorem dX1_voter_24 : decode cX1_voter 24 = .ok (.ifCond .ne 15, 3) := dk_154 0 15 (dk_at dksX1_voter_1 0 rfl rfl)
theorem dX1_voter_27 : decode cX1_voter 27 = .ok (.aload_n 0, 1) := dk_42 (dk_at dksX1_voter_1 3 rfl rfl)
theorem dX1_voter_28 : decode cX1_voter 28 = .ok (.invokevirtual 73, 3) := dk_182 0 73 (dk_at dksX1_voter_1 4 rfl rfl)
theorem dX1_voter_31 : decode cX1_voter 31 = .ok (.aload_n 0, 1) := dk_42 (dk_at dksX1_voter_1 7 rfl rfl)
theorem dX1_voter_32 : decode cX1_voter 32 = .ok (.iconst 1, 1) := dk_4 (dk_at dksX1_voter_1 8 rfl rfl)
theorem dX1_voter_33 : decode cX1_voter 33 = .ok (.bipush 9, 2) := dk_16 9 (dk_at dksX1_voter_1 9 rfl rfl)
theorem dX1_voter_35 : decode cX1_voter 35 = .ok (.invokevirtual 121, 3) := dk_182 0 121 (dk_at dksX1_voter_1 11 rfl rfl)
theorem dX1_voter_38 : decode cX1_voter 38 = .ok (.istore_n 3, 1) := dk_62 (dk_at dksX1_voter_1 14 rfl rfl)
theorem dX1_voter_39 : decode cX1_voter 39 = .ok (.aload_n 0, 1) := dk_42 (dk_at dksX1_voter_1 15 rfl rfl)
theorem dX1_voter_40 : decode cX1_voter 40 = .ok (.getfield 12, 3) := dk_180 0 12 (dk_at dksX1_voter_1 16 rfl rfl)
theorem dX1_voter_43 : decode cX1_voter 43 = .ok (.aload_n 0, 1) := dk_42 (dk_at dksX1_voter_1 19 rfl rfl)
theorem dX1_voter_44 : decode cX1_voter 44 = .ok (.iload_n 1, 1) := dk_27 (dk_at dksX1_voter_1 20 rfl rfl)
theorem dX1_voter_45 : decode cX1_voter 45 = .ok (.iload_n 2, 1) := dk_28 (dk_at dksX1_voter_1 21 rfl rfl)
theorem dX1_voter_46 : decode cX1_voter 46 = .ok (.iload_n 3, 1) := dk_29 (dk_at dksX1_voter_1 22 rfl rfl)
theorem dX1_voter_47 : decode cX1_voter 47 = .ok (.invokevirtual 144, 3) := dk_182 0 144 (dk_at dksX1_voter_2 0 rfl rfl)
theorem dX1_voter_50 : decode cX1_voter 50 = .ok (.invokevirtual 132, 3) := dk_182 0 132 (dk_at dksX1_voter_2 3 rfl rfl)
theorem dX1_voter_53 : decode cX1_voter 53 = .ok (.pop, 1) := dk_87 (dk_at dksX1_voter_2 6 rfl rfl)
theorem dX1_voter_54 : decode cX1_voter 54 = .ok (.return_, 1) := dk_177 (dk_at dksX1_voter_2 7 rfl rfl)
def dkwX1_made_5 : List UInt8 := [180, 0, 93, 183, 0, 107, 176]
abbrev dktX1_made_5 : List UInt8 := dkwX1_made_5 ++ []
def dkwX1_made_4 : List UInt8 := [180, 0, 90, 42, 180, 0, 93, 183, 0, 104, 176, 187, 0, 105, 89, 27, 28, 29, 42, 180, 0, 90, 42]
abbrev dktX1_made_4 : List UInt8 := dkwX1_made_4 ++ dktX1_made_5
def dkwX1_made_3 : List UInt8 := [28, 29, 42, 180, 0, 90, 42, 180, 0, 93, 183, 0, 101, 176, 187, 0, 102, 89, 27, 28, 29, 42]
abbrev dktX1_made_3 : List UInt8 := dkwX1_made_3 ++ dktX1_made_4
def dkwX1_made_2 : List UInt8 := [187, 0, 88, 89, 27, 28, 29, 42, 180, 0, 90, 42, 180, 0, 93, 183, 0, 96, 176, 187, 0, 99, 89, 27]
abbrev dktX1_made_2 : List UInt8 := dkwX1_made_2 ++ dktX1_made_3
def dkwX1_made_1 : List UInt8 := [170, 0, 0, 0, 0, 0, 0, 85, 0, 0, 0, 0, 0, 0, 0, 2, 0, 0, 0, 28, 0, 0, 0, 47, 0, 0, 0, 66]
abbrev dktX1_made_1 : List UInt8 := dkwX1_made_1 ++ dktX1_made_2
def dkwX1_made_0 : List UInt8 := [42, 180, 0, 85]
abbrev dktX1_made_0 : List UInt8 := dkwX1_made_0 ++ dktX1_made_1
theorem dksX1_made_0 : cX1_made.data.toList.drop 0 = dktX1_made_0 := by decide +kernel
theorem dksX1_made_1 : cX1_made.data.toList.drop 4 = dktX1_made_1 := dk_seg dksX1_made_0 4 rfl rfl
theorem dksX1_made_2 : cX1_made.data.toList.drop 32 = dktX1_made_2 := dk_seg dksX1_made_1 28 rfl rfl
theorem dksX1_made_3 : cX1_made.data.toList.drop 56 = dktX1_made_3 := dk_seg dksX1_made_2 24 rfl rfl
theorem dksX1_made_4 : cX1_made.data.toList.drop 78 = dktX1_made_4 := dk_seg dksX1_made_3 22 rfl rfl
theorem dksX1_made_5 : cX1_made.data.toList.drop 101 = dktX1_made_5 := dk_seg dksX1_made_4 23 rfl rfl
theorem dX1_made_0 : decode cX1_made 0 = .ok (.aload_n 0, 1) := dk_42 (dk_at dksX1_made_0 0 rfl rfl)
theorem dX1_made_1 : decode cX1_made 1 = .ok (.getfield 85, 3) := dk_180 0 85 (dk_at dksX1_made_0 1 rfl rfl)
theorem dX1_made_4 : decode cX1_made 4 = .ok (.tableswitch 85 0 2 #[28, 47, 66], 28) := by decide +kernel
theorem dX1_made_32 : decode cX1_made 32 = .ok (.new 88, 3) := dk_187 0 88 (dk_at dksX1_made_2 0 rfl rfl)
theorem dX1_made_35 : decode cX1_made 35 = .ok (.dup, 1) := dk_89 (dk_at dksX1_made_2 3 rfl rfl)
theorem dX1_made_36 : decode cX1_made 36 = .ok (.iload_n 1, 1) := dk_27 (dk_at dksX1_made_2 4 rfl rfl)
theorem dX1_made_37 : decode cX1_made 37 = .ok (.iload_n 2, 1) := dk_28 (dk_at dksX1_made_2 5 rfl rfl)
theorem dX1_made_38 : decode cX1_made 38 = .ok (.iload_n 3, 1) := dk_29 (dk_at dksX1_made_2 6 rfl rfl)
theorem dX1_made_39 : decode cX1_made 39 = .ok (.aload_n 0, 1) := dk_42 (dk_at dksX1_made_2 7 rfl rfl)
theorem dX1_made_40 : decode cX1_made 40 = .ok (.getfield 90, 3) := dk_180 0 90 (dk_at dksX1_made_2 8 rfl rfl)
theorem dX1_made_43 : decode cX1_made 43 = .ok (.aload_n 0, 1) := dk_42 (dk_at dksX1_made_2 11 rfl rfl)
theorem dX1_made_44 : decode cX1_made 44 = .ok (.getfield 93, 3) := dk_180 0 93 (dk_at dksX1_made_2 12 rfl rfl)
theorem dX1_made_47 : decode cX1_made 47 = .ok (.invokespecial 96, 3) := dk_183 0 96 (dk_at dksX1_made_2 15 rfl rfl)
theorem dX1_made_50 : decode cX1_made 50 = .ok (.areturn, 1) := dk_176 (dk_at dksX1_made_2 18 rfl rfl)
theorem dX1_made_51 : decode cX1_made 51 = .ok (.new 99, 3) := dk_187 0 99 (dk_at dksX1_made_2 19 rfl rfl)
theorem dX1_made_54 : decode cX1_made 54 = .ok (.dup, 1) := dk_89 (dk_at dksX1_made_2 22 rfl rfl)
theorem dX1_made_55 : decode cX1_made 55 = .ok (.iload_n 1, 1) := dk_27 (dk_at dksX1_made_2 23 rfl rfl)
theorem dX1_made_56 : decode cX1_made 56 = .ok (.iload_n 2, 1) := dk_28 (dk_at dksX1_made_3 0 rfl rfl)
theorem dX1_made_57 : decode cX1_made 57 = .ok (.iload_n 3, 1) := dk_29 (dk_at dksX1_made_3 1 rfl rfl)
theorem dX1_made_58 : decode cX1_made 58 = .ok (.aload_n 0, 1) := dk_42 (dk_at dksX1_made_3 2 rfl rfl)
theorem dX1_made_59 : decode cX1_made 59 = .ok (.getfield 90, 3) := dk_180 0 90 (dk_at dksX1_made_3 3 rfl rfl)
theorem dX1_made_62 : decode cX1_made 62 = .ok (.aload_n 0, 1) := dk_42 (dk_at dksX1_made_3 6 rfl rfl)
theorem dX1_made_63 : decode cX1_made 63 = .ok (.getfield 93, 3) := dk_180 0 93 (dk_at dksX1_made_3 7 rfl rfl)
theorem dX1_made_66 : decode cX1_made 66 = .ok (.invokespecial 101, 3) := dk_183 0 101 (dk_at dksX1_made_3 10 rfl rfl)
theorem dX1_made_69 : decode cX1_made 69 = .ok (.areturn, 1) := dk_176 (dk_at dksX1_made_3 13 rfl rfl)
theorem dX1_made_70 : decode cX1_made 70 = .ok (.new 102, 3) := dk_187 0 102 (dk_at dksX1_made_3 14 rfl rfl)
theorem dX1_made_73 : decode cX1_made 73 = .ok (.dup, 1) := dk_89 (dk_at dksX1_made_3 17 rfl rfl)
theorem dX1_made_74 : decode cX1_made 74 = .ok (.iload_n 1, 1) := dk_27 (dk_at dksX1_made_3 18 rfl rfl)
theorem dX1_made_75 : decode cX1_made 75 = .ok (.iload_n 2, 1) := dk_28 (dk_at dksX1_made_3 19 rfl rfl)
theorem dX1_made_76 : decode cX1_made 76 = .ok (.iload_n 3, 1) := dk_29 (dk_at dksX1_made_3 20 rfl rfl)
theorem dX1_made_77 : decode cX1_made 77 = .ok (.aload_n 0, 1) := dk_42 (dk_at dksX1_made_3 21 rfl rfl)
theorem dX1_made_78 : decode cX1_made 78 = .ok (.getfield 90, 3) := dk_180 0 90 (dk_at dksX1_made_4 0 rfl rfl)
theorem dX1_made_81 : decode cX1_made 81 = .ok (.aload_n 0, 1) := dk_42 (dk_at dksX1_made_4 3 rfl rfl)
theorem dX1_made_82 : decode cX1_made 82 = .ok (.getfield 93, 3) := dk_180 0 93 (dk_at dksX1_made_4 4 rfl rfl)
theorem dX1_made_85 : decode cX1_made 85 = .ok (.invokespecial 104, 3) := dk_183 0 104 (dk_at dksX1_made_4 7 rfl rfl)
theorem dX1_made_88 : decode cX1_made 88 = .ok (.areturn, 1) := dk_176 (dk_at dksX1_made_4 10 rfl rfl)
theorem dX1_made_89 : decode cX1_made 89 = .ok (.new 105, 3) := dk_187 0 105 (dk_at dksX1_made_4 11 rfl rfl)
theorem dX1_made_92 : decode cX1_made 92 = .ok (.dup, 1) := dk_89 (dk_at dksX1_made_4 14 rfl rfl)
theorem dX1_made_93 : decode cX1_made 93 = .ok (.iload_n 1, 1) := dk_27 (dk_at dksX1_made_4 15 rfl rfl)
theorem dX1_made_94 : decode cX1_made 94 = .ok (.iload_n 2, 1) := dk_28 (dk_at dksX1_made_4 16 rfl rfl)
theorem dX1_made_95 : decode cX1_made 95 = .ok (.iload_n 3, 1) := dk_29 (dk_at dksX1_made_4 17 rfl rfl)
theorem dX1_made_96 : decode cX1_made 96 = .ok (.aload_n 0, 1) := dk_42 (dk_at dksX1_made_4 18 rfl rfl)
theorem dX1_made_97 : decode cX1_made 97 = .ok (.getfield 90, 3) := dk_180 0 90 (dk_at dksX1_made_4 19 rfl rfl)
theorem dX1_made_100 : decode cX1_made 100 = .ok (.aload_n 0, 1) := dk_42 (dk_at dksX1_made_4 22 rfl rfl)
theorem dX1_made_101 : decode cX1_made 101 = .ok (.getfield 93, 3) := dk_180 0 93 (dk_at dksX1_made_5 0 rfl rfl)
theorem dX1_made_104 : decode cX1_made 104 = .ok (.invokespecial 107, 3) := dk_183 0 107 (dk_at dksX1_made_5 3 rfl rfl)
theorem dX1_made_107 : decode cX1_made 107 = .ok (.areturn, 1) := dk_176 (dk_at dksX1_made_5 6 rfl rfl)
def dkwX1_win_2 : List UInt8 := [182, 0, 121, 183, 0, 152, 181, 0, 155, 177]
abbrev dktX1_win_2 : List UInt8 := dkwX1_win_2 ++ []
def dkwX1_win_1 : List UInt8 := [61, 42, 16, 47, 182, 0, 139, 42, 187, 0, 150, 89, 27, 28, 42, 28, 16, 99, 5, 28, 104, 184, 0, 76]
abbrev dktX1_win_1 : List UInt8 := dkwX1_win_1 ++ dktX1_win_2
def dkwX1_win_0 : List UInt8 := [42, 4, 181, 0, 112, 42, 18, 148, 182, 0, 118, 60, 27, 154, 0, 4, 177, 42, 4, 16, 99, 182, 0, 121]
abbrev dktX1_win_0 : List UInt8 := dkwX1_win_0 ++ dktX1_win_1
theorem dksX1_win_0 : cX1_win.data.toList.drop 0 = dktX1_win_0 := by decide +kernel
theorem dksX1_win_1 : cX1_win.data.toList.drop 24 = dktX1_win_1 := dk_seg dksX1_win_0 24 rfl rfl
theorem dksX1_win_2 : cX1_win.data.toList.drop 48 = dktX1_win_2 := dk_seg dksX1_win_1 24 rfl rfl
theorem dX1_win_0 : decode cX1_win 0 = .ok (.aload_n 0, 1) := dk_42 (dk_at dksX1_win_0 0 rfl rfl)
theorem dX1_win_1 : decode cX1_win 1 = .ok (.iconst 1, 1) := dk_4 (dk_at dksX1_win_0 1 rfl rfl)
theorem dX1_win_2 : decode cX1_win 2 = .ok (.putfield 112, 3) := dk_181 0 112 (dk_at dksX1_win_0 2 rfl rfl)
theorem dX1_win_5 : decode cX1_win 5 = .ok (.aload_n 0, 1) := dk_42 (dk_at dksX1_win_0 5 rfl rfl)
theorem dX1_win_6 : decode cX1_win 6 = .ok (.ldc 148, 2) := dk_18 148 (dk_at dksX1_win_0 6 rfl rfl)
theorem dX1_win_8 : decode cX1_win 8 = .ok (.invokevirtual 118, 3) := dk_182 0 118 (dk_at dksX1_win_0 8 rfl rfl)
theorem dX1_win_11 : decode cX1_win 11 = .ok (.istore_n 1, 1) := dk_60 (dk_at dksX1_win_0 11 rfl rfl)
theorem dX1_win_12 : decode cX1_win 12 = .ok (.iload_n 1, 1) := dk_27 (dk_at dksX1_win_0 12 rfl rfl)
theorem dX1_win_13 : decode cX1_win 13 = .ok (.ifCond .ne 4, 3) := dk_154 0 4 (dk_at dksX1_win_0 13 rfl rfl)
theorem dX1_win_16 : decode cX1_win 16 = .ok (.return_, 1) := dk_177 (dk_at dksX1_win_0 16 rfl rfl)
theorem dX1_win_17 : decode cX1_win 17 = .ok (.aload_n 0, 1) := dk_42 (dk_at dksX1_win_0 17 rfl rfl)
theorem dX1_win_18 : decode cX1_win 18 = .ok (.iconst 1, 1) := dk_4 (dk_at dksX1_win_0 18 rfl rfl)
theorem dX1_win_19 : decode cX1_win 19 = .ok (.bipush 99, 2) := dk_16 99 (dk_at dksX1_win_0 19 rfl rfl)
theorem dX1_win_21 : decode cX1_win 21 = .ok (.invokevirtual 121, 3) := dk_182 0 121 (dk_at dksX1_win_0 21 rfl rfl)
theorem dX1_win_24 : decode cX1_win 24 = .ok (.istore_n 2, 1) := dk_61 (dk_at dksX1_win_1 0 rfl rfl)
theorem dX1_win_25 : decode cX1_win 25 = .ok (.aload_n 0, 1) := dk_42 (dk_at dksX1_win_1 1 rfl rfl)
theorem dX1_win_26 : decode cX1_win 26 = .ok (.bipush 47, 2) := dk_16 47 (dk_at dksX1_win_1 2 rfl rfl)
theorem dX1_win_28 : decode cX1_win 28 = .ok (.invokevirtual 139, 3) := dk_182 0 139 (dk_at dksX1_win_1 4 rfl rfl)
theorem dX1_win_31 : decode cX1_win 31 = .ok (.aload_n 0, 1) := dk_42 (dk_at dksX1_win_1 7 rfl rfl)
theorem dX1_win_32 : decode cX1_win 32 = .ok (.new 150, 3) := dk_187 0 150 (dk_at dksX1_win_1 8 rfl rfl)
theorem dX1_win_35 : decode cX1_win 35 = .ok (.dup, 1) := dk_89 (dk_at dksX1_win_1 11 rfl rfl)
theorem dX1_win_36 : decode cX1_win 36 = .ok (.iload_n 1, 1) := dk_27 (dk_at dksX1_win_1 12 rfl rfl)
theorem dX1_win_37 : decode cX1_win 37 = .ok (.iload_n 2, 1) := dk_28 (dk_at dksX1_win_1 13 rfl rfl)
theorem dX1_win_38 : decode cX1_win 38 = .ok (.aload_n 0, 1) := dk_42 (dk_at dksX1_win_1 14 rfl rfl)
theorem dX1_win_39 : decode cX1_win 39 = .ok (.iload_n 2, 1) := dk_28 (dk_at dksX1_win_1 15 rfl rfl)
theorem dX1_win_40 : decode cX1_win 40 = .ok (.bipush 99, 2) := dk_16 99 (dk_at dksX1_win_1 16 rfl rfl)
theorem dX1_win_42 : decode cX1_win 42 = .ok (.iconst 2, 1) := dk_5 (dk_at dksX1_win_1 18 rfl rfl)
theorem dX1_win_43 : decode cX1_win 43 = .ok (.iload_n 2, 1) := dk_28 (dk_at dksX1_win_1 19 rfl rfl)
theorem dX1_win_44 : decode cX1_win 44 = .ok (.imul, 1) := dk_104 (dk_at dksX1_win_1 20 rfl rfl)
theorem dX1_win_45 : decode cX1_win 45 = .ok (.invokestatic 76, 3) := dk_184 0 76 (dk_at dksX1_win_1 21 rfl rfl)
theorem dX1_win_48 : decode cX1_win 48 = .ok (.invokevirtual 121, 3) := dk_182 0 121 (dk_at dksX1_win_2 0 rfl rfl)
theorem dX1_win_51 : decode cX1_win 51 = .ok (.invokespecial 152, 3) := dk_183 0 152 (dk_at dksX1_win_2 3 rfl rfl)
theorem dX1_win_54 : decode cX1_win 54 = .ok (.putfield 155, 3) := dk_181 0 155 (dk_at dksX1_win_2 6 rfl rfl)
theorem dX1_win_57 : decode cX1_win 57 = .ok (.return_, 1) := dk_177 (dk_at dksX1_win_2 9 rfl rfl)
def dkwX1_needs_1 : List UInt8 := [191, 42, 182, 0, 73, 177]
abbrev dktX1_needs_1 : List UInt8 := dkwX1_needs_1 ++ []
def dkwX1_needs_0 : List UInt8 := [42, 182, 0, 57, 154, 0, 16, 42, 180, 0, 36, 42, 180, 0, 23, 51, 27, 159, 0, 8, 42, 182, 0, 47]
abbrev dktX1_needs_0 : List UInt8 := dkwX1_needs_0 ++ dktX1_needs_1
theorem dksX1_needs_0 : cX1_needs.data.toList.drop 0 = dktX1_needs_0 := by decide +kernel
theorem dksX1_needs_1 : cX1_needs.data.toList.drop 24 = dktX1_needs_1 := dk_seg dksX1_needs_0 24 rfl rfl
theorem dX1_needs_0 : decode cX1_needs 0 = .ok (.aload_n 0, 1) := dk_42 (dk_at dksX1_needs_0 0 rfl rfl)
theorem dX1_needs_1 : decode cX1_needs 1 = .ok (.invokevirtual 57, 3) := dk_182 0 57 (dk_at dksX1_needs_0 1 rfl rfl)
theorem dX1_needs_4 : decode cX1_needs 4 = .ok (.ifCond .ne 16, 3) := dk_154 0 16 (dk_at dksX1_needs_0 4 rfl rfl)
theorem dX1_needs_7 : decode cX1_needs 7 = .ok (.aload_n 0, 1) := dk_42 (dk_at dksX1_needs_0 7 rfl rfl)
theorem dX1_needs_8 : decode cX1_needs 8 = .ok (.getfield 36, 3) := dk_180 0 36 (dk_at dksX1_needs_0 8 rfl rfl)
theorem dX1_needs_11 : decode cX1_needs 11 = .ok (.aload_n 0, 1) := dk_42 (dk_at dksX1_needs_0 11 rfl rfl)
theorem dX1_needs_12 : decode cX1_needs 12 = .ok (.getfield 23, 3) := dk_180 0 23 (dk_at dksX1_needs_0 12 rfl rfl)
theorem dX1_needs_15 : decode cX1_needs 15 = .ok (.baload, 1) := dk_51 (dk_at dksX1_needs_0 15 rfl rfl)
theorem dX1_needs_16 : decode cX1_needs 16 = .ok (.iload_n 1, 1) := dk_27 (dk_at dksX1_needs_0 16 rfl rfl)
theorem dX1_needs_17 : decode cX1_needs 17 = .ok (.if_icmp .eq 8, 3) := dk_159 0 8 (dk_at dksX1_needs_0 17 rfl rfl)
theorem dX1_needs_20 : decode cX1_needs 20 = .ok (.aload_n 0, 1) := dk_42 (dk_at dksX1_needs_0 20 rfl rfl)
theorem dX1_needs_21 : decode cX1_needs 21 = .ok (.invokevirtual 47, 3) := dk_182 0 47 (dk_at dksX1_needs_0 21 rfl rfl)
theorem dX1_needs_24 : decode cX1_needs 24 = .ok (.athrow, 1) := dk_191 (dk_at dksX1_needs_1 0 rfl rfl)
theorem dX1_needs_25 : decode cX1_needs 25 = .ok (.aload_n 0, 1) := dk_42 (dk_at dksX1_needs_1 1 rfl rfl)
theorem dX1_needs_26 : decode cX1_needs 26 = .ok (.invokevirtual 73, 3) := dk_182 0 73 (dk_at dksX1_needs_1 2 rfl rfl)
theorem dX1_needs_29 : decode cX1_needs 29 = .ok (.return_, 1) := dk_177 (dk_at dksX1_needs_1 5 rfl rfl)
def dkwX10_init_0 : List UInt8 := [42, 183, 0, 3, 42, 27, 181, 0, 9, 42, 28, 181, 0, 15, 177]
abbrev dktX10_init_0 : List UInt8 := dkwX10_init_0 ++ []
theorem dksX10_init_0 : cX10_init.data.toList.drop 0 = dktX10_init_0 := by decide +kernel
theorem dX10_init_0 : decode cX10_init 0 = .ok (.aload_n 0, 1) := dk_42 (dk_at dksX10_init_0 0 rfl rfl)
theorem dX10_init_1 : decode cX10_init 1 = .ok (.invokespecial 3, 3) := dk_183 0 3 (dk_at dksX10_init_0 1 rfl rfl)
theorem dX10_init_4 : decode cX10_init 4 = .ok (.aload_n 0, 1) := dk_42 (dk_at dksX10_init_0 4 rfl rfl)
theorem dX10_init_5 : decode cX10_init 5 = .ok (.iload_n 1, 1) := dk_27 (dk_at dksX10_init_0 5 rfl rfl)
theorem dX10_init_6 : decode cX10_init 6 = .ok (.putfield 9, 3) := dk_181 0 9 (dk_at dksX10_init_0 6 rfl rfl)
theorem dX10_init_9 : decode cX10_init 9 = .ok (.aload_n 0, 1) := dk_42 (dk_at dksX10_init_0 9 rfl rfl)
theorem dX10_init_10 : decode cX10_init 10 = .ok (.iload_n 2, 1) := dk_28 (dk_at dksX10_init_0 10 rfl rfl)
theorem dX10_init_11 : decode cX10_init 11 = .ok (.putfield 15, 3) := dk_181 0 15 (dk_at dksX10_init_0 11 rfl rfl)
theorem dX10_init_14 : decode cX10_init 14 = .ok (.return_, 1) := dk_177 (dk_at dksX10_init_0 14 rfl rfl)
def dkwX11_init_3 : List UInt8 := [42, 180, 0, 13, 27, 133, 105, 42, 180, 0, 19, 28, 133, 105, 97, 181, 0, 22, 177]
abbrev dktX11_init_3 : List UInt8 := dkwX11_init_3 ++ []
def dkwX11_init_2 : List UInt8 := [22, 9, 117, 55, 9, 42, 22, 5, 22, 9, 109, 181, 0, 13, 42, 22, 7, 22, 9, 109, 181, 0, 19, 42]
abbrev dktX11_init_2 : List UInt8 := dkwX11_init_2 ++ dktX11_init_3
def dkwX11_init_1 : List UInt8 := [55, 9, 22, 5, 9, 148, 155, 0, 17, 22, 5, 9, 148, 154, 0, 15, 22, 7, 9, 148, 156, 0, 8]
abbrev dktX11_init_1 : List UInt8 := dkwX11_init_1 ++ dktX11_init_2
def dkwX11_init_0 : List UInt8 := [42, 183, 0, 1, 21, 4, 28, 100, 133, 55, 5, 27, 29, 100, 133, 55, 7, 22, 5, 22, 7, 184, 0, 7]
abbrev dktX11_init_0 : List UInt8 := dkwX11_init_0 ++ dktX11_init_1
theorem dksX11_init_0 : cX11_init.data.toList.drop 0 = dktX11_init_0 := by decide +kernel
theorem dksX11_init_1 : cX11_init.data.toList.drop 24 = dktX11_init_1 := dk_seg dksX11_init_0 24 rfl rfl
theorem dksX11_init_2 : cX11_init.data.toList.drop 47 = dktX11_init_2 := dk_seg dksX11_init_1 23 rfl rfl
theorem dksX11_init_3 : cX11_init.data.toList.drop 71 = dktX11_init_3 := dk_seg dksX11_init_2 24 rfl rfl
theorem dX11_init_0 : decode cX11_init 0 = .ok (.aload_n 0, 1) := dk_42 (dk_at dksX11_init_0 0 rfl rfl)
theorem dX11_init_1 : decode cX11_init 1 = .ok (.invokespecial 1, 3) := dk_183 0 1 (dk_at dksX11_init_0 1 rfl rfl)
theorem dX11_init_4 : decode cX11_init 4 = .ok (.iload 4, 2) := dk_21 4 (dk_at dksX11_init_0 4 rfl rfl)
theorem dX11_init_6 : decode cX11_init 6 = .ok (.iload_n 2, 1) := dk_28 (dk_at dksX11_init_0 6 rfl rfl)
theorem dX11_init_7 : decode cX11_init 7 = .ok (.isub, 1) := dk_100 (dk_at dksX11_init_0 7 rfl rfl)
theorem dX11_init_8 : decode cX11_init 8 = .ok (.i2l, 1) := dk_133 (dk_at dksX11_init_0 8 rfl rfl)
theorem dX11_init_9 : decode cX11_init 9 = .ok (.lstore 5, 2) := dk_55 5 (dk_at dksX11_init_0 9 rfl rfl)
theorem dX11_init_11 : decode cX11_init 11 = .ok (.iload_n 1, 1) := dk_27 (dk_at dksX11_init_0 11 rfl rfl)
theorem dX11_init_12 : decode cX11_init 12 = .ok (.iload_n 3, 1) := dk_29 (dk_at dksX11_init_0 12 rfl rfl)
theorem dX11_init_13 : decode cX11_init 13 = .ok (.isub, 1) := dk_100 (dk_at dksX11_init_0 13 rfl rfl)
theorem dX11_init_14 : decode cX11_init 14 = .ok (.i2l, 1) := dk_133 (dk_at dksX11_init_0 14 rfl rfl)
theorem dX11_init_15 : decode cX11_init 15 = .ok (.lstore 7, 2) := dk_55 7 (dk_at dksX11_init_0 15 rfl rfl)
theorem dX11_init_17 : decode cX11_init 17 = .ok (.lload 5, 2) := dk_22 5 (dk_at dksX11_init_0 17 rfl rfl)
theorem dX11_init_19 : decode cX11_init 19 = .ok (.lload 7, 2) := dk_22 7 (dk_at dksX11_init_0 19 rfl rfl)
theorem dX11_init_21 : decode cX11_init 21 = .ok (.invokestatic 7, 3) := dk_184 0 7 (dk_at dksX11_init_0 21 rfl rfl)
theorem dX11_init_24 : decode cX11_init 24 = .ok (.lstore 9, 2) := dk_55 9 (dk_at dksX11_init_1 0 rfl rfl)
theorem dX11_init_26 : decode cX11_init 26 = .ok (.lload 5, 2) := dk_22 5 (dk_at dksX11_init_1 2 rfl rfl)
theorem dX11_init_28 : decode cX11_init 28 = .ok (.lconst 0, 1) := dk_9 (dk_at dksX11_init_1 4 rfl rfl)
theorem dX11_init_29 : decode cX11_init 29 = .ok (.lcmp, 1) := dk_148 (dk_at dksX11_init_1 5 rfl rfl)
theorem dX11_init_30 : decode cX11_init 30 = .ok (.ifCond .lt 17, 3) := dk_155 0 17 (dk_at dksX11_init_1 6 rfl rfl)
theorem dX11_init_33 : decode cX11_init 33 = .ok (.lload 5, 2) := dk_22 5 (dk_at dksX11_init_1 9 rfl rfl)
theorem dX11_init_35 : decode cX11_init 35 = .ok (.lconst 0, 1) := dk_9 (dk_at dksX11_init_1 11 rfl rfl)
theorem dX11_init_36 : decode cX11_init 36 = .ok (.lcmp, 1) := dk_148 (dk_at dksX11_init_1 12 rfl rfl)
theorem dX11_init_37 : decode cX11_init 37 = .ok (.ifCond .ne 15, 3) := dk_154 0 15 (dk_at dksX11_init_1 13 rfl rfl)
theorem dX11_init_40 : decode cX11_init 40 = .ok (.lload 7, 2) := dk_22 7 (dk_at dksX11_init_1 16 rfl rfl)
theorem dX11_init_42 : decode cX11_init 42 = .ok (.lconst 0, 1) := dk_9 (dk_at dksX11_init_1 18 rfl rfl)
theorem dX11_init_43 : decode cX11_init 43 = .ok (.lcmp, 1) := dk_148 (dk_at dksX11_init_1 19 rfl rfl)
theorem dX11_init_44 : decode cX11_init 44 = .ok (.ifCond .ge 8, 3) := dk_156 0 8 (dk_at dksX11_init_1 20 rfl rfl)
theorem dX11_init_47 : decode cX11_init 47 = .ok (.lload 9, 2) := dk_22 9 (dk_at dksX11_init_2 0 rfl rfl)
theorem dX11_init_49 : decode cX11_init 49 = .ok (.lneg, 1) := dk_117 (dk_at dksX11_init_2 2 rfl rfl)
theorem dX11_init_50 : decode cX11_init 50 = .ok (.lstore 9, 2) := dk_55 9 (dk_at dksX11_init_2 3 rfl rfl)
theorem dX11_init_52 : decode cX11_init 52 = .ok (.aload_n 0, 1) := dk_42 (dk_at dksX11_init_2 5 rfl rfl)
theorem dX11_init_53 : decode cX11_init 53 = .ok (.lload 5, 2) := dk_22 5 (dk_at dksX11_init_2 6 rfl rfl)
theorem dX11_init_55 : decode cX11_init 55 = .ok (.lload 9, 2) := dk_22 9 (dk_at dksX11_init_2 8 rfl rfl)
theorem dX11_init_57 : decode cX11_init 57 = .ok (.ldiv, 1) := dk_109 (dk_at dksX11_init_2 10 rfl rfl)
theorem dX11_init_58 : decode cX11_init 58 = .ok (.putfield 13, 3) := dk_181 0 13 (dk_at dksX11_init_2 11 rfl rfl)
theorem dX11_init_61 : decode cX11_init 61 = .ok (.aload_n 0, 1) := dk_42 (dk_at dksX11_init_2 14 rfl rfl)
theorem dX11_init_62 : decode cX11_init 62 = .ok (.lload 7, 2) := dk_22 7 (dk_at dksX11_init_2 15 rfl rfl)
theorem dX11_init_64 : decode cX11_init 64 = .ok (.lload 9, 2) := dk_22 9 (dk_at dksX11_init_2 17 rfl rfl)
theorem dX11_init_66 : decode cX11_init 66 = .ok (.ldiv, 1) := dk_109 (dk_at dksX11_init_2 19 rfl rfl)
theorem dX11_init_67 : decode cX11_init 67 = .ok (.putfield 19, 3) := dk_181 0 19 (dk_at dksX11_init_2 20 rfl rfl)
theorem dX11_init_70 : decode cX11_init 70 = .ok (.aload_n 0, 1) := dk_42 (dk_at dksX11_init_2 23 rfl rfl)
theorem dX11_init_71 : decode cX11_init 71 = .ok (.aload_n 0, 1) := dk_42 (dk_at dksX11_init_3 0 rfl rfl)
theorem dX11_init_72 : decode cX11_init 72 = .ok (.getfield 13, 3) := dk_180 0 13 (dk_at dksX11_init_3 1 rfl rfl)
theorem dX11_init_75 : decode cX11_init 75 = .ok (.iload_n 1, 1) := dk_27 (dk_at dksX11_init_3 4 rfl rfl)
theorem dX11_init_76 : decode cX11_init 76 = .ok (.i2l, 1) := dk_133 (dk_at dksX11_init_3 5 rfl rfl)
theorem dX11_init_77 : decode cX11_init 77 = .ok (.lmul, 1) := dk_105 (dk_at dksX11_init_3 6 rfl rfl)
theorem dX11_init_78 : decode cX11_init 78 = .ok (.aload_n 0, 1) := dk_42 (dk_at dksX11_init_3 7 rfl rfl)
theorem dX11_init_79 : decode cX11_init 79 = .ok (.getfield 19, 3) := dk_180 0 19 (dk_at dksX11_init_3 8 rfl rfl)
theorem dX11_init_82 : decode cX11_init 82 = .ok (.iload_n 2, 1) := dk_28 (dk_at dksX11_init_3 11 rfl rfl)
theorem dX11_init_83 : decode cX11_init 83 = .ok (.i2l, 1) := dk_133 (dk_at dksX11_init_3 12 rfl rfl)
theorem dX11_init_84 : decode cX11_init 84 = .ok (.lmul, 1) := dk_105 (dk_at dksX11_init_3 13 rfl rfl)
theorem dX11_init_85 : decode cX11_init 85 = .ok (.ladd, 1) := dk_97 (dk_at dksX11_init_3 14 rfl rfl)
theorem dX11_init_86 : decode cX11_init 86 = .ok (.putfield 22, 3) := dk_181 0 22 (dk_at dksX11_init_3 15 rfl rfl)
theorem dX11_init_89 : decode cX11_init 89 = .ok (.return_, 1) := dk_177 (dk_at dksX11_init_3 18 rfl rfl)
def dkwX11_isAhead_4 : List UInt8 := [180, 0, 22, 43, 180, 0, 22, 148, 156, 0, 7, 4, 167, 0, 4, 3, 172]
abbrev dktX11_isAhead_4 : List UInt8 := dkwX11_isAhead_4 ++ []
def dkwX11_isAhead_3 : List UInt8 := [101, 65, 32, 9, 148, 153, 0, 17, 32, 9, 148, 156, 0, 7, 4, 167, 0, 24, 3, 167, 0, 20, 42]
abbrev dktX11_isAhead_3 : List UInt8 := dkwX11_isAhead_3 ++ dktX11_isAhead_4
def dkwX11_isAhead_2 : List UInt8 := [4, 167, 0, 4, 3, 172, 42, 180, 0, 19, 43, 180, 0, 13, 105, 43, 180, 0, 19, 42, 180, 0, 13, 105]
abbrev dktX11_isAhead_2 : List UInt8 := dkwX11_isAhead_2 ++ dktX11_isAhead_3
def dkwX11_isAhead_1 : List UInt8 := [154, 0, 24, 43, 180, 0, 13, 9, 148, 154, 0, 19, 42, 180, 0, 22, 43, 180, 0, 22, 148, 156, 0, 7]
abbrev dktX11_isAhead_1 : List UInt8 := dkwX11_isAhead_1 ++ dktX11_isAhead_2
def dkwX11_isAhead_0 : List UInt8 := [42, 180, 0, 13, 9, 148, 153, 0, 12, 43, 180, 0, 13, 9, 148, 154, 0, 39, 42, 180, 0, 13, 9, 148]
abbrev dktX11_isAhead_0 : List UInt8 := dkwX11_isAhead_0 ++ dktX11_isAhead_1
theorem dksX11_isAhead_0 : cX11_isAhead.data.toList.drop 0 = dktX11_isAhead_0 := by decide +kernel
theorem dksX11_isAhead_1 : cX11_isAhead.data.toList.drop 24 = dktX11_isAhead_1 := dk_seg dksX11_isAhead_0 24 rfl rfl
theorem dksX11_isAhead_2 : cX11_isAhead.data.toList.drop 48 = dktX11_isAhead_2 := dk_seg dksX11_isAhead_1 24 rfl rfl
theorem dksX11_isAhead_3 : cX11_isAhead.data.toList.drop 72 = dktX11_isAhead_3 := dk_seg dksX11_isAhead_2 24 rfl rfl
theorem dksX11_isAhead_4 : cX11_isAhead.data.toList.drop 95 = dktX11_isAhead_4 := dk_seg dksX11_isAhead_3 23 rfl rfl
theorem dX11_isAhead_0 : decode cX11_isAhead 0 = .ok (.aload_n 0, 1) := dk_42 (dk_at dksX11_isAhead_0 0 rfl rfl)
theorem dX11_isAhead_1 : decode cX11_isAhead 1 = .ok (.getfield 13, 3) := dk_180 0 13 (dk_at dksX11_isAhead_0 1 rfl rfl)
theorem dX11_isAhead_4 : decode cX11_isAhead 4 = .ok (.lconst 0, 1) := dk_9 (dk_at dksX11_isAhead_0 4 rfl rfl)
theorem dX11_isAhead_5 : decode cX11_isAhead 5 = .ok (.lcmp, 1) := dk_148 (dk_at dksX11_isAhead_0 5 rfl rfl)
theorem dX11_isAhead_6 : decode cX11_isAhead 6 = .ok (.ifCond .eq 12, 3) := dk_153 0 12 (dk_at dksX11_isAhead_0 6 rfl rfl)
theorem dX11_isAhead_9 : decode cX11_isAhead 9 = .ok (.aload_n 1, 1) := dk_43 (dk_at dksX11_isAhead_0 9 rfl rfl)
theorem dX11_isAhead_10 : decode cX11_isAhead 10 = .ok (.getfield 13, 3) := dk_180 0 13 (dk_at dksX11_isAhead_0 10 rfl rfl)
theorem dX11_isAhead_13 : decode cX11_isAhead 13 = .ok (.lconst 0, 1) := dk_9 (dk_at dksX11_isAhead_0 13 rfl rfl)
theorem dX11_isAhead_14 : decode cX11_isAhead 14 = .ok (.lcmp, 1) := dk_148 (dk_at dksX11_isAhead_0 14 rfl rfl)
theorem dX11_isAhead_15 : decode cX11_isAhead 15 = .ok (.ifCond .ne 39, 3) := dk_154 0 39 (dk_at dksX11_isAhead_0 15 rfl rfl)
theorem dX11_isAhead_18 : decode cX11_isAhead 18 = .ok (.aload_n 0, 1) := dk_42 (dk_at dksX11_isAhead_0 18 rfl rfl)
theorem dX11_isAhead_19 : decode cX11_isAhead 19 = .ok (.getfield 13, 3) := dk_180 0 13 (dk_at dksX11_isAhead_0 19 rfl rfl)
theorem dX11_isAhead_22 : decode cX11_isAhead 22 = .ok (.lconst 0, 1) := dk_9 (dk_at dksX11_isAhead_0 22 rfl rfl)
theorem dX11_isAhead_23 : decode cX11_isAhead 23 = .ok (.lcmp, 1) := dk_148 (dk_at dksX11_isAhead_0 23 rfl rfl)
theorem dX11_isAhead_24 : decode cX11_isAhead 24 = .ok (.ifCond .ne 24, 3) := dk_154 0 24 (dk_at dksX11_isAhead_1 0 rfl rfl)
theorem dX11_isAhead_27 : decode cX11_isAhead 27 = .ok (.aload_n 1, 1) := dk_43 (dk_at dksX11_isAhead_1 3 rfl rfl)
theorem dX11_isAhead_28 : decode cX11_isAhead 28 = .ok (.getfield 13, 3) := dk_180 0 13 (dk_at dksX11_isAhead_1 4 rfl rfl)
theorem dX11_isAhead_31 : decode cX11_isAhead 31 = .ok (.lconst 0, 1) := dk_9 (dk_at dksX11_isAhead_1 7 rfl rfl)
theorem dX11_isAhead_32 : decode cX11_isAhead 32 = .ok (.lcmp, 1) := dk_148 (dk_at dksX11_isAhead_1 8 rfl rfl)
theorem dX11_isAhead_33 : decode cX11_isAhead 33 = .ok (.ifCond .ne 19, 3) := dk_154 0 19 (dk_at dksX11_isAhead_1 9 rfl rfl)
theorem dX11_isAhead_36 : decode cX11_isAhead 36 = .ok (.aload_n 0, 1) := dk_42 (dk_at dksX11_isAhead_1 12 rfl rfl)
theorem dX11_isAhead_37 : decode cX11_isAhead 37 = .ok (.getfield 22, 3) := dk_180 0 22 (dk_at dksX11_isAhead_1 13 rfl rfl)
theorem dX11_isAhead_40 : decode cX11_isAhead 40 = .ok (.aload_n 1, 1) := dk_43 (dk_at dksX11_isAhead_1 16 rfl rfl)
theorem dX11_isAhead_41 : decode cX11_isAhead 41 = .ok (.getfield 22, 3) := dk_180 0 22 (dk_at dksX11_isAhead_1 17 rfl rfl)
theorem dX11_isAhead_44 : decode cX11_isAhead 44 = .ok (.lcmp, 1) := dk_148 (dk_at dksX11_isAhead_1 20 rfl rfl)
theorem dX11_isAhead_45 : decode cX11_isAhead 45 = .ok (.ifCond .ge 7, 3) := dk_156 0 7 (dk_at dksX11_isAhead_1 21 rfl rfl)
theorem dX11_isAhead_48 : decode cX11_isAhead 48 = .ok (.iconst 1, 1) := dk_4 (dk_at dksX11_isAhead_2 0 rfl rfl)
theorem dX11_isAhead_49 : decode cX11_isAhead 49 = .ok (.goto 4, 3) := dk_167 0 4 (dk_at dksX11_isAhead_2 1 rfl rfl)
theorem dX11_isAhead_52 : decode cX11_isAhead 52 = .ok (.iconst 0, 1) := dk_3 (dk_at dksX11_isAhead_2 4 rfl rfl)
theorem dX11_isAhead_53 : decode cX11_isAhead 53 = .ok (.ireturn, 1) := dk_172 (dk_at dksX11_isAhead_2 5 rfl rfl)
theorem dX11_isAhead_54 : decode cX11_isAhead 54 = .ok (.aload_n 0, 1) := dk_42 (dk_at dksX11_isAhead_2 6 rfl rfl)
theorem dX11_isAhead_55 : decode cX11_isAhead 55 = .ok (.getfield 19, 3) := dk_180 0 19 (dk_at dksX11_isAhead_2 7 rfl rfl)
theorem dX11_isAhead_58 : decode cX11_isAhead 58 = .ok (.aload_n 1, 1) := dk_43 (dk_at dksX11_isAhead_2 10 rfl rfl)
theorem dX11_isAhead_59 : decode cX11_isAhead 59 = .ok (.getfield 13, 3) := dk_180 0 13 (dk_at dksX11_isAhead_2 11 rfl rfl)
theorem dX11_isAhead_62 : decode cX11_isAhead 62 = .ok (.lmul, 1) := dk_105 (dk_at dksX11_isAhead_2 14 rfl rfl)
theorem dX11_isAhead_63 : decode cX11_isAhead 63 = .ok (.aload_n 1, 1) := dk_43 (dk_at dksX11_isAhead_2 15 rfl rfl)
theorem dX11_isAhead_64 : decode cX11_isAhead 64 = .ok (.getfield 19, 3) := dk_180 0 19 (dk_at dksX11_isAhead_2 16 rfl rfl)
theorem dX11_isAhead_67 : decode cX11_isAhead 67 = .ok (.aload_n 0, 1) := dk_42 (dk_at dksX11_isAhead_2 19 rfl rfl)
theorem dX11_isAhead_68 : decode cX11_isAhead 68 = .ok (.getfield 13, 3) := dk_180 0 13 (dk_at dksX11_isAhead_2 20 rfl rfl)
theorem dX11_isAhead_71 : decode cX11_isAhead 71 = .ok (.lmul, 1) := dk_105 (dk_at dksX11_isAhead_2 23 rfl rfl)
theorem dX11_isAhead_72 : decode cX11_isAhead 72 = .ok (.lsub, 1) := dk_101 (dk_at dksX11_isAhead_3 0 rfl rfl)
theorem dX11_isAhead_73 : decode cX11_isAhead 73 = .ok (.lstore_n 2, 1) := dk_65 (dk_at dksX11_isAhead_3 1 rfl rfl)
theorem dX11_isAhead_74 : decode cX11_isAhead 74 = .ok (.lload_n 2, 1) := dk_32 (dk_at dksX11_isAhead_3 2 rfl rfl)
theorem dX11_isAhead_75 : decode cX11_isAhead 75 = .ok (.lconst 0, 1) := dk_9 (dk_at dksX11_isAhead_3 3 rfl rfl)
theorem dX11_isAhead_76 : decode cX11_isAhead 76 = .ok (.lcmp, 1) := dk_148 (dk_at dksX11_isAhead_3 4 rfl rfl)
theorem dX11_isAhead_77 : decode cX11_isAhead 77 = .ok (.ifCond .eq 17, 3) := dk_153 0 17 (dk_at dksX11_isAhead_3 5 rfl rfl)
theorem dX11_isAhead_80 : decode cX11_isAhead 80 = .ok (.lload_n 2, 1) := dk_32 (dk_at dksX11_isAhead_3 8 rfl rfl)
theorem dX11_isAhead_81 : decode cX11_isAhead 81 = .ok (.lconst 0, 1) := dk_9 (dk_at dksX11_isAhead_3 9 rfl rfl)
theorem dX11_isAhead_82 : decode cX11_isAhead 82 = .ok (.lcmp, 1) := dk_148 (dk_at dksX11_isAhead_3 10 rfl rfl)
theorem dX11_isAhead_83 : decode cX11_isAhead 83 = .ok (.ifCond .ge 7, 3) := dk_156 0 7 (dk_at dksX11_isAhead_3 11 rfl rfl)
theorem dX11_isAhead_86 : decode cX11_isAhead 86 = .ok (.iconst 1, 1) := dk_4 (dk_at dksX11_isAhead_3 14 rfl rfl)
theorem dX11_isAhead_87 : decode cX11_isAhead 87 = .ok (.goto 24, 3) := dk_167 0 24 (dk_at dksX11_isAhead_3 15 rfl rfl)
theorem dX11_isAhead_90 : decode cX11_isAhead 90 = .ok (.iconst 0, 1) := dk_3 (dk_at dksX11_isAhead_3 18 rfl rfl)
theorem dX11_isAhead_91 : decode cX11_isAhead 91 = .ok (.goto 20, 3) := dk_167 0 20 (dk_at dksX11_isAhead_3 19 rfl rfl)
theorem dX11_isAhead_94 : decode cX11_isAhead 94 = .ok (.aload_n 0, 1) := dk_42 (dk_at dksX11_isAhead_3 22 rfl rfl)
theorem dX11_isAhead_95 : decode cX11_isAhead 95 = .ok (.getfield 22, 3) := dk_180 0 22 (dk_at dksX11_isAhead_4 0 rfl rfl)
theorem dX11_isAhead_98 : decode cX11_isAhead 98 = .ok (.aload_n 1, 1) := dk_43 (dk_at dksX11_isAhead_4 3 rfl rfl)
theorem dX11_isAhead_99 : decode cX11_isAhead 99 = .ok (.getfield 22, 3) := dk_180 0 22 (dk_at dksX11_isAhead_4 4 rfl rfl)
theorem dX11_isAhead_102 : decode cX11_isAhead 102 = .ok (.lcmp, 1) := dk_148 (dk_at dksX11_isAhead_4 7 rfl rfl)
theorem dX11_isAhead_103 : decode cX11_isAhead 103 = .ok (.ifCond .ge 7, 3) := dk_156 0 7 (dk_at dksX11_isAhead_4 8 rfl rfl)
theorem dX11_isAhead_106 : decode cX11_isAhead 106 = .ok (.iconst 1, 1) := dk_4 (dk_at dksX11_isAhead_4 11 rfl rfl)
theorem dX11_isAhead_107 : decode cX11_isAhead 107 = .ok (.goto 4, 3) := dk_167 0 4 (dk_at dksX11_isAhead_4 12 rfl rfl)
theorem dX11_isAhead_110 : decode cX11_isAhead 110 = .ok (.iconst 0, 1) := dk_3 (dk_at dksX11_isAhead_4 15 rfl rfl)
theorem dX11_isAhead_111 : decode cX11_isAhead 111 = .ok (.ireturn, 1) := dk_172 (dk_at dksX11_isAhead_4 16 rfl rfl)
def dkwX11_isSame_1 : List UInt8 := [42, 180, 0, 22, 43, 180, 0, 22, 148, 154, 0, 7, 4, 167, 0, 4, 3, 172]
abbrev dktX11_isSame_1 : List UInt8 := dkwX11_isSame_1 ++ []
def dkwX11_isSame_0 : List UInt8 := [42, 180, 0, 13, 43, 180, 0, 13, 148, 154, 0, 31, 42, 180, 0, 19, 43, 180, 0, 19, 148, 154, 0, 19]
abbrev dktX11_isSame_0 : List UInt8 := dkwX11_isSame_0 ++ dktX11_isSame_1
theorem dksX11_isSame_0 : cX11_isSame.data.toList.drop 0 = dktX11_isSame_0 := by decide +kernel
theorem dksX11_isSame_1 : cX11_isSame.data.toList.drop 24 = dktX11_isSame_1 := dk_seg dksX11_isSame_0 24 rfl rfl
theorem dX11_isSame_0 : decode cX11_isSame 0 = .ok (.aload_n 0, 1) := dk_42 (dk_at dksX11_isSame_0 0 rfl rfl)
theorem dX11_isSame_1 : decode cX11_isSame 1 = .ok (.getfield 13, 3) := dk_180 0 13 (dk_at dksX11_isSame_0 1 rfl rfl)
theorem dX11_isSame_4 : decode cX11_isSame 4 = .ok (.aload_n 1, 1) := dk_43 (dk_at dksX11_isSame_0 4 rfl rfl)
theorem dX11_isSame_5 : decode cX11_isSame 5 = .ok (.getfield 13, 3) := dk_180 0 13 (dk_at dksX11_isSame_0 5 rfl rfl)
theorem dX11_isSame_8 : decode cX11_isSame 8 = .ok (.lcmp, 1) := dk_148 (dk_at dksX11_isSame_0 8 rfl rfl)
theorem dX11_isSame_9 : decode cX11_isSame 9 = .ok (.ifCond .ne 31, 3) := dk_154 0 31 (dk_at dksX11_isSame_0 9 rfl rfl)
theorem dX11_isSame_12 : decode cX11_isSame 12 = .ok (.aload_n 0, 1) := dk_42 (dk_at dksX11_isSame_0 12 rfl rfl)
theorem dX11_isSame_13 : decode cX11_isSame 13 = .ok (.getfield 19, 3) := dk_180 0 19 (dk_at dksX11_isSame_0 13 rfl rfl)
theorem dX11_isSame_16 : decode cX11_isSame 16 = .ok (.aload_n 1, 1) := dk_43 (dk_at dksX11_isSame_0 16 rfl rfl)
theorem dX11_isSame_17 : decode cX11_isSame 17 = .ok (.getfield 19, 3) := dk_180 0 19 (dk_at dksX11_isSame_0 17 rfl rfl)
theorem dX11_isSame_20 : decode cX11_isSame 20 = .ok (.lcmp, 1) := dk_148 (dk_at dksX11_isSame_0 20 rfl rfl)
theorem dX11_isSame_21 : decode cX11_isSame 21 = .ok (.ifCond .ne 19, 3) := dk_154 0 19 (dk_at dksX11_isSame_0 21 rfl rfl)
theorem dX11_isSame_24 : decode cX11_isSame 24 = .ok (.aload_n 0, 1) := dk_42 (dk_at dksX11_isSame_1 0 rfl rfl)
theorem dX11_isSame_25 : decode cX11_isSame 25 = .ok (.getfield 22, 3) := dk_180 0 22 (dk_at dksX11_isSame_1 1 rfl rfl)
theorem dX11_isSame_28 : decode cX11_isSame 28 = .ok (.aload_n 1, 1) := dk_43 (dk_at dksX11_isSame_1 4 rfl rfl)
theorem dX11_isSame_29 : decode cX11_isSame 29 = .ok (.getfield 22, 3) := dk_180 0 22 (dk_at dksX11_isSame_1 5 rfl rfl)
theorem dX11_isSame_32 : decode cX11_isSame 32 = .ok (.lcmp, 1) := dk_148 (dk_at dksX11_isSame_1 8 rfl rfl)
theorem dX11_isSame_33 : decode cX11_isSame 33 = .ok (.ifCond .ne 7, 3) := dk_154 0 7 (dk_at dksX11_isSame_1 9 rfl rfl)
theorem dX11_isSame_36 : decode cX11_isSame 36 = .ok (.iconst 1, 1) := dk_4 (dk_at dksX11_isSame_1 12 rfl rfl)
theorem dX11_isSame_37 : decode cX11_isSame 37 = .ok (.goto 4, 3) := dk_167 0 4 (dk_at dksX11_isSame_1 13 rfl rfl)
theorem dX11_isSame_40 : decode cX11_isSame 40 = .ok (.iconst 0, 1) := dk_3 (dk_at dksX11_isSame_1 16 rfl rfl)
theorem dX11_isSame_41 : decode cX11_isSame 41 = .ok (.ireturn, 1) := dk_172 (dk_at dksX11_isSame_1 17 rfl rfl)
def dkwX11_side_0 : List UInt8 := [42, 180, 0, 13, 31, 105, 42, 180, 0, 19, 33, 105, 97, 42, 180, 0, 22, 101, 184, 0, 25, 172]
abbrev dktX11_side_0 : List UInt8 := dkwX11_side_0 ++ []
theorem dksX11_side_0 : cX11_side.data.toList.drop 0 = dktX11_side_0 := by decide +kernel
theorem dX11_side_0 : decode cX11_side 0 = .ok (.aload_n 0, 1) := dk_42 (dk_at dksX11_side_0 0 rfl rfl)
theorem dX11_side_1 : decode cX11_side 1 = .ok (.getfield 13, 3) := dk_180 0 13 (dk_at dksX11_side_0 1 rfl rfl)
theorem dX11_side_4 : decode cX11_side 4 = .ok (.lload_n 1, 1) := dk_31 (dk_at dksX11_side_0 4 rfl rfl)
theorem dX11_side_5 : decode cX11_side 5 = .ok (.lmul, 1) := dk_105 (dk_at dksX11_side_0 5 rfl rfl)
theorem dX11_side_6 : decode cX11_side 6 = .ok (.aload_n 0, 1) := dk_42 (dk_at dksX11_side_0 6 rfl rfl)
theorem dX11_side_7 : decode cX11_side 7 = .ok (.getfield 19, 3) := dk_180 0 19 (dk_at dksX11_side_0 7 rfl rfl)
theorem dX11_side_10 : decode cX11_side 10 = .ok (.lload_n 3, 1) := dk_33 (dk_at dksX11_side_0 10 rfl rfl)
theorem dX11_side_11 : decode cX11_side 11 = .ok (.lmul, 1) := dk_105 (dk_at dksX11_side_0 11 rfl rfl)
theorem dX11_side_12 : decode cX11_side 12 = .ok (.ladd, 1) := dk_97 (dk_at dksX11_side_0 12 rfl rfl)
theorem dX11_side_13 : decode cX11_side 13 = .ok (.aload_n 0, 1) := dk_42 (dk_at dksX11_side_0 13 rfl rfl)
theorem dX11_side_14 : decode cX11_side 14 = .ok (.getfield 22, 3) := dk_180 0 22 (dk_at dksX11_side_0 14 rfl rfl)
theorem dX11_side_17 : decode cX11_side 17 = .ok (.lsub, 1) := dk_101 (dk_at dksX11_side_0 17 rfl rfl)
theorem dX11_side_18 : decode cX11_side 18 = .ok (.invokestatic 25, 3) := dk_184 0 25 (dk_at dksX11_side_0 18 rfl rfl)
theorem dX11_side_21 : decode cX11_side 21 = .ok (.ireturn, 1) := dk_172 (dk_at dksX11_side_0 21 rfl rfl)
def dkwX11_isAlong_1 : List UInt8 := [167, 0, 4, 3, 172]
abbrev dktX11_isAlong_1 : List UInt8 := dkwX11_isAlong_1 ++ []
def dkwX11_isAlong_0 : List UInt8 := [42, 180, 0, 13, 43, 180, 0, 19, 105, 43, 180, 0, 13, 42, 180, 0, 19, 105, 148, 154, 0, 7, 4]
abbrev dktX11_isAlong_0 : List UInt8 := dkwX11_isAlong_0 ++ dktX11_isAlong_1
theorem dksX11_isAlong_0 : cX11_isAlong.data.toList.drop 0 = dktX11_isAlong_0 := by decide +kernel
theorem dksX11_isAlong_1 : cX11_isAlong.data.toList.drop 23 = dktX11_isAlong_1 := dk_seg dksX11_isAlong_0 23 rfl rfl
theorem dX11_isAlong_0 : decode cX11_isAlong 0 = .ok (.aload_n 0, 1) := dk_42 (dk_at dksX11_isAlong_0 0 rfl rfl)
theorem dX11_isAlong_1 : decode cX11_isAlong 1 = .ok (.getfield 13, 3) := dk_180 0 13 (dk_at dksX11_isAlong_0 1 rfl rfl)
theorem dX11_isAlong_4 : decode cX11_isAlong 4 = .ok (.aload_n 1, 1) := dk_43 (dk_at dksX11_isAlong_0 4 rfl rfl)
theorem dX11_isAlong_5 : decode cX11_isAlong 5 = .ok (.getfield 19, 3) := dk_180 0 19 (dk_at dksX11_isAlong_0 5 rfl rfl)
theorem dX11_isAlong_8 : decode cX11_isAlong 8 = .ok (.lmul, 1) := dk_105 (dk_at dksX11_isAlong_0 8 rfl rfl)
theorem dX11_isAlong_9 : decode cX11_isAlong 9 = .ok (.aload_n 1, 1) := dk_43 (dk_at dksX11_isAlong_0 9 rfl rfl)
theorem dX11_isAlong_10 : decode cX11_isAlong 10 = .ok (.getfield 13, 3) := dk_180 0 13 (dk_at dksX11_isAlong_0 10 rfl rfl)
theorem dX11_isAlong_13 : decode cX11_isAlong 13 = .ok (.aload_n 0, 1) := dk_42 (dk_at dksX11_isAlong_0 13 rfl rfl)
theorem dX11_isAlong_14 : decode cX11_isAlong 14 = .ok (.getfield 19, 3) := dk_180 0 19 (dk_at dksX11_isAlong_0 14 rfl rfl)
theorem dX11_isAlong_17 : decode cX11_isAlong 17 = .ok (.lmul, 1) := dk_105 (dk_at dksX11_isAlong_0 17 rfl rfl)
theorem dX11_isAlong_18 : decode cX11_isAlong 18 = .ok (.lcmp, 1) := dk_148 (dk_at dksX11_isAlong_0 18 rfl rfl)
theorem dX11_isAlong_19 : decode cX11_isAlong 19 = .ok (.ifCond .ne 7, 3) := dk_154 0 7 (dk_at dksX11_isAlong_0 19 rfl rfl)
theorem dX11_isAlong_22 : decode cX11_isAlong 22 = .ok (.iconst 1, 1) := dk_4 (dk_at dksX11_isAlong_0 22 rfl rfl)
theorem dX11_isAlong_23 : decode cX11_isAlong 23 = .ok (.goto 4, 3) := dk_167 0 4 (dk_at dksX11_isAlong_1 0 rfl rfl)
theorem dX11_isAlong_26 : decode cX11_isAlong 26 = .ok (.iconst 0, 1) := dk_3 (dk_at dksX11_isAlong_1 3 rfl rfl)
theorem dX11_isAlong_27 : decode cX11_isAlong 27 = .ok (.ireturn, 1) := dk_172 (dk_at dksX11_isAlong_1 4 rfl rfl)
def dkwX12_init_2 : List UInt8 := [22, 7, 109, 181, 0, 22, 177]
abbrev dktX12_init_2 : List UInt8 := dkwX12_init_2 ++ []
def dkwX12_init_1 : List UInt8 := [22, 7, 117, 55, 7, 42, 31, 22, 7, 109, 181, 0, 13, 42, 33, 22, 7, 109, 181, 0, 19, 42, 22, 5]
abbrev dktX12_init_1 : List UInt8 := dkwX12_init_1 ++ dktX12_init_2
def dkwX12_init_0 : List UInt8 := [42, 183, 0, 1, 31, 33, 184, 0, 7, 22, 5, 184, 0, 7, 55, 7, 22, 5, 9, 148, 156, 0, 8]
abbrev dktX12_init_0 : List UInt8 := dkwX12_init_0 ++ dktX12_init_1
theorem dksX12_init_0 : cX12_init.data.toList.drop 0 = dktX12_init_0 := by decide +kernel
theorem dksX12_init_1 : cX12_init.data.toList.drop 23 = dktX12_init_1 := dk_seg dksX12_init_0 23 rfl rfl
theorem dksX12_init_2 : cX12_init.data.toList.drop 47 = dktX12_init_2 := dk_seg dksX12_init_1 24 rfl rfl
theorem dX12_init_0 : decode cX12_init 0 = .ok (.aload_n 0, 1) := dk_42 (dk_at dksX12_init_0 0 rfl rfl)
theorem dX12_init_1 : decode cX12_init 1 = .ok (.invokespecial 1, 3) := dk_183 0 1 (dk_at dksX12_init_0 1 rfl rfl)
theorem dX12_init_4 : decode cX12_init 4 = .ok (.lload_n 1, 1) := dk_31 (dk_at dksX12_init_0 4 rfl rfl)
theorem dX12_init_5 : decode cX12_init 5 = .ok (.lload_n 3, 1) := dk_33 (dk_at dksX12_init_0 5 rfl rfl)
theorem dX12_init_6 : decode cX12_init 6 = .ok (.invokestatic 7, 3) := dk_184 0 7 (dk_at dksX12_init_0 6 rfl rfl)
theorem dX12_init_9 : decode cX12_init 9 = .ok (.lload 5, 2) := dk_22 5 (dk_at dksX12_init_0 9 rfl rfl)
theorem dX12_init_11 : decode cX12_init 11 = .ok (.invokestatic 7, 3) := dk_184 0 7 (dk_at dksX12_init_0 11 rfl rfl)
theorem dX12_init_14 : decode cX12_init 14 = .ok (.lstore 7, 2) := dk_55 7 (dk_at dksX12_init_0 14 rfl rfl)
theorem dX12_init_16 : decode cX12_init 16 = .ok (.lload 5, 2) := dk_22 5 (dk_at dksX12_init_0 16 rfl rfl)
theorem dX12_init_18 : decode cX12_init 18 = .ok (.lconst 0, 1) := dk_9 (dk_at dksX12_init_0 18 rfl rfl)
theorem dX12_init_19 : decode cX12_init 19 = .ok (.lcmp, 1) := dk_148 (dk_at dksX12_init_0 19 rfl rfl)
theorem dX12_init_20 : decode cX12_init 20 = .ok (.ifCond .ge 8, 3) := dk_156 0 8 (dk_at dksX12_init_0 20 rfl rfl)
theorem dX12_init_23 : decode cX12_init 23 = .ok (.lload 7, 2) := dk_22 7 (dk_at dksX12_init_1 0 rfl rfl)
theorem dX12_init_25 : decode cX12_init 25 = .ok (.lneg, 1) := dk_117 (dk_at dksX12_init_1 2 rfl rfl)
theorem dX12_init_26 : decode cX12_init 26 = .ok (.lstore 7, 2) := dk_55 7 (dk_at dksX12_init_1 3 rfl rfl)
theorem dX12_init_28 : decode cX12_init 28 = .ok (.aload_n 0, 1) := dk_42 (dk_at dksX12_init_1 5 rfl rfl)
theorem dX12_init_29 : decode cX12_init 29 = .ok (.lload_n 1, 1) := dk_31 (dk_at dksX12_init_1 6 rfl rfl)
theorem dX12_init_30 : decode cX12_init 30 = .ok (.lload 7, 2) := dk_22 7 (dk_at dksX12_init_1 7 rfl rfl)
theorem dX12_init_32 : decode cX12_init 32 = .ok (.ldiv, 1) := dk_109 (dk_at dksX12_init_1 9 rfl rfl)
theorem dX12_init_33 : decode cX12_init 33 = .ok (.putfield 13, 3) := dk_181 0 13 (dk_at dksX12_init_1 10 rfl rfl)
theorem dX12_init_36 : decode cX12_init 36 = .ok (.aload_n 0, 1) := dk_42 (dk_at dksX12_init_1 13 rfl rfl)
theorem dX12_init_37 : decode cX12_init 37 = .ok (.lload_n 3, 1) := dk_33 (dk_at dksX12_init_1 14 rfl rfl)
theorem dX12_init_38 : decode cX12_init 38 = .ok (.lload 7, 2) := dk_22 7 (dk_at dksX12_init_1 15 rfl rfl)
theorem dX12_init_40 : decode cX12_init 40 = .ok (.ldiv, 1) := dk_109 (dk_at dksX12_init_1 17 rfl rfl)
theorem dX12_init_41 : decode cX12_init 41 = .ok (.putfield 19, 3) := dk_181 0 19 (dk_at dksX12_init_1 18 rfl rfl)
theorem dX12_init_44 : decode cX12_init 44 = .ok (.aload_n 0, 1) := dk_42 (dk_at dksX12_init_1 21 rfl rfl)
theorem dX12_init_45 : decode cX12_init 45 = .ok (.lload 5, 2) := dk_22 5 (dk_at dksX12_init_1 22 rfl rfl)
theorem dX12_init_47 : decode cX12_init 47 = .ok (.lload 7, 2) := dk_22 7 (dk_at dksX12_init_2 0 rfl rfl)
theorem dX12_init_49 : decode cX12_init 49 = .ok (.ldiv, 1) := dk_109 (dk_at dksX12_init_2 2 rfl rfl)
theorem dX12_init_50 : decode cX12_init 50 = .ok (.putfield 22, 3) := dk_181 0 22 (dk_at dksX12_init_2 3 rfl rfl)
theorem dX12_init_53 : decode cX12_init 53 = .ok (.return_, 1) := dk_177 (dk_at dksX12_init_2 6 rfl rfl)
def dkwX12_isAhead_2 : List UInt8 := [180, 0, 22, 105, 43, 180, 0, 19, 42, 180, 0, 22, 105, 148, 156, 0, 7, 4, 167, 0, 4, 3, 172]
abbrev dktX12_isAhead_2 : List UInt8 := dkwX12_isAhead_2 ++ []
def dkwX12_isAhead_1 : List UInt8 := [153, 0, 17, 32, 9, 148, 156, 0, 7, 4, 167, 0, 34, 3, 167, 0, 30, 42, 180, 0, 19, 43]
abbrev dktX12_isAhead_1 : List UInt8 := dkwX12_isAhead_1 ++ dktX12_isAhead_2
def dkwX12_isAhead_0 : List UInt8 := [42, 180, 0, 13, 43, 180, 0, 22, 105, 43, 180, 0, 13, 42, 180, 0, 22, 105, 101, 65, 32, 9, 148]
abbrev dktX12_isAhead_0 : List UInt8 := dkwX12_isAhead_0 ++ dktX12_isAhead_1
theorem dksX12_isAhead_0 : cX12_isAhead.data.toList.drop 0 = dktX12_isAhead_0 := by decide +kernel
theorem dksX12_isAhead_1 : cX12_isAhead.data.toList.drop 23 = dktX12_isAhead_1 := dk_seg dksX12_isAhead_0 23 rfl rfl
theorem dksX12_isAhead_2 : cX12_isAhead.data.toList.drop 45 = dktX12_isAhead_2 := dk_seg dksX12_isAhead_1 22 rfl rfl
theorem dX12_isAhead_0 : decode cX12_isAhead 0 = .ok (.aload_n 0, 1) := dk_42 (dk_at dksX12_isAhead_0 0 rfl rfl)
theorem dX12_isAhead_1 : decode cX12_isAhead 1 = .ok (.getfield 13, 3) := dk_180 0 13 (dk_at dksX12_isAhead_0 1 rfl rfl)
theorem dX12_isAhead_4 : decode cX12_isAhead 4 = .ok (.aload_n 1, 1) := dk_43 (dk_at dksX12_isAhead_0 4 rfl rfl)
theorem dX12_isAhead_5 : decode cX12_isAhead 5 = .ok (.getfield 22, 3) := dk_180 0 22 (dk_at dksX12_isAhead_0 5 rfl rfl)
theorem dX12_isAhead_8 : decode cX12_isAhead 8 = .ok (.lmul, 1) := dk_105 (dk_at dksX12_isAhead_0 8 rfl rfl)
theorem dX12_isAhead_9 : decode cX12_isAhead 9 = .ok (.aload_n 1, 1) := dk_43 (dk_at dksX12_isAhead_0 9 rfl rfl)
theorem dX12_isAhead_10 : decode cX12_isAhead 10 = .ok (.getfield 13, 3) := dk_180 0 13 (dk_at dksX12_isAhead_0 10 rfl rfl)
theorem dX12_isAhead_13 : decode cX12_isAhead 13 = .ok (.aload_n 0, 1) := dk_42 (dk_at dksX12_isAhead_0 13 rfl rfl)
theorem dX12_isAhead_14 : decode cX12_isAhead 14 = .ok (.getfield 22, 3) := dk_180 0 22 (dk_at dksX12_isAhead_0 14 rfl rfl)
theorem dX12_isAhead_17 : decode cX12_isAhead 17 = .ok (.lmul, 1) := dk_105 (dk_at dksX12_isAhead_0 17 rfl rfl)
theorem dX12_isAhead_18 : decode cX12_isAhead 18 = .ok (.lsub, 1) := dk_101 (dk_at dksX12_isAhead_0 18 rfl rfl)
theorem dX12_isAhead_19 : decode cX12_isAhead 19 = .ok (.lstore_n 2, 1) := dk_65 (dk_at dksX12_isAhead_0 19 rfl rfl)
theorem dX12_isAhead_20 : decode cX12_isAhead 20 = .ok (.lload_n 2, 1) := dk_32 (dk_at dksX12_isAhead_0 20 rfl rfl)
theorem dX12_isAhead_21 : decode cX12_isAhead 21 = .ok (.lconst 0, 1) := dk_9 (dk_at dksX12_isAhead_0 21 rfl rfl)
theorem dX12_isAhead_22 : decode cX12_isAhead 22 = .ok (.lcmp, 1) := dk_148 (dk_at dksX12_isAhead_0 22 rfl rfl)
theorem dX12_isAhead_23 : decode cX12_isAhead 23 = .ok (.ifCond .eq 17, 3) := dk_153 0 17 (dk_at dksX12_isAhead_1 0 rfl rfl)
theorem dX12_isAhead_26 : decode cX12_isAhead 26 = .ok (.lload_n 2, 1) := dk_32 (dk_at dksX12_isAhead_1 3 rfl rfl)
theorem dX12_isAhead_27 : decode cX12_isAhead 27 = .ok (.lconst 0, 1) := dk_9 (dk_at dksX12_isAhead_1 4 rfl rfl)
theorem dX12_isAhead_28 : decode cX12_isAhead 28 = .ok (.lcmp, 1) := dk_148 (dk_at dksX12_isAhead_1 5 rfl rfl)
theorem dX12_isAhead_29 : decode cX12_isAhead 29 = .ok (.ifCond .ge 7, 3) := dk_156 0 7 (dk_at dksX12_isAhead_1 6 rfl rfl)
theorem dX12_isAhead_32 : decode cX12_isAhead 32 = .ok (.iconst 1, 1) := dk_4 (dk_at dksX12_isAhead_1 9 rfl rfl)
theorem dX12_isAhead_33 : decode cX12_isAhead 33 = .ok (.goto 34, 3) := dk_167 0 34 (dk_at dksX12_isAhead_1 10 rfl rfl)
theorem dX12_isAhead_36 : decode cX12_isAhead 36 = .ok (.iconst 0, 1) := dk_3 (dk_at dksX12_isAhead_1 13 rfl rfl)
theorem dX12_isAhead_37 : decode cX12_isAhead 37 = .ok (.goto 30, 3) := dk_167 0 30 (dk_at dksX12_isAhead_1 14 rfl rfl)
theorem dX12_isAhead_40 : decode cX12_isAhead 40 = .ok (.aload_n 0, 1) := dk_42 (dk_at dksX12_isAhead_1 17 rfl rfl)
theorem dX12_isAhead_41 : decode cX12_isAhead 41 = .ok (.getfield 19, 3) := dk_180 0 19 (dk_at dksX12_isAhead_1 18 rfl rfl)
theorem dX12_isAhead_44 : decode cX12_isAhead 44 = .ok (.aload_n 1, 1) := dk_43 (dk_at dksX12_isAhead_1 21 rfl rfl)
theorem dX12_isAhead_45 : decode cX12_isAhead 45 = .ok (.getfield 22, 3) := dk_180 0 22 (dk_at dksX12_isAhead_2 0 rfl rfl)
theorem dX12_isAhead_48 : decode cX12_isAhead 48 = .ok (.lmul, 1) := dk_105 (dk_at dksX12_isAhead_2 3 rfl rfl)
theorem dX12_isAhead_49 : decode cX12_isAhead 49 = .ok (.aload_n 1, 1) := dk_43 (dk_at dksX12_isAhead_2 4 rfl rfl)
theorem dX12_isAhead_50 : decode cX12_isAhead 50 = .ok (.getfield 19, 3) := dk_180 0 19 (dk_at dksX12_isAhead_2 5 rfl rfl)
theorem dX12_isAhead_53 : decode cX12_isAhead 53 = .ok (.aload_n 0, 1) := dk_42 (dk_at dksX12_isAhead_2 8 rfl rfl)
theorem dX12_isAhead_54 : decode cX12_isAhead 54 = .ok (.getfield 22, 3) := dk_180 0 22 (dk_at dksX12_isAhead_2 9 rfl rfl)
theorem dX12_isAhead_57 : decode cX12_isAhead 57 = .ok (.lmul, 1) := dk_105 (dk_at dksX12_isAhead_2 12 rfl rfl)
theorem dX12_isAhead_58 : decode cX12_isAhead 58 = .ok (.lcmp, 1) := dk_148 (dk_at dksX12_isAhead_2 13 rfl rfl)
theorem dX12_isAhead_59 : decode cX12_isAhead 59 = .ok (.ifCond .ge 7, 3) := dk_156 0 7 (dk_at dksX12_isAhead_2 14 rfl rfl)
theorem dX12_isAhead_62 : decode cX12_isAhead 62 = .ok (.iconst 1, 1) := dk_4 (dk_at dksX12_isAhead_2 17 rfl rfl)
theorem dX12_isAhead_63 : decode cX12_isAhead 63 = .ok (.goto 4, 3) := dk_167 0 4 (dk_at dksX12_isAhead_2 18 rfl rfl)
theorem dX12_isAhead_66 : decode cX12_isAhead 66 = .ok (.iconst 0, 1) := dk_3 (dk_at dksX12_isAhead_2 21 rfl rfl)
theorem dX12_isAhead_67 : decode cX12_isAhead 67 = .ok (.ireturn, 1) := dk_172 (dk_at dksX12_isAhead_2 22 rfl rfl)
def dkwX12_isSame_1 : List UInt8 := [42, 180, 0, 22, 43, 180, 0, 22, 148, 154, 0, 7, 4, 167, 0, 4, 3, 172]
abbrev dktX12_isSame_1 : List UInt8 := dkwX12_isSame_1 ++ []
def dkwX12_isSame_0 : List UInt8 := [42, 180, 0, 13, 43, 180, 0, 13, 148, 154, 0, 31, 42, 180, 0, 19, 43, 180, 0, 19, 148, 154, 0, 19]
abbrev dktX12_isSame_0 : List UInt8 := dkwX12_isSame_0 ++ dktX12_isSame_1
theorem dksX12_isSame_0 : cX12_isSame.data.toList.drop 0 = dktX12_isSame_0 := by decide +kernel
theorem dksX12_isSame_1 : cX12_isSame.data.toList.drop 24 = dktX12_isSame_1 := dk_seg dksX12_isSame_0 24 rfl rfl
theorem dX12_isSame_0 : decode cX12_isSame 0 = .ok (.aload_n 0, 1) := dk_42 (dk_at dksX12_isSame_0 0 rfl rfl)
theorem dX12_isSame_1 : decode cX12_isSame 1 = .ok (.getfield 13, 3) := dk_180 0 13 (dk_at dksX12_isSame_0 1 rfl rfl)
theorem dX12_isSame_4 : decode cX12_isSame 4 = .ok (.aload_n 1, 1) := dk_43 (dk_at dksX12_isSame_0 4 rfl rfl)
theorem dX12_isSame_5 : decode cX12_isSame 5 = .ok (.getfield 13, 3) := dk_180 0 13 (dk_at dksX12_isSame_0 5 rfl rfl)
theorem dX12_isSame_8 : decode cX12_isSame 8 = .ok (.lcmp, 1) := dk_148 (dk_at dksX12_isSame_0 8 rfl rfl)
theorem dX12_isSame_9 : decode cX12_isSame 9 = .ok (.ifCond .ne 31, 3) := dk_154 0 31 (dk_at dksX12_isSame_0 9 rfl rfl)
theorem dX12_isSame_12 : decode cX12_isSame 12 = .ok (.aload_n 0, 1) := dk_42 (dk_at dksX12_isSame_0 12 rfl rfl)
theorem dX12_isSame_13 : decode cX12_isSame 13 = .ok (.getfield 19, 3) := dk_180 0 19 (dk_at dksX12_isSame_0 13 rfl rfl)
theorem dX12_isSame_16 : decode cX12_isSame 16 = .ok (.aload_n 1, 1) := dk_43 (dk_at dksX12_isSame_0 16 rfl rfl)
theorem dX12_isSame_17 : decode cX12_isSame 17 = .ok (.getfield 19, 3) := dk_180 0 19 (dk_at dksX12_isSame_0 17 rfl rfl)
theorem dX12_isSame_20 : decode cX12_isSame 20 = .ok (.lcmp, 1) := dk_148 (dk_at dksX12_isSame_0 20 rfl rfl)
theorem dX12_isSame_21 : decode cX12_isSame 21 = .ok (.ifCond .ne 19, 3) := dk_154 0 19 (dk_at dksX12_isSame_0 21 rfl rfl)
theorem dX12_isSame_24 : decode cX12_isSame 24 = .ok (.aload_n 0, 1) := dk_42 (dk_at dksX12_isSame_1 0 rfl rfl)
theorem dX12_isSame_25 : decode cX12_isSame 25 = .ok (.getfield 22, 3) := dk_180 0 22 (dk_at dksX12_isSame_1 1 rfl rfl)
theorem dX12_isSame_28 : decode cX12_isSame 28 = .ok (.aload_n 1, 1) := dk_43 (dk_at dksX12_isSame_1 4 rfl rfl)
theorem dX12_isSame_29 : decode cX12_isSame 29 = .ok (.getfield 22, 3) := dk_180 0 22 (dk_at dksX12_isSame_1 5 rfl rfl)
theorem dX12_isSame_32 : decode cX12_isSame 32 = .ok (.lcmp, 1) := dk_148 (dk_at dksX12_isSame_1 8 rfl rfl)
theorem dX12_isSame_33 : decode cX12_isSame 33 = .ok (.ifCond .ne 7, 3) := dk_154 0 7 (dk_at dksX12_isSame_1 9 rfl rfl)
theorem dX12_isSame_36 : decode cX12_isSame 36 = .ok (.iconst 1, 1) := dk_4 (dk_at dksX12_isSame_1 12 rfl rfl)
theorem dX12_isSame_37 : decode cX12_isSame 37 = .ok (.goto 4, 3) := dk_167 0 4 (dk_at dksX12_isSame_1 13 rfl rfl)
theorem dX12_isSame_40 : decode cX12_isSame 40 = .ok (.iconst 0, 1) := dk_3 (dk_at dksX12_isSame_1 16 rfl rfl)
theorem dX12_isSame_41 : decode cX12_isSame 41 = .ok (.ireturn, 1) := dk_172 (dk_at dksX12_isSame_1 17 rfl rfl)
def dkwX12_crossing_2 : List UInt8 := [180, 0, 30, 105, 43, 180, 0, 33, 42, 180, 0, 30, 105, 101, 183, 0, 36, 176]
abbrev dktX12_crossing_2 : List UInt8 := dkwX12_crossing_2 ++ []
def dkwX12_crossing_1 : List UInt8 := [180, 0, 33, 43, 180, 0, 25, 105, 43, 180, 0, 33, 42, 180, 0, 25, 105, 101, 42, 180, 0, 33, 43]
abbrev dktX12_crossing_1 : List UInt8 := dkwX12_crossing_1 ++ dktX12_crossing_2
def dkwX12_crossing_0 : List UInt8 := [187, 0, 14, 89, 42, 180, 0, 25, 43, 180, 0, 30, 105, 43, 180, 0, 25, 42, 180, 0, 30, 105, 101, 42]
abbrev dktX12_crossing_0 : List UInt8 := dkwX12_crossing_0 ++ dktX12_crossing_1
theorem dksX12_crossing_0 : cX12_crossing.data.toList.drop 0 = dktX12_crossing_0 := by decide +kernel
theorem dksX12_crossing_1 : cX12_crossing.data.toList.drop 24 = dktX12_crossing_1 := dk_seg dksX12_crossing_0 24 rfl rfl
theorem dksX12_crossing_2 : cX12_crossing.data.toList.drop 47 = dktX12_crossing_2 := dk_seg dksX12_crossing_1 23 rfl rfl
theorem dX12_crossing_0 : decode cX12_crossing 0 = .ok (.new 14, 3) := dk_187 0 14 (dk_at dksX12_crossing_0 0 rfl rfl)
theorem dX12_crossing_3 : decode cX12_crossing 3 = .ok (.dup, 1) := dk_89 (dk_at dksX12_crossing_0 3 rfl rfl)
theorem dX12_crossing_4 : decode cX12_crossing 4 = .ok (.aload_n 0, 1) := dk_42 (dk_at dksX12_crossing_0 4 rfl rfl)
theorem dX12_crossing_5 : decode cX12_crossing 5 = .ok (.getfield 25, 3) := dk_180 0 25 (dk_at dksX12_crossing_0 5 rfl rfl)
theorem dX12_crossing_8 : decode cX12_crossing 8 = .ok (.aload_n 1, 1) := dk_43 (dk_at dksX12_crossing_0 8 rfl rfl)
theorem dX12_crossing_9 : decode cX12_crossing 9 = .ok (.getfield 30, 3) := dk_180 0 30 (dk_at dksX12_crossing_0 9 rfl rfl)
theorem dX12_crossing_12 : decode cX12_crossing 12 = .ok (.lmul, 1) := dk_105 (dk_at dksX12_crossing_0 12 rfl rfl)
theorem dX12_crossing_13 : decode cX12_crossing 13 = .ok (.aload_n 1, 1) := dk_43 (dk_at dksX12_crossing_0 13 rfl rfl)
theorem dX12_crossing_14 : decode cX12_crossing 14 = .ok (.getfield 25, 3) := dk_180 0 25 (dk_at dksX12_crossing_0 14 rfl rfl)
theorem dX12_crossing_17 : decode cX12_crossing 17 = .ok (.aload_n 0, 1) := dk_42 (dk_at dksX12_crossing_0 17 rfl rfl)
theorem dX12_crossing_18 : decode cX12_crossing 18 = .ok (.getfield 30, 3) := dk_180 0 30 (dk_at dksX12_crossing_0 18 rfl rfl)
theorem dX12_crossing_21 : decode cX12_crossing 21 = .ok (.lmul, 1) := dk_105 (dk_at dksX12_crossing_0 21 rfl rfl)
theorem dX12_crossing_22 : decode cX12_crossing 22 = .ok (.lsub, 1) := dk_101 (dk_at dksX12_crossing_0 22 rfl rfl)
theorem dX12_crossing_23 : decode cX12_crossing 23 = .ok (.aload_n 0, 1) := dk_42 (dk_at dksX12_crossing_0 23 rfl rfl)
theorem dX12_crossing_24 : decode cX12_crossing 24 = .ok (.getfield 33, 3) := dk_180 0 33 (dk_at dksX12_crossing_1 0 rfl rfl)
theorem dX12_crossing_27 : decode cX12_crossing 27 = .ok (.aload_n 1, 1) := dk_43 (dk_at dksX12_crossing_1 3 rfl rfl)
theorem dX12_crossing_28 : decode cX12_crossing 28 = .ok (.getfield 25, 3) := dk_180 0 25 (dk_at dksX12_crossing_1 4 rfl rfl)
theorem dX12_crossing_31 : decode cX12_crossing 31 = .ok (.lmul, 1) := dk_105 (dk_at dksX12_crossing_1 7 rfl rfl)
theorem dX12_crossing_32 : decode cX12_crossing 32 = .ok (.aload_n 1, 1) := dk_43 (dk_at dksX12_crossing_1 8 rfl rfl)
theorem dX12_crossing_33 : decode cX12_crossing 33 = .ok (.getfield 33, 3) := dk_180 0 33 (dk_at dksX12_crossing_1 9 rfl rfl)
theorem dX12_crossing_36 : decode cX12_crossing 36 = .ok (.aload_n 0, 1) := dk_42 (dk_at dksX12_crossing_1 12 rfl rfl)
theorem dX12_crossing_37 : decode cX12_crossing 37 = .ok (.getfield 25, 3) := dk_180 0 25 (dk_at dksX12_crossing_1 13 rfl rfl)
theorem dX12_crossing_40 : decode cX12_crossing 40 = .ok (.lmul, 1) := dk_105 (dk_at dksX12_crossing_1 16 rfl rfl)
theorem dX12_crossing_41 : decode cX12_crossing 41 = .ok (.lsub, 1) := dk_101 (dk_at dksX12_crossing_1 17 rfl rfl)
theorem dX12_crossing_42 : decode cX12_crossing 42 = .ok (.aload_n 0, 1) := dk_42 (dk_at dksX12_crossing_1 18 rfl rfl)
theorem dX12_crossing_43 : decode cX12_crossing 43 = .ok (.getfield 33, 3) := dk_180 0 33 (dk_at dksX12_crossing_1 19 rfl rfl)
theorem dX12_crossing_46 : decode cX12_crossing 46 = .ok (.aload_n 1, 1) := dk_43 (dk_at dksX12_crossing_1 22 rfl rfl)
theorem dX12_crossing_47 : decode cX12_crossing 47 = .ok (.getfield 30, 3) := dk_180 0 30 (dk_at dksX12_crossing_2 0 rfl rfl)
theorem dX12_crossing_50 : decode cX12_crossing 50 = .ok (.lmul, 1) := dk_105 (dk_at dksX12_crossing_2 3 rfl rfl)
theorem dX12_crossing_51 : decode cX12_crossing 51 = .ok (.aload_n 1, 1) := dk_43 (dk_at dksX12_crossing_2 4 rfl rfl)
theorem dX12_crossing_52 : decode cX12_crossing 52 = .ok (.getfield 33, 3) := dk_180 0 33 (dk_at dksX12_crossing_2 5 rfl rfl)
theorem dX12_crossing_55 : decode cX12_crossing 55 = .ok (.aload_n 0, 1) := dk_42 (dk_at dksX12_crossing_2 8 rfl rfl)
theorem dX12_crossing_56 : decode cX12_crossing 56 = .ok (.getfield 30, 3) := dk_180 0 30 (dk_at dksX12_crossing_2 9 rfl rfl)
theorem dX12_crossing_59 : decode cX12_crossing 59 = .ok (.lmul, 1) := dk_105 (dk_at dksX12_crossing_2 12 rfl rfl)
theorem dX12_crossing_60 : decode cX12_crossing 60 = .ok (.lsub, 1) := dk_101 (dk_at dksX12_crossing_2 13 rfl rfl)
theorem dX12_crossing_61 : decode cX12_crossing 61 = .ok (.invokespecial 36, 3) := dk_183 0 36 (dk_at dksX12_crossing_2 14 rfl rfl)
theorem dX12_crossing_64 : decode cX12_crossing 64 = .ok (.areturn, 1) := dk_176 (dk_at dksX12_crossing_2 17 rfl rfl)
def dkwX12_isOn_1 : List UInt8 := [180, 0, 22, 105, 148, 154, 0, 7, 4, 167, 0, 4, 3, 172]
abbrev dktX12_isOn_1 : List UInt8 := dkwX12_isOn_1 ++ []
def dkwX12_isOn_0 : List UInt8 := [43, 180, 0, 33, 42, 180, 0, 13, 105, 43, 180, 0, 30, 42, 180, 0, 19, 105, 97, 43, 180, 0, 25, 42]
abbrev dktX12_isOn_0 : List UInt8 := dkwX12_isOn_0 ++ dktX12_isOn_1
theorem dksX12_isOn_0 : cX12_isOn.data.toList.drop 0 = dktX12_isOn_0 := by decide +kernel
theorem dksX12_isOn_1 : cX12_isOn.data.toList.drop 24 = dktX12_isOn_1 := dk_seg dksX12_isOn_0 24 rfl rfl
theorem dX12_isOn_0 : decode cX12_isOn 0 = .ok (.aload_n 1, 1) := dk_43 (dk_at dksX12_isOn_0 0 rfl rfl)
theorem dX12_isOn_1 : decode cX12_isOn 1 = .ok (.getfield 33, 3) := dk_180 0 33 (dk_at dksX12_isOn_0 1 rfl rfl)
theorem dX12_isOn_4 : decode cX12_isOn 4 = .ok (.aload_n 0, 1) := dk_42 (dk_at dksX12_isOn_0 4 rfl rfl)
theorem dX12_isOn_5 : decode cX12_isOn 5 = .ok (.getfield 13, 3) := dk_180 0 13 (dk_at dksX12_isOn_0 5 rfl rfl)
theorem dX12_isOn_8 : decode cX12_isOn 8 = .ok (.lmul, 1) := dk_105 (dk_at dksX12_isOn_0 8 rfl rfl)
theorem dX12_isOn_9 : decode cX12_isOn 9 = .ok (.aload_n 1, 1) := dk_43 (dk_at dksX12_isOn_0 9 rfl rfl)
theorem dX12_isOn_10 : decode cX12_isOn 10 = .ok (.getfield 30, 3) := dk_180 0 30 (dk_at dksX12_isOn_0 10 rfl rfl)
theorem dX12_isOn_13 : decode cX12_isOn 13 = .ok (.aload_n 0, 1) := dk_42 (dk_at dksX12_isOn_0 13 rfl rfl)
theorem dX12_isOn_14 : decode cX12_isOn 14 = .ok (.getfield 19, 3) := dk_180 0 19 (dk_at dksX12_isOn_0 14 rfl rfl)
theorem dX12_isOn_17 : decode cX12_isOn 17 = .ok (.lmul, 1) := dk_105 (dk_at dksX12_isOn_0 17 rfl rfl)
theorem dX12_isOn_18 : decode cX12_isOn 18 = .ok (.ladd, 1) := dk_97 (dk_at dksX12_isOn_0 18 rfl rfl)
theorem dX12_isOn_19 : decode cX12_isOn 19 = .ok (.aload_n 1, 1) := dk_43 (dk_at dksX12_isOn_0 19 rfl rfl)
theorem dX12_isOn_20 : decode cX12_isOn 20 = .ok (.getfield 25, 3) := dk_180 0 25 (dk_at dksX12_isOn_0 20 rfl rfl)
theorem dX12_isOn_23 : decode cX12_isOn 23 = .ok (.aload_n 0, 1) := dk_42 (dk_at dksX12_isOn_0 23 rfl rfl)
theorem dX12_isOn_24 : decode cX12_isOn 24 = .ok (.getfield 22, 3) := dk_180 0 22 (dk_at dksX12_isOn_1 0 rfl rfl)
theorem dX12_isOn_27 : decode cX12_isOn 27 = .ok (.lmul, 1) := dk_105 (dk_at dksX12_isOn_1 3 rfl rfl)
theorem dX12_isOn_28 : decode cX12_isOn 28 = .ok (.lcmp, 1) := dk_148 (dk_at dksX12_isOn_1 4 rfl rfl)
theorem dX12_isOn_29 : decode cX12_isOn 29 = .ok (.ifCond .ne 7, 3) := dk_154 0 7 (dk_at dksX12_isOn_1 5 rfl rfl)
theorem dX12_isOn_32 : decode cX12_isOn 32 = .ok (.iconst 1, 1) := dk_4 (dk_at dksX12_isOn_1 8 rfl rfl)
theorem dX12_isOn_33 : decode cX12_isOn 33 = .ok (.goto 4, 3) := dk_167 0 4 (dk_at dksX12_isOn_1 9 rfl rfl)
theorem dX12_isOn_36 : decode cX12_isOn 36 = .ok (.iconst 0, 1) := dk_3 (dk_at dksX12_isOn_1 12 rfl rfl)
theorem dX12_isOn_37 : decode cX12_isOn 37 = .ok (.ireturn, 1) := dk_172 (dk_at dksX12_isOn_1 13 rfl rfl)
def dkwX13_init_1 : List UInt8 := [181, 0, 19, 42, 21, 5, 181, 0, 22, 42, 21, 6, 181, 0, 25, 42, 21, 7, 181, 0, 28, 177]
abbrev dktX13_init_1 : List UInt8 := dkwX13_init_1 ++ []
def dkwX13_init_0 : List UInt8 := [42, 183, 0, 1, 42, 27, 181, 0, 7, 42, 28, 181, 0, 13, 42, 29, 181, 0, 16, 42, 21, 4]
abbrev dktX13_init_0 : List UInt8 := dkwX13_init_0 ++ dktX13_init_1
theorem dksX13_init_0 : cX13_init.data.toList.drop 0 = dktX13_init_0 := by decide +kernel
theorem dksX13_init_1 : cX13_init.data.toList.drop 22 = dktX13_init_1 := dk_seg dksX13_init_0 22 rfl rfl
theorem dX13_init_0 : decode cX13_init 0 = .ok (.aload_n 0, 1) := dk_42 (dk_at dksX13_init_0 0 rfl rfl)
theorem dX13_init_1 : decode cX13_init 1 = .ok (.invokespecial 1, 3) := dk_183 0 1 (dk_at dksX13_init_0 1 rfl rfl)
theorem dX13_init_4 : decode cX13_init 4 = .ok (.aload_n 0, 1) := dk_42 (dk_at dksX13_init_0 4 rfl rfl)
theorem dX13_init_5 : decode cX13_init 5 = .ok (.iload_n 1, 1) := dk_27 (dk_at dksX13_init_0 5 rfl rfl)
theorem dX13_init_6 : decode cX13_init 6 = .ok (.putfield 7, 3) := dk_181 0 7 (dk_at dksX13_init_0 6 rfl rfl)
theorem dX13_init_9 : decode cX13_init 9 = .ok (.aload_n 0, 1) := dk_42 (dk_at dksX13_init_0 9 rfl rfl)
theorem dX13_init_10 : decode cX13_init 10 = .ok (.iload_n 2, 1) := dk_28 (dk_at dksX13_init_0 10 rfl rfl)
theorem dX13_init_11 : decode cX13_init 11 = .ok (.putfield 13, 3) := dk_181 0 13 (dk_at dksX13_init_0 11 rfl rfl)
theorem dX13_init_14 : decode cX13_init 14 = .ok (.aload_n 0, 1) := dk_42 (dk_at dksX13_init_0 14 rfl rfl)
theorem dX13_init_15 : decode cX13_init 15 = .ok (.iload_n 3, 1) := dk_29 (dk_at dksX13_init_0 15 rfl rfl)
theorem dX13_init_16 : decode cX13_init 16 = .ok (.putfield 16, 3) := dk_181 0 16 (dk_at dksX13_init_0 16 rfl rfl)
theorem dX13_init_19 : decode cX13_init 19 = .ok (.aload_n 0, 1) := dk_42 (dk_at dksX13_init_0 19 rfl rfl)
theorem dX13_init_20 : decode cX13_init 20 = .ok (.iload 4, 2) := dk_21 4 (dk_at dksX13_init_0 20 rfl rfl)
theorem dX13_init_22 : decode cX13_init 22 = .ok (.putfield 19, 3) := dk_181 0 19 (dk_at dksX13_init_1 0 rfl rfl)
theorem dX13_init_25 : decode cX13_init 25 = .ok (.aload_n 0, 1) := dk_42 (dk_at dksX13_init_1 3 rfl rfl)
theorem dX13_init_26 : decode cX13_init 26 = .ok (.iload 5, 2) := dk_21 5 (dk_at dksX13_init_1 4 rfl rfl)
theorem dX13_init_28 : decode cX13_init 28 = .ok (.putfield 22, 3) := dk_181 0 22 (dk_at dksX13_init_1 6 rfl rfl)
theorem dX13_init_31 : decode cX13_init 31 = .ok (.aload_n 0, 1) := dk_42 (dk_at dksX13_init_1 9 rfl rfl)
theorem dX13_init_32 : decode cX13_init 32 = .ok (.iload 6, 2) := dk_21 6 (dk_at dksX13_init_1 10 rfl rfl)
theorem dX13_init_34 : decode cX13_init 34 = .ok (.putfield 25, 3) := dk_181 0 25 (dk_at dksX13_init_1 12 rfl rfl)
theorem dX13_init_37 : decode cX13_init 37 = .ok (.aload_n 0, 1) := dk_42 (dk_at dksX13_init_1 15 rfl rfl)
theorem dX13_init_38 : decode cX13_init 38 = .ok (.iload 7, 2) := dk_21 7 (dk_at dksX13_init_1 16 rfl rfl)
theorem dX13_init_40 : decode cX13_init 40 = .ok (.putfield 28, 3) := dk_181 0 28 (dk_at dksX13_init_1 18 rfl rfl)
theorem dX13_init_43 : decode cX13_init 43 = .ok (.return_, 1) := dk_177 (dk_at dksX13_init_1 21 rfl rfl)
def dkwX2_init_0 : List UInt8 := [42, 183, 0, 3, 42, 27, 181, 0, 9, 42, 28, 181, 0, 15, 42, 29, 181, 0, 18, 177]
abbrev dktX2_init_0 : List UInt8 := dkwX2_init_0 ++ []
theorem dksX2_init_0 : cX2_init.data.toList.drop 0 = dktX2_init_0 := by decide +kernel
theorem dX2_init_0 : decode cX2_init 0 = .ok (.aload_n 0, 1) := dk_42 (dk_at dksX2_init_0 0 rfl rfl)
theorem dX2_init_1 : decode cX2_init 1 = .ok (.invokespecial 3, 3) := dk_183 0 3 (dk_at dksX2_init_0 1 rfl rfl)
theorem dX2_init_4 : decode cX2_init 4 = .ok (.aload_n 0, 1) := dk_42 (dk_at dksX2_init_0 4 rfl rfl)
theorem dX2_init_5 : decode cX2_init 5 = .ok (.iload_n 1, 1) := dk_27 (dk_at dksX2_init_0 5 rfl rfl)
theorem dX2_init_6 : decode cX2_init 6 = .ok (.putfield 9, 3) := dk_181 0 9 (dk_at dksX2_init_0 6 rfl rfl)
theorem dX2_init_9 : decode cX2_init 9 = .ok (.aload_n 0, 1) := dk_42 (dk_at dksX2_init_0 9 rfl rfl)
theorem dX2_init_10 : decode cX2_init 10 = .ok (.iload_n 2, 1) := dk_28 (dk_at dksX2_init_0 10 rfl rfl)
theorem dX2_init_11 : decode cX2_init 11 = .ok (.putfield 15, 3) := dk_181 0 15 (dk_at dksX2_init_0 11 rfl rfl)
theorem dX2_init_14 : decode cX2_init 14 = .ok (.aload_n 0, 1) := dk_42 (dk_at dksX2_init_0 14 rfl rfl)
theorem dX2_init_15 : decode cX2_init 15 = .ok (.iload_n 3, 1) := dk_29 (dk_at dksX2_init_0 15 rfl rfl)
theorem dX2_init_16 : decode cX2_init 16 = .ok (.putfield 18, 3) := dk_181 0 18 (dk_at dksX2_init_0 16 rfl rfl)
theorem dX2_init_19 : decode cX2_init 19 = .ok (.return_, 1) := dk_177 (dk_at dksX2_init_0 19 rfl rfl)
def dkwX2_wins_3 : List UInt8 := [167, 0, 4, 3, 172]
abbrev dktX2_wins_3 : List UInt8 := dkwX2_wins_3 ++ []
def dkwX2_wins_2 : List UInt8 := [167, 0, 28, 3, 167, 0, 24, 27, 42, 180, 0, 18, 104, 21, 4, 161, 0, 12, 27, 28, 164, 0, 7, 4]
abbrev dktX2_wins_2 : List UInt8 := dkwX2_wins_2 ++ dktX2_wins_3
def dkwX2_wins_1 : List UInt8 := [54, 4, 42, 180, 0, 9, 4, 160, 0, 22, 27, 42, 180, 0, 18, 104, 21, 4, 164, 0, 7, 4]
abbrev dktX2_wins_1 : List UInt8 := dkwX2_wins_1 ++ dktX2_wins_2
def dkwX2_wins_0 : List UInt8 := [42, 180, 0, 9, 154, 0, 14, 27, 28, 164, 0, 7, 4, 167, 0, 4, 3, 172, 42, 180, 0, 15, 29, 104]
abbrev dktX2_wins_0 : List UInt8 := dkwX2_wins_0 ++ dktX2_wins_1
theorem dksX2_wins_0 : cX2_wins.data.toList.drop 0 = dktX2_wins_0 := by decide +kernel
theorem dksX2_wins_1 : cX2_wins.data.toList.drop 24 = dktX2_wins_1 := dk_seg dksX2_wins_0 24 rfl rfl
theorem dksX2_wins_2 : cX2_wins.data.toList.drop 46 = dktX2_wins_2 := dk_seg dksX2_wins_1 22 rfl rfl
theorem dksX2_wins_3 : cX2_wins.data.toList.drop 70 = dktX2_wins_3 := dk_seg dksX2_wins_2 24 rfl rfl
theorem dX2_wins_0 : decode cX2_wins 0 = .ok (.aload_n 0, 1) := dk_42 (dk_at dksX2_wins_0 0 rfl rfl)
theorem dX2_wins_1 : decode cX2_wins 1 = .ok (.getfield 9, 3) := dk_180 0 9 (dk_at dksX2_wins_0 1 rfl rfl)
theorem dX2_wins_4 : decode cX2_wins 4 = .ok (.ifCond .ne 14, 3) := dk_154 0 14 (dk_at dksX2_wins_0 4 rfl rfl)
theorem dX2_wins_7 : decode cX2_wins 7 = .ok (.iload_n 1, 1) := dk_27 (dk_at dksX2_wins_0 7 rfl rfl)
theorem dX2_wins_8 : decode cX2_wins 8 = .ok (.iload_n 2, 1) := dk_28 (dk_at dksX2_wins_0 8 rfl rfl)
theorem dX2_wins_9 : decode cX2_wins 9 = .ok (.if_icmp .le 7, 3) := dk_164 0 7 (dk_at dksX2_wins_0 9 rfl rfl)
theorem dX2_wins_12 : decode cX2_wins 12 = .ok (.iconst 1, 1) := dk_4 (dk_at dksX2_wins_0 12 rfl rfl)
theorem dX2_wins_13 : decode cX2_wins 13 = .ok (.goto 4, 3) := dk_167 0 4 (dk_at dksX2_wins_0 13 rfl rfl)
theorem dX2_wins_16 : decode cX2_wins 16 = .ok (.iconst 0, 1) := dk_3 (dk_at dksX2_wins_0 16 rfl rfl)
theorem dX2_wins_17 : decode cX2_wins 17 = .ok (.ireturn, 1) := dk_172 (dk_at dksX2_wins_0 17 rfl rfl)
theorem dX2_wins_18 : decode cX2_wins 18 = .ok (.aload_n 0, 1) := dk_42 (dk_at dksX2_wins_0 18 rfl rfl)
theorem dX2_wins_19 : decode cX2_wins 19 = .ok (.getfield 15, 3) := dk_180 0 15 (dk_at dksX2_wins_0 19 rfl rfl)
theorem dX2_wins_22 : decode cX2_wins 22 = .ok (.iload_n 3, 1) := dk_29 (dk_at dksX2_wins_0 22 rfl rfl)
theorem dX2_wins_23 : decode cX2_wins 23 = .ok (.imul, 1) := dk_104 (dk_at dksX2_wins_0 23 rfl rfl)
theorem dX2_wins_24 : decode cX2_wins 24 = .ok (.istore 4, 2) := dk_54 4 (dk_at dksX2_wins_1 0 rfl rfl)
theorem dX2_wins_26 : decode cX2_wins 26 = .ok (.aload_n 0, 1) := dk_42 (dk_at dksX2_wins_1 2 rfl rfl)
theorem dX2_wins_27 : decode cX2_wins 27 = .ok (.getfield 9, 3) := dk_180 0 9 (dk_at dksX2_wins_1 3 rfl rfl)
theorem dX2_wins_30 : decode cX2_wins 30 = .ok (.iconst 1, 1) := dk_4 (dk_at dksX2_wins_1 6 rfl rfl)
theorem dX2_wins_31 : decode cX2_wins 31 = .ok (.if_icmp .ne 22, 3) := dk_160 0 22 (dk_at dksX2_wins_1 7 rfl rfl)
theorem dX2_wins_34 : decode cX2_wins 34 = .ok (.iload_n 1, 1) := dk_27 (dk_at dksX2_wins_1 10 rfl rfl)
theorem dX2_wins_35 : decode cX2_wins 35 = .ok (.aload_n 0, 1) := dk_42 (dk_at dksX2_wins_1 11 rfl rfl)
theorem dX2_wins_36 : decode cX2_wins 36 = .ok (.getfield 18, 3) := dk_180 0 18 (dk_at dksX2_wins_1 12 rfl rfl)
theorem dX2_wins_39 : decode cX2_wins 39 = .ok (.imul, 1) := dk_104 (dk_at dksX2_wins_1 15 rfl rfl)
theorem dX2_wins_40 : decode cX2_wins 40 = .ok (.iload 4, 2) := dk_21 4 (dk_at dksX2_wins_1 16 rfl rfl)
theorem dX2_wins_42 : decode cX2_wins 42 = .ok (.if_icmp .le 7, 3) := dk_164 0 7 (dk_at dksX2_wins_1 18 rfl rfl)
theorem dX2_wins_45 : decode cX2_wins 45 = .ok (.iconst 1, 1) := dk_4 (dk_at dksX2_wins_1 21 rfl rfl)
theorem dX2_wins_46 : decode cX2_wins 46 = .ok (.goto 28, 3) := dk_167 0 28 (dk_at dksX2_wins_2 0 rfl rfl)
theorem dX2_wins_49 : decode cX2_wins 49 = .ok (.iconst 0, 1) := dk_3 (dk_at dksX2_wins_2 3 rfl rfl)
theorem dX2_wins_50 : decode cX2_wins 50 = .ok (.goto 24, 3) := dk_167 0 24 (dk_at dksX2_wins_2 4 rfl rfl)
theorem dX2_wins_53 : decode cX2_wins 53 = .ok (.iload_n 1, 1) := dk_27 (dk_at dksX2_wins_2 7 rfl rfl)
theorem dX2_wins_54 : decode cX2_wins 54 = .ok (.aload_n 0, 1) := dk_42 (dk_at dksX2_wins_2 8 rfl rfl)
theorem dX2_wins_55 : decode cX2_wins 55 = .ok (.getfield 18, 3) := dk_180 0 18 (dk_at dksX2_wins_2 9 rfl rfl)
theorem dX2_wins_58 : decode cX2_wins 58 = .ok (.imul, 1) := dk_104 (dk_at dksX2_wins_2 12 rfl rfl)
theorem dX2_wins_59 : decode cX2_wins 59 = .ok (.iload 4, 2) := dk_21 4 (dk_at dksX2_wins_2 13 rfl rfl)
theorem dX2_wins_61 : decode cX2_wins 61 = .ok (.if_icmp .lt 12, 3) := dk_161 0 12 (dk_at dksX2_wins_2 15 rfl rfl)
theorem dX2_wins_64 : decode cX2_wins 64 = .ok (.iload_n 1, 1) := dk_27 (dk_at dksX2_wins_2 18 rfl rfl)
theorem dX2_wins_65 : decode cX2_wins 65 = .ok (.iload_n 2, 1) := dk_28 (dk_at dksX2_wins_2 19 rfl rfl)
theorem dX2_wins_66 : decode cX2_wins 66 = .ok (.if_icmp .le 7, 3) := dk_164 0 7 (dk_at dksX2_wins_2 20 rfl rfl)
theorem dX2_wins_69 : decode cX2_wins 69 = .ok (.iconst 1, 1) := dk_4 (dk_at dksX2_wins_2 23 rfl rfl)
theorem dX2_wins_70 : decode cX2_wins 70 = .ok (.goto 4, 3) := dk_167 0 4 (dk_at dksX2_wins_3 0 rfl rfl)
theorem dX2_wins_73 : decode cX2_wins 73 = .ok (.iconst 0, 1) := dk_3 (dk_at dksX2_wins_3 3 rfl rfl)
theorem dX2_wins_74 : decode cX2_wins 74 = .ok (.ireturn, 1) := dk_172 (dk_at dksX2_wins_3 4 rfl rfl)
def dkwX4_init_0 : List UInt8 := [42, 1, 1, 3, 3, 183, 0, 1, 42, 27, 181, 0, 7, 177]
abbrev dktX4_init_0 : List UInt8 := dkwX4_init_0 ++ []
theorem dksX4_init_0 : cX4_init.data.toList.drop 0 = dktX4_init_0 := by decide +kernel
theorem dX4_init_0 : decode cX4_init 0 = .ok (.aload_n 0, 1) := dk_42 (dk_at dksX4_init_0 0 rfl rfl)
theorem dX4_init_1 : decode cX4_init 1 = .ok (.aconst_null, 1) := dk_1 (dk_at dksX4_init_0 1 rfl rfl)
theorem dX4_init_2 : decode cX4_init 2 = .ok (.aconst_null, 1) := dk_1 (dk_at dksX4_init_0 2 rfl rfl)
theorem dX4_init_3 : decode cX4_init 3 = .ok (.iconst 0, 1) := dk_3 (dk_at dksX4_init_0 3 rfl rfl)
theorem dX4_init_4 : decode cX4_init 4 = .ok (.iconst 0, 1) := dk_3 (dk_at dksX4_init_0 4 rfl rfl)
theorem dX4_init_5 : decode cX4_init 5 = .ok (.invokespecial 1, 3) := dk_183 0 1 (dk_at dksX4_init_0 5 rfl rfl)
theorem dX4_init_8 : decode cX4_init 8 = .ok (.aload_n 0, 1) := dk_42 (dk_at dksX4_init_0 8 rfl rfl)
theorem dX4_init_9 : decode cX4_init 9 = .ok (.iload_n 1, 1) := dk_27 (dk_at dksX4_init_0 9 rfl rfl)
theorem dX4_init_10 : decode cX4_init 10 = .ok (.putfield 7, 3) := dk_181 0 7 (dk_at dksX4_init_0 10 rfl rfl)
theorem dX4_init_13 : decode cX4_init 13 = .ok (.return_, 1) := dk_177 (dk_at dksX4_init_0 13 rfl rfl)
def dkwX5_init_1 : List UInt8 := [181, 0, 19, 42, 21, 5, 181, 0, 22, 177]
abbrev dktX5_init_1 : List UInt8 := dkwX5_init_1 ++ []
def dkwX5_init_0 : List UInt8 := [42, 183, 0, 1, 42, 27, 181, 0, 7, 42, 28, 181, 0, 13, 42, 29, 181, 0, 16, 42, 21, 4]
abbrev dktX5_init_0 : List UInt8 := dkwX5_init_0 ++ dktX5_init_1
theorem dksX5_init_0 : cX5_init.data.toList.drop 0 = dktX5_init_0 := by decide +kernel
theorem dksX5_init_1 : cX5_init.data.toList.drop 22 = dktX5_init_1 := dk_seg dksX5_init_0 22 rfl rfl
theorem dX5_init_0 : decode cX5_init 0 = .ok (.aload_n 0, 1) := dk_42 (dk_at dksX5_init_0 0 rfl rfl)
theorem dX5_init_1 : decode cX5_init 1 = .ok (.invokespecial 1, 3) := dk_183 0 1 (dk_at dksX5_init_0 1 rfl rfl)
theorem dX5_init_4 : decode cX5_init 4 = .ok (.aload_n 0, 1) := dk_42 (dk_at dksX5_init_0 4 rfl rfl)
theorem dX5_init_5 : decode cX5_init 5 = .ok (.iload_n 1, 1) := dk_27 (dk_at dksX5_init_0 5 rfl rfl)
theorem dX5_init_6 : decode cX5_init 6 = .ok (.putfield 7, 3) := dk_181 0 7 (dk_at dksX5_init_0 6 rfl rfl)
theorem dX5_init_9 : decode cX5_init 9 = .ok (.aload_n 0, 1) := dk_42 (dk_at dksX5_init_0 9 rfl rfl)
theorem dX5_init_10 : decode cX5_init 10 = .ok (.iload_n 2, 1) := dk_28 (dk_at dksX5_init_0 10 rfl rfl)
theorem dX5_init_11 : decode cX5_init 11 = .ok (.putfield 13, 3) := dk_181 0 13 (dk_at dksX5_init_0 11 rfl rfl)
theorem dX5_init_14 : decode cX5_init 14 = .ok (.aload_n 0, 1) := dk_42 (dk_at dksX5_init_0 14 rfl rfl)
theorem dX5_init_15 : decode cX5_init 15 = .ok (.iload_n 3, 1) := dk_29 (dk_at dksX5_init_0 15 rfl rfl)
theorem dX5_init_16 : decode cX5_init 16 = .ok (.putfield 16, 3) := dk_181 0 16 (dk_at dksX5_init_0 16 rfl rfl)
theorem dX5_init_19 : decode cX5_init 19 = .ok (.aload_n 0, 1) := dk_42 (dk_at dksX5_init_0 19 rfl rfl)
theorem dX5_init_20 : decode cX5_init 20 = .ok (.iload 4, 2) := dk_21 4 (dk_at dksX5_init_0 20 rfl rfl)
theorem dX5_init_22 : decode cX5_init 22 = .ok (.putfield 19, 3) := dk_181 0 19 (dk_at dksX5_init_1 0 rfl rfl)
theorem dX5_init_25 : decode cX5_init 25 = .ok (.aload_n 0, 1) := dk_42 (dk_at dksX5_init_1 3 rfl rfl)
theorem dX5_init_26 : decode cX5_init 26 = .ok (.iload 5, 2) := dk_21 5 (dk_at dksX5_init_1 4 rfl rfl)
theorem dX5_init_28 : decode cX5_init 28 = .ok (.putfield 22, 3) := dk_181 0 22 (dk_at dksX5_init_1 6 rfl rfl)
theorem dX5_init_31 : decode cX5_init 31 = .ok (.return_, 1) := dk_177 (dk_at dksX5_init_1 9 rfl rfl)
def dkwX5_way_0 : List UInt8 := [42, 42, 180, 0, 7, 42, 180, 0, 13, 27, 28, 182, 0, 35, 172]
abbrev dktX5_way_0 : List UInt8 := dkwX5_way_0 ++ []
theorem dksX5_way_0 : cX5_way.data.toList.drop 0 = dktX5_way_0 := by decide +kernel
theorem dX5_way_0 : decode cX5_way 0 = .ok (.aload_n 0, 1) := dk_42 (dk_at dksX5_way_0 0 rfl rfl)
theorem dX5_way_1 : decode cX5_way 1 = .ok (.aload_n 0, 1) := dk_42 (dk_at dksX5_way_0 1 rfl rfl)
theorem dX5_way_2 : decode cX5_way 2 = .ok (.getfield 7, 3) := dk_180 0 7 (dk_at dksX5_way_0 2 rfl rfl)
theorem dX5_way_5 : decode cX5_way 5 = .ok (.aload_n 0, 1) := dk_42 (dk_at dksX5_way_0 5 rfl rfl)
theorem dX5_way_6 : decode cX5_way 6 = .ok (.getfield 13, 3) := dk_180 0 13 (dk_at dksX5_way_0 6 rfl rfl)
theorem dX5_way_9 : decode cX5_way 9 = .ok (.iload_n 1, 1) := dk_27 (dk_at dksX5_way_0 9 rfl rfl)
theorem dX5_way_10 : decode cX5_way 10 = .ok (.iload_n 2, 1) := dk_28 (dk_at dksX5_way_0 10 rfl rfl)
theorem dX5_way_11 : decode cX5_way 11 = .ok (.invokevirtual 35, 3) := dk_182 0 35 (dk_at dksX5_way_0 11 rfl rfl)
theorem dX5_way_14 : decode cX5_way 14 = .ok (.ireturn, 1) := dk_172 (dk_at dksX5_way_0 14 rfl rfl)
def dkwX5_wayFrom_1 : List UInt8 := [182, 0, 31, 172]
abbrev dktX5_wayFrom_1 : List UInt8 := dkwX5_wayFrom_1 ++ []
def dkwX5_wayFrom_0 : List UInt8 := [42, 42, 180, 0, 19, 29, 27, 100, 184, 0, 25, 104, 42, 180, 0, 22, 21, 4, 28, 100, 184, 0, 25, 104]
abbrev dktX5_wayFrom_0 : List UInt8 := dkwX5_wayFrom_0 ++ dktX5_wayFrom_1
theorem dksX5_wayFrom_0 : cX5_wayFrom.data.toList.drop 0 = dktX5_wayFrom_0 := by decide +kernel
theorem dksX5_wayFrom_1 : cX5_wayFrom.data.toList.drop 24 = dktX5_wayFrom_1 := dk_seg dksX5_wayFrom_0 24 rfl rfl
theorem dX5_wayFrom_0 : decode cX5_wayFrom 0 = .ok (.aload_n 0, 1) := dk_42 (dk_at dksX5_wayFrom_0 0 rfl rfl)
theorem dX5_wayFrom_1 : decode cX5_wayFrom 1 = .ok (.aload_n 0, 1) := dk_42 (dk_at dksX5_wayFrom_0 1 rfl rfl)
theorem dX5_wayFrom_2 : decode cX5_wayFrom 2 = .ok (.getfield 19, 3) := dk_180 0 19 (dk_at dksX5_wayFrom_0 2 rfl rfl)
theorem dX5_wayFrom_5 : decode cX5_wayFrom 5 = .ok (.iload_n 3, 1) := dk_29 (dk_at dksX5_wayFrom_0 5 rfl rfl)
theorem dX5_wayFrom_6 : decode cX5_wayFrom 6 = .ok (.iload_n 1, 1) := dk_27 (dk_at dksX5_wayFrom_0 6 rfl rfl)
theorem dX5_wayFrom_7 : decode cX5_wayFrom 7 = .ok (.isub, 1) := dk_100 (dk_at dksX5_wayFrom_0 7 rfl rfl)
theorem dX5_wayFrom_8 : decode cX5_wayFrom 8 = .ok (.invokestatic 25, 3) := dk_184 0 25 (dk_at dksX5_wayFrom_0 8 rfl rfl)
theorem dX5_wayFrom_11 : decode cX5_wayFrom 11 = .ok (.imul, 1) := dk_104 (dk_at dksX5_wayFrom_0 11 rfl rfl)
theorem dX5_wayFrom_12 : decode cX5_wayFrom 12 = .ok (.aload_n 0, 1) := dk_42 (dk_at dksX5_wayFrom_0 12 rfl rfl)
theorem dX5_wayFrom_13 : decode cX5_wayFrom 13 = .ok (.getfield 22, 3) := dk_180 0 22 (dk_at dksX5_wayFrom_0 13 rfl rfl)
theorem dX5_wayFrom_16 : decode cX5_wayFrom 16 = .ok (.iload 4, 2) := dk_21 4 (dk_at dksX5_wayFrom_0 16 rfl rfl)
theorem dX5_wayFrom_18 : decode cX5_wayFrom 18 = .ok (.iload_n 2, 1) := dk_28 (dk_at dksX5_wayFrom_0 18 rfl rfl)
theorem dX5_wayFrom_19 : decode cX5_wayFrom 19 = .ok (.isub, 1) := dk_100 (dk_at dksX5_wayFrom_0 19 rfl rfl)
theorem dX5_wayFrom_20 : decode cX5_wayFrom 20 = .ok (.invokestatic 25, 3) := dk_184 0 25 (dk_at dksX5_wayFrom_0 20 rfl rfl)
theorem dX5_wayFrom_23 : decode cX5_wayFrom 23 = .ok (.imul, 1) := dk_104 (dk_at dksX5_wayFrom_0 23 rfl rfl)
theorem dX5_wayFrom_24 : decode cX5_wayFrom 24 = .ok (.invokevirtual 31, 3) := dk_182 0 31 (dk_at dksX5_wayFrom_1 0 rfl rfl)
theorem dX5_wayFrom_27 : decode cX5_wayFrom 27 = .ok (.ireturn, 1) := dk_172 (dk_at dksX5_wayFrom_1 3 rfl rfl)
def dkwX5_rather_0 : List UInt8 := [42, 29, 21, 4, 182, 0, 39, 42, 27, 28, 182, 0, 39, 184, 0, 42, 172]
abbrev dktX5_rather_0 : List UInt8 := dkwX5_rather_0 ++ []
theorem dksX5_rather_0 : cX5_rather.data.toList.drop 0 = dktX5_rather_0 := by decide +kernel
theorem dX5_rather_0 : decode cX5_rather 0 = .ok (.aload_n 0, 1) := dk_42 (dk_at dksX5_rather_0 0 rfl rfl)
theorem dX5_rather_1 : decode cX5_rather 1 = .ok (.iload_n 3, 1) := dk_29 (dk_at dksX5_rather_0 1 rfl rfl)
theorem dX5_rather_2 : decode cX5_rather 2 = .ok (.iload 4, 2) := dk_21 4 (dk_at dksX5_rather_0 2 rfl rfl)
theorem dX5_rather_4 : decode cX5_rather 4 = .ok (.invokevirtual 39, 3) := dk_182 0 39 (dk_at dksX5_rather_0 4 rfl rfl)
theorem dX5_rather_7 : decode cX5_rather 7 = .ok (.aload_n 0, 1) := dk_42 (dk_at dksX5_rather_0 7 rfl rfl)
theorem dX5_rather_8 : decode cX5_rather 8 = .ok (.iload_n 1, 1) := dk_27 (dk_at dksX5_rather_0 8 rfl rfl)
theorem dX5_rather_9 : decode cX5_rather 9 = .ok (.iload_n 2, 1) := dk_28 (dk_at dksX5_rather_0 9 rfl rfl)
theorem dX5_rather_10 : decode cX5_rather 10 = .ok (.invokevirtual 39, 3) := dk_182 0 39 (dk_at dksX5_rather_0 10 rfl rfl)
theorem dX5_rather_13 : decode cX5_rather 13 = .ok (.invokestatic 42, 3) := dk_184 0 42 (dk_at dksX5_rather_0 13 rfl rfl)
theorem dX5_rather_16 : decode cX5_rather 16 = .ok (.ireturn, 1) := dk_172 (dk_at dksX5_rather_0 16 rfl rfl)
def dkwX5_far_1 : List UInt8 := [100, 104, 96, 172]
abbrev dktX5_far_1 : List UInt8 := dkwX5_far_1 ++ []
def dkwX5_far_0 : List UInt8 := [27, 42, 180, 0, 7, 100, 27, 42, 180, 0, 7, 100, 104, 28, 42, 180, 0, 13, 100, 28, 42, 180, 0, 13]
abbrev dktX5_far_0 : List UInt8 := dkwX5_far_0 ++ dktX5_far_1
theorem dksX5_far_0 : cX5_far.data.toList.drop 0 = dktX5_far_0 := by decide +kernel
theorem dksX5_far_1 : cX5_far.data.toList.drop 24 = dktX5_far_1 := dk_seg dksX5_far_0 24 rfl rfl
theorem dX5_far_0 : decode cX5_far 0 = .ok (.iload_n 1, 1) := dk_27 (dk_at dksX5_far_0 0 rfl rfl)
theorem dX5_far_1 : decode cX5_far 1 = .ok (.aload_n 0, 1) := dk_42 (dk_at dksX5_far_0 1 rfl rfl)
theorem dX5_far_2 : decode cX5_far 2 = .ok (.getfield 7, 3) := dk_180 0 7 (dk_at dksX5_far_0 2 rfl rfl)
theorem dX5_far_5 : decode cX5_far 5 = .ok (.isub, 1) := dk_100 (dk_at dksX5_far_0 5 rfl rfl)
theorem dX5_far_6 : decode cX5_far 6 = .ok (.iload_n 1, 1) := dk_27 (dk_at dksX5_far_0 6 rfl rfl)
theorem dX5_far_7 : decode cX5_far 7 = .ok (.aload_n 0, 1) := dk_42 (dk_at dksX5_far_0 7 rfl rfl)
theorem dX5_far_8 : decode cX5_far 8 = .ok (.getfield 7, 3) := dk_180 0 7 (dk_at dksX5_far_0 8 rfl rfl)
theorem dX5_far_11 : decode cX5_far 11 = .ok (.isub, 1) := dk_100 (dk_at dksX5_far_0 11 rfl rfl)
theorem dX5_far_12 : decode cX5_far 12 = .ok (.imul, 1) := dk_104 (dk_at dksX5_far_0 12 rfl rfl)
theorem dX5_far_13 : decode cX5_far 13 = .ok (.iload_n 2, 1) := dk_28 (dk_at dksX5_far_0 13 rfl rfl)
theorem dX5_far_14 : decode cX5_far 14 = .ok (.aload_n 0, 1) := dk_42 (dk_at dksX5_far_0 14 rfl rfl)
theorem dX5_far_15 : decode cX5_far 15 = .ok (.getfield 13, 3) := dk_180 0 13 (dk_at dksX5_far_0 15 rfl rfl)
theorem dX5_far_18 : decode cX5_far 18 = .ok (.isub, 1) := dk_100 (dk_at dksX5_far_0 18 rfl rfl)
theorem dX5_far_19 : decode cX5_far 19 = .ok (.iload_n 2, 1) := dk_28 (dk_at dksX5_far_0 19 rfl rfl)
theorem dX5_far_20 : decode cX5_far 20 = .ok (.aload_n 0, 1) := dk_42 (dk_at dksX5_far_0 20 rfl rfl)
theorem dX5_far_21 : decode cX5_far 21 = .ok (.getfield 13, 3) := dk_180 0 13 (dk_at dksX5_far_0 21 rfl rfl)
theorem dX5_far_24 : decode cX5_far 24 = .ok (.isub, 1) := dk_100 (dk_at dksX5_far_1 0 rfl rfl)
theorem dX5_far_25 : decode cX5_far 25 = .ok (.imul, 1) := dk_104 (dk_at dksX5_far_1 1 rfl rfl)
theorem dX5_far_26 : decode cX5_far 26 = .ok (.iadd, 1) := dk_96 (dk_at dksX5_far_1 2 rfl rfl)
theorem dX5_far_27 : decode cX5_far 27 = .ok (.ireturn, 1) := dk_172 (dk_at dksX5_far_1 3 rfl rfl)
def dkwX6_init_0 : List UInt8 := [42, 27, 28, 29, 21, 4, 21, 5, 183, 0, 1, 177]
abbrev dktX6_init_0 : List UInt8 := dkwX6_init_0 ++ []
theorem dksX6_init_0 : cX6_init.data.toList.drop 0 = dktX6_init_0 := by decide +kernel
theorem dX6_init_0 : decode cX6_init 0 = .ok (.aload_n 0, 1) := dk_42 (dk_at dksX6_init_0 0 rfl rfl)
theorem dX6_init_1 : decode cX6_init 1 = .ok (.iload_n 1, 1) := dk_27 (dk_at dksX6_init_0 1 rfl rfl)
theorem dX6_init_2 : decode cX6_init 2 = .ok (.iload_n 2, 1) := dk_28 (dk_at dksX6_init_0 2 rfl rfl)
theorem dX6_init_3 : decode cX6_init 3 = .ok (.iload_n 3, 1) := dk_29 (dk_at dksX6_init_0 3 rfl rfl)
theorem dX6_init_4 : decode cX6_init 4 = .ok (.iload 4, 2) := dk_21 4 (dk_at dksX6_init_0 4 rfl rfl)
theorem dX6_init_6 : decode cX6_init 6 = .ok (.iload 5, 2) := dk_21 5 (dk_at dksX6_init_0 6 rfl rfl)
theorem dX6_init_8 : decode cX6_init 8 = .ok (.invokespecial 1, 3) := dk_183 0 1 (dk_at dksX6_init_0 8 rfl rfl)
theorem dX6_init_11 : decode cX6_init 11 = .ok (.return_, 1) := dk_177 (dk_at dksX6_init_0 11 rfl rfl)
theorem dX6_measure_0 : decode cX6_measure 0 = .ok (.iconst 0, 1) := by decide +kernel
theorem dX6_measure_1 : decode cX6_measure 1 = .ok (.ireturn, 1) := by decide +kernel
def dkwX6_joined_0 : List UInt8 := [27, 27, 104, 28, 28, 104, 96, 172]
abbrev dktX6_joined_0 : List UInt8 := dkwX6_joined_0 ++ []
theorem dksX6_joined_0 : cX6_joined.data.toList.drop 0 = dktX6_joined_0 := by decide +kernel
theorem dX6_joined_0 : decode cX6_joined 0 = .ok (.iload_n 1, 1) := dk_27 (dk_at dksX6_joined_0 0 rfl rfl)
theorem dX6_joined_1 : decode cX6_joined 1 = .ok (.iload_n 1, 1) := dk_27 (dk_at dksX6_joined_0 1 rfl rfl)
theorem dX6_joined_2 : decode cX6_joined 2 = .ok (.imul, 1) := dk_104 (dk_at dksX6_joined_0 2 rfl rfl)
theorem dX6_joined_3 : decode cX6_joined 3 = .ok (.iload_n 2, 1) := dk_28 (dk_at dksX6_joined_0 3 rfl rfl)
theorem dX6_joined_4 : decode cX6_joined 4 = .ok (.iload_n 2, 1) := dk_28 (dk_at dksX6_joined_0 4 rfl rfl)
theorem dX6_joined_5 : decode cX6_joined 5 = .ok (.imul, 1) := dk_104 (dk_at dksX6_joined_0 5 rfl rfl)
theorem dX6_joined_6 : decode cX6_joined 6 = .ok (.iadd, 1) := dk_96 (dk_at dksX6_joined_0 6 rfl rfl)
theorem dX6_joined_7 : decode cX6_joined 7 = .ok (.ireturn, 1) := dk_172 (dk_at dksX6_joined_0 7 rfl rfl)
def dkwX7_init_0 : List UInt8 := [42, 27, 28, 29, 21, 4, 21, 5, 183, 0, 1, 177]
abbrev dktX7_init_0 : List UInt8 := dkwX7_init_0 ++ []
theorem dksX7_init_0 : cX7_init.data.toList.drop 0 = dktX7_init_0 := by decide +kernel
theorem dX7_init_0 : decode cX7_init 0 = .ok (.aload_n 0, 1) := dk_42 (dk_at dksX7_init_0 0 rfl rfl)
theorem dX7_init_1 : decode cX7_init 1 = .ok (.iload_n 1, 1) := dk_27 (dk_at dksX7_init_0 1 rfl rfl)
theorem dX7_init_2 : decode cX7_init 2 = .ok (.iload_n 2, 1) := dk_28 (dk_at dksX7_init_0 2 rfl rfl)
theorem dX7_init_3 : decode cX7_init 3 = .ok (.iload_n 3, 1) := dk_29 (dk_at dksX7_init_0 3 rfl rfl)
theorem dX7_init_4 : decode cX7_init 4 = .ok (.iload 4, 2) := dk_21 4 (dk_at dksX7_init_0 4 rfl rfl)
theorem dX7_init_6 : decode cX7_init 6 = .ok (.iload 5, 2) := dk_21 5 (dk_at dksX7_init_0 6 rfl rfl)
theorem dX7_init_8 : decode cX7_init 8 = .ok (.invokespecial 1, 3) := dk_183 0 1 (dk_at dksX7_init_0 8 rfl rfl)
theorem dX7_init_11 : decode cX7_init 11 = .ok (.return_, 1) := dk_177 (dk_at dksX7_init_0 11 rfl rfl)
theorem dX7_measure_0 : decode cX7_measure 0 = .ok (.iconst 1, 1) := by decide +kernel
theorem dX7_measure_1 : decode cX7_measure 1 = .ok (.ireturn, 1) := by decide +kernel
def dkwX7_joined_0 : List UInt8 := [27, 28, 96, 172]
abbrev dktX7_joined_0 : List UInt8 := dkwX7_joined_0 ++ []
theorem dksX7_joined_0 : cX7_joined.data.toList.drop 0 = dktX7_joined_0 := by decide +kernel
theorem dX7_joined_0 : decode cX7_joined 0 = .ok (.iload_n 1, 1) := dk_27 (dk_at dksX7_joined_0 0 rfl rfl)
theorem dX7_joined_1 : decode cX7_joined 1 = .ok (.iload_n 2, 1) := dk_28 (dk_at dksX7_joined_0 1 rfl rfl)
theorem dX7_joined_2 : decode cX7_joined 2 = .ok (.iadd, 1) := dk_96 (dk_at dksX7_joined_0 2 rfl rfl)
theorem dX7_joined_3 : decode cX7_joined 3 = .ok (.ireturn, 1) := dk_172 (dk_at dksX7_joined_0 3 rfl rfl)
def dkwX8_init_0 : List UInt8 := [42, 27, 28, 29, 21, 4, 21, 5, 183, 0, 1, 177]
abbrev dktX8_init_0 : List UInt8 := dkwX8_init_0 ++ []
theorem dksX8_init_0 : cX8_init.data.toList.drop 0 = dktX8_init_0 := by decide +kernel
theorem dX8_init_0 : decode cX8_init 0 = .ok (.aload_n 0, 1) := dk_42 (dk_at dksX8_init_0 0 rfl rfl)
theorem dX8_init_1 : decode cX8_init 1 = .ok (.iload_n 1, 1) := dk_27 (dk_at dksX8_init_0 1 rfl rfl)
theorem dX8_init_2 : decode cX8_init 2 = .ok (.iload_n 2, 1) := dk_28 (dk_at dksX8_init_0 2 rfl rfl)
theorem dX8_init_3 : decode cX8_init 3 = .ok (.iload_n 3, 1) := dk_29 (dk_at dksX8_init_0 3 rfl rfl)
theorem dX8_init_4 : decode cX8_init 4 = .ok (.iload 4, 2) := dk_21 4 (dk_at dksX8_init_0 4 rfl rfl)
theorem dX8_init_6 : decode cX8_init 6 = .ok (.iload 5, 2) := dk_21 5 (dk_at dksX8_init_0 6 rfl rfl)
theorem dX8_init_8 : decode cX8_init 8 = .ok (.invokespecial 1, 3) := dk_183 0 1 (dk_at dksX8_init_0 8 rfl rfl)
theorem dX8_init_11 : decode cX8_init 11 = .ok (.return_, 1) := dk_177 (dk_at dksX8_init_0 11 rfl rfl)
theorem dX8_measure_0 : decode cX8_measure 0 = .ok (.iconst 2, 1) := by decide +kernel
theorem dX8_measure_1 : decode cX8_measure 1 = .ok (.ireturn, 1) := by decide +kernel
def dkwX8_joined_0 : List UInt8 := [27, 28, 184, 0, 7, 172]
abbrev dktX8_joined_0 : List UInt8 := dkwX8_joined_0 ++ []
theorem dksX8_joined_0 : cX8_joined.data.toList.drop 0 = dktX8_joined_0 := by decide +kernel
theorem dX8_joined_0 : decode cX8_joined 0 = .ok (.iload_n 1, 1) := dk_27 (dk_at dksX8_joined_0 0 rfl rfl)
theorem dX8_joined_1 : decode cX8_joined 1 = .ok (.iload_n 2, 1) := dk_28 (dk_at dksX8_joined_0 1 rfl rfl)
theorem dX8_joined_2 : decode cX8_joined 2 = .ok (.invokestatic 7, 3) := dk_184 0 7 (dk_at dksX8_joined_0 2 rfl rfl)
theorem dX8_joined_5 : decode cX8_joined 5 = .ok (.ireturn, 1) := dk_172 (dk_at dksX8_joined_0 5 rfl rfl)
def dkwX9_init_0 : List UInt8 := [42, 27, 28, 29, 21, 4, 21, 5, 183, 0, 1, 177]
abbrev dktX9_init_0 : List UInt8 := dkwX9_init_0 ++ []
theorem dksX9_init_0 : cX9_init.data.toList.drop 0 = dktX9_init_0 := by decide +kernel
theorem dX9_init_0 : decode cX9_init 0 = .ok (.aload_n 0, 1) := dk_42 (dk_at dksX9_init_0 0 rfl rfl)
theorem dX9_init_1 : decode cX9_init 1 = .ok (.iload_n 1, 1) := dk_27 (dk_at dksX9_init_0 1 rfl rfl)
theorem dX9_init_2 : decode cX9_init 2 = .ok (.iload_n 2, 1) := dk_28 (dk_at dksX9_init_0 2 rfl rfl)
theorem dX9_init_3 : decode cX9_init 3 = .ok (.iload_n 3, 1) := dk_29 (dk_at dksX9_init_0 3 rfl rfl)
theorem dX9_init_4 : decode cX9_init 4 = .ok (.iload 4, 2) := dk_21 4 (dk_at dksX9_init_0 4 rfl rfl)
theorem dX9_init_6 : decode cX9_init 6 = .ok (.iload 5, 2) := dk_21 5 (dk_at dksX9_init_0 6 rfl rfl)
theorem dX9_init_8 : decode cX9_init 8 = .ok (.invokespecial 1, 3) := dk_183 0 1 (dk_at dksX9_init_0 8 rfl rfl)
theorem dX9_init_11 : decode cX9_init 11 = .ok (.return_, 1) := dk_177 (dk_at dksX9_init_0 11 rfl rfl)
theorem dX9_measure_0 : decode cX9_measure 0 = .ok (.iconst 3, 1) := by decide +kernel
theorem dX9_measure_1 : decode cX9_measure 1 = .ok (.ireturn, 1) := by decide +kernel
theorem dX9_joined_0 : decode cX9_joined 0 = .ok (.iload_n 1, 1) := by decide +kernel
theorem dX9_joined_1 : decode cX9_joined 1 = .ok (.ireturn, 1) := by decide +kernel
