set_option maxRecDepth 100000
def dkwX0_findSteps_6 : List UInt8 := [96, 79, 132, 4, 1, 167, 255, 181, 132, 3, 1, 167, 255, 148, 132, 2, 1, 167, 255, 129, 177]
abbrev dktX0_findSteps_6 : List UInt8 := dkwX0_findSteps_6 ++ []
def dkwX0_findSteps_5 : List UInt8 := [42, 180, 0, 37, 29, 182, 0, 106, 192, 0, 112, 182, 0, 210, 153, 0, 12, 42, 180, 0, 77, 29, 28, 4]
abbrev dktX0_findSteps_5 : List UInt8 := dkwX0_findSteps_5 ++ dktX0_findSteps_6
def dkwX0_findSteps_4 : List UInt8 := [42, 180, 0, 77, 21, 4, 46, 28, 160, 0, 42, 42, 42, 180, 0, 37, 21, 4, 182, 0, 106, 192, 0, 112]
abbrev dktX0_findSteps_4 : List UInt8 := dkwX0_findSteps_4 ++ dktX0_findSteps_5
def dkwX0_findSteps_3 : List UInt8 := [54, 4, 21, 4, 42, 180, 0, 37, 182, 0, 102, 162, 0, 69, 42, 180, 0, 77, 29, 46, 2, 160, 0, 59]
abbrev dktX0_findSteps_3 : List UInt8 := dkwX0_findSteps_3 ++ dktX0_findSteps_4
def dkwX0_findSteps_2 : List UInt8 := [180, 0, 37, 182, 0, 102, 162, 0, 103, 42, 180, 0, 77, 29, 46, 2, 159, 0, 6, 167, 0, 84, 3]
abbrev dktX0_findSteps_2 : List UInt8 := dkwX0_findSteps_2 ++ dktX0_findSteps_3
def dkwX0_findSteps_1 : List UInt8 := [180, 0, 77, 27, 3, 79, 3, 61, 28, 42, 180, 0, 37, 182, 0, 102, 162, 0, 122, 3, 62, 29, 42]
abbrev dktX0_findSteps_1 : List UInt8 := dkwX0_findSteps_1 ++ dktX0_findSteps_2
def dkwX0_findSteps_0 : List UInt8 := [3, 61, 28, 16, 20, 162, 0, 16, 42, 180, 0, 77, 28, 2, 79, 132, 2, 1, 167, 255, 240, 42]
abbrev dktX0_findSteps_0 : List UInt8 := dkwX0_findSteps_0 ++ dktX0_findSteps_1
theorem dksX0_findSteps_0 : cX0_findSteps.data.toList.drop 0 = dktX0_findSteps_0 := by decide +kernel
theorem dksX0_findSteps_1 : cX0_findSteps.data.toList.drop 22 = dktX0_findSteps_1 := dk_seg dksX0_findSteps_0 22 rfl rfl
theorem dksX0_findSteps_2 : cX0_findSteps.data.toList.drop 45 = dktX0_findSteps_2 := dk_seg dksX0_findSteps_1 23 rfl rfl
theorem dksX0_findSteps_3 : cX0_findSteps.data.toList.drop 68 = dktX0_findSteps_3 := dk_seg dksX0_findSteps_2 23 rfl rfl
theorem dksX0_findSteps_4 : cX0_findSteps.data.toList.drop 92 = dktX0_findSteps_4 := dk_seg dksX0_findSteps_3 24 rfl rfl
theorem dksX0_findSteps_5 : cX0_findSteps.data.toList.drop 116 = dktX0_findSteps_5 := dk_seg dksX0_findSteps_4 24 rfl rfl
theorem dksX0_findSteps_6 : cX0_findSteps.data.toList.drop 140 = dktX0_findSteps_6 := dk_seg dksX0_findSteps_5 24 rfl rfl
theorem dX0_findSteps_0 : decode cX0_findSteps 0 = .ok (.iconst 0, 1) := dk_3 (dk_at dksX0_findSteps_0 0 rfl rfl)
theorem dX0_findSteps_1 : decode cX0_findSteps 1 = .ok (.istore_n 2, 1) := dk_61 (dk_at dksX0_findSteps_0 1 rfl rfl)
theorem dX0_findSteps_2 : decode cX0_findSteps 2 = .ok (.iload_n 2, 1) := dk_28 (dk_at dksX0_findSteps_0 2 rfl rfl)
theorem dX0_findSteps_3 : decode cX0_findSteps 3 = .ok (.bipush 20, 2) := dk_16 20 (dk_at dksX0_findSteps_0 3 rfl rfl)
theorem dX0_findSteps_5 : decode cX0_findSteps 5 = .ok (.if_icmp .ge 16, 3) := dk_162 0 16 (dk_at dksX0_findSteps_0 5 rfl rfl)
theorem dX0_findSteps_8 : decode cX0_findSteps 8 = .ok (.aload_n 0, 1) := dk_42 (dk_at dksX0_findSteps_0 8 rfl rfl)
theorem dX0_findSteps_9 : decode cX0_findSteps 9 = .ok (.getfield 77, 3) := dk_180 0 77 (dk_at dksX0_findSteps_0 9 rfl rfl)
theorem dX0_findSteps_12 : decode cX0_findSteps 12 = .ok (.iload_n 2, 1) := dk_28 (dk_at dksX0_findSteps_0 12 rfl rfl)
theorem dX0_findSteps_13 : decode cX0_findSteps 13 = .ok (.iconst (-1), 1) := dk_2 (dk_at dksX0_findSteps_0 13 rfl rfl)
theorem dX0_findSteps_14 : decode cX0_findSteps 14 = .ok (.iastore, 1) := dk_79 (dk_at dksX0_findSteps_0 14 rfl rfl)
theorem dX0_findSteps_15 : decode cX0_findSteps 15 = .ok (.iinc 2 1, 3) := dk_132 2 1 (dk_at dksX0_findSteps_0 15 rfl rfl)
theorem dX0_findSteps_18 : decode cX0_findSteps 18 = .ok (.goto (-16), 3) := dk_167 255 240 (dk_at dksX0_findSteps_0 18 rfl rfl)
theorem dX0_findSteps_21 : decode cX0_findSteps 21 = .ok (.aload_n 0, 1) := dk_42 (dk_at dksX0_findSteps_0 21 rfl rfl)
theorem dX0_findSteps_22 : decode cX0_findSteps 22 = .ok (.getfield 77, 3) := dk_180 0 77 (dk_at dksX0_findSteps_1 0 rfl rfl)
theorem dX0_findSteps_25 : decode cX0_findSteps 25 = .ok (.iload_n 1, 1) := dk_27 (dk_at dksX0_findSteps_1 3 rfl rfl)
theorem dX0_findSteps_26 : decode cX0_findSteps 26 = .ok (.iconst 0, 1) := dk_3 (dk_at dksX0_findSteps_1 4 rfl rfl)
theorem dX0_findSteps_27 : decode cX0_findSteps 27 = .ok (.iastore, 1) := dk_79 (dk_at dksX0_findSteps_1 5 rfl rfl)
theorem dX0_findSteps_28 : decode cX0_findSteps 28 = .ok (.iconst 0, 1) := dk_3 (dk_at dksX0_findSteps_1 6 rfl rfl)
theorem dX0_findSteps_29 : decode cX0_findSteps 29 = .ok (.istore_n 2, 1) := dk_61 (dk_at dksX0_findSteps_1 7 rfl rfl)
theorem dX0_findSteps_30 : decode cX0_findSteps 30 = .ok (.iload_n 2, 1) := dk_28 (dk_at dksX0_findSteps_1 8 rfl rfl)
theorem dX0_findSteps_31 : decode cX0_findSteps 31 = .ok (.aload_n 0, 1) := dk_42 (dk_at dksX0_findSteps_1 9 rfl rfl)
theorem dX0_findSteps_32 : decode cX0_findSteps 32 = .ok (.getfield 37, 3) := dk_180 0 37 (dk_at dksX0_findSteps_1 10 rfl rfl)
theorem dX0_findSteps_35 : decode cX0_findSteps 35 = .ok (.invokevirtual 102, 3) := dk_182 0 102 (dk_at dksX0_findSteps_1 13 rfl rfl)
theorem dX0_findSteps_38 : decode cX0_findSteps 38 = .ok (.if_icmp .ge 122, 3) := dk_162 0 122 (dk_at dksX0_findSteps_1 16 rfl rfl)
theorem dX0_findSteps_41 : decode cX0_findSteps 41 = .ok (.iconst 0, 1) := dk_3 (dk_at dksX0_findSteps_1 19 rfl rfl)
theorem dX0_findSteps_42 : decode cX0_findSteps 42 = .ok (.istore_n 3, 1) := dk_62 (dk_at dksX0_findSteps_1 20 rfl rfl)
theorem dX0_findSteps_43 : decode cX0_findSteps 43 = .ok (.iload_n 3, 1) := dk_29 (dk_at dksX0_findSteps_1 21 rfl rfl)
theorem dX0_findSteps_44 : decode cX0_findSteps 44 = .ok (.aload_n 0, 1) := dk_42 (dk_at dksX0_findSteps_1 22 rfl rfl)
theorem dX0_findSteps_45 : decode cX0_findSteps 45 = .ok (.getfield 37, 3) := dk_180 0 37 (dk_at dksX0_findSteps_2 0 rfl rfl)
theorem dX0_findSteps_48 : decode cX0_findSteps 48 = .ok (.invokevirtual 102, 3) := dk_182 0 102 (dk_at dksX0_findSteps_2 3 rfl rfl)
theorem dX0_findSteps_51 : decode cX0_findSteps 51 = .ok (.if_icmp .ge 103, 3) := dk_162 0 103 (dk_at dksX0_findSteps_2 6 rfl rfl)
theorem dX0_findSteps_54 : decode cX0_findSteps 54 = .ok (.aload_n 0, 1) := dk_42 (dk_at dksX0_findSteps_2 9 rfl rfl)
theorem dX0_findSteps_55 : decode cX0_findSteps 55 = .ok (.getfield 77, 3) := dk_180 0 77 (dk_at dksX0_findSteps_2 10 rfl rfl)
theorem dX0_findSteps_58 : decode cX0_findSteps 58 = .ok (.iload_n 3, 1) := dk_29 (dk_at dksX0_findSteps_2 13 rfl rfl)
theorem dX0_findSteps_59 : decode cX0_findSteps 59 = .ok (.iaload, 1) := dk_46 (dk_at dksX0_findSteps_2 14 rfl rfl)
theorem dX0_findSteps_60 : decode cX0_findSteps 60 = .ok (.iconst (-1), 1) := dk_2 (dk_at dksX0_findSteps_2 15 rfl rfl)
theorem dX0_findSteps_61 : decode cX0_findSteps 61 = .ok (.if_icmp .eq 6, 3) := dk_159 0 6 (dk_at dksX0_findSteps_2 16 rfl rfl)
theorem dX0_findSteps_64 : decode cX0_findSteps 64 = .ok (.goto 84, 3) := dk_167 0 84 (dk_at dksX0_findSteps_2 19 rfl rfl)
theorem dX0_findSteps_67 : decode cX0_findSteps 67 = .ok (.iconst 0, 1) := dk_3 (dk_at dksX0_findSteps_2 22 rfl rfl)
theorem dX0_findSteps_68 : decode cX0_findSteps 68 = .ok (.istore 4, 2) := dk_54 4 (dk_at dksX0_findSteps_3 0 rfl rfl)
theorem dX0_findSteps_70 : decode cX0_findSteps 70 = .ok (.iload 4, 2) := dk_21 4 (dk_at dksX0_findSteps_3 2 rfl rfl)
theorem dX0_findSteps_72 : decode cX0_findSteps 72 = .ok (.aload_n 0, 1) := dk_42 (dk_at dksX0_findSteps_3 4 rfl rfl)
theorem dX0_findSteps_73 : decode cX0_findSteps 73 = .ok (.getfield 37, 3) := dk_180 0 37 (dk_at dksX0_findSteps_3 5 rfl rfl)
theorem dX0_findSteps_76 : decode cX0_findSteps 76 = .ok (.invokevirtual 102, 3) := dk_182 0 102 (dk_at dksX0_findSteps_3 8 rfl rfl)
theorem dX0_findSteps_79 : decode cX0_findSteps 79 = .ok (.if_icmp .ge 69, 3) := dk_162 0 69 (dk_at dksX0_findSteps_3 11 rfl rfl)
theorem dX0_findSteps_82 : decode cX0_findSteps 82 = .ok (.aload_n 0, 1) := dk_42 (dk_at dksX0_findSteps_3 14 rfl rfl)
theorem dX0_findSteps_83 : decode cX0_findSteps 83 = .ok (.getfield 77, 3) := dk_180 0 77 (dk_at dksX0_findSteps_3 15 rfl rfl)
theorem dX0_findSteps_86 : decode cX0_findSteps 86 = .ok (.iload_n 3, 1) := dk_29 (dk_at dksX0_findSteps_3 18 rfl rfl)
theorem dX0_findSteps_87 : decode cX0_findSteps 87 = .ok (.iaload, 1) := dk_46 (dk_at dksX0_findSteps_3 19 rfl rfl)
theorem dX0_findSteps_88 : decode cX0_findSteps 88 = .ok (.iconst (-1), 1) := dk_2 (dk_at dksX0_findSteps_3 20 rfl rfl)
theorem dX0_findSteps_89 : decode cX0_findSteps 89 = .ok (.if_icmp .ne 59, 3) := dk_160 0 59 (dk_at dksX0_findSteps_3 21 rfl rfl)
theorem dX0_findSteps_92 : decode cX0_findSteps 92 = .ok (.aload_n 0, 1) := dk_42 (dk_at dksX0_findSteps_4 0 rfl rfl)
theorem dX0_findSteps_93 : decode cX0_findSteps 93 = .ok (.getfield 77, 3) := dk_180 0 77 (dk_at dksX0_findSteps_4 1 rfl rfl)
theorem dX0_findSteps_96 : decode cX0_findSteps 96 = .ok (.iload 4, 2) := dk_21 4 (dk_at dksX0_findSteps_4 4 rfl rfl)
theorem dX0_findSteps_98 : decode cX0_findSteps 98 = .ok (.iaload, 1) := dk_46 (dk_at dksX0_findSteps_4 6 rfl rfl)
theorem dX0_findSteps_99 : decode cX0_findSteps 99 = .ok (.iload_n 2, 1) := dk_28 (dk_at dksX0_findSteps_4 7 rfl rfl)
theorem dX0_findSteps_100 : decode cX0_findSteps 100 = .ok (.if_icmp .ne 42, 3) := dk_160 0 42 (dk_at dksX0_findSteps_4 8 rfl rfl)
theorem dX0_findSteps_103 : decode cX0_findSteps 103 = .ok (.aload_n 0, 1) := dk_42 (dk_at dksX0_findSteps_4 11 rfl rfl)
theorem dX0_findSteps_104 : decode cX0_findSteps 104 = .ok (.aload_n 0, 1) := dk_42 (dk_at dksX0_findSteps_4 12 rfl rfl)
theorem dX0_findSteps_105 : decode cX0_findSteps 105 = .ok (.getfield 37, 3) := dk_180 0 37 (dk_at dksX0_findSteps_4 13 rfl rfl)
theorem dX0_findSteps_108 : decode cX0_findSteps 108 = .ok (.iload 4, 2) := dk_21 4 (dk_at dksX0_findSteps_4 16 rfl rfl)
theorem dX0_findSteps_110 : decode cX0_findSteps 110 = .ok (.invokevirtual 106, 3) := dk_182 0 106 (dk_at dksX0_findSteps_4 18 rfl rfl)
theorem dX0_findSteps_113 : decode cX0_findSteps 113 = .ok (.checkcast 112, 3) := dk_192 0 112 (dk_at dksX0_findSteps_4 21 rfl rfl)
theorem dX0_findSteps_116 : decode cX0_findSteps 116 = .ok (.aload_n 0, 1) := dk_42 (dk_at dksX0_findSteps_5 0 rfl rfl)
theorem dX0_findSteps_117 : decode cX0_findSteps 117 = .ok (.getfield 37, 3) := dk_180 0 37 (dk_at dksX0_findSteps_5 1 rfl rfl)
theorem dX0_findSteps_120 : decode cX0_findSteps 120 = .ok (.iload_n 3, 1) := dk_29 (dk_at dksX0_findSteps_5 4 rfl rfl)
theorem dX0_findSteps_121 : decode cX0_findSteps 121 = .ok (.invokevirtual 106, 3) := dk_182 0 106 (dk_at dksX0_findSteps_5 5 rfl rfl)
theorem dX0_findSteps_124 : decode cX0_findSteps 124 = .ok (.checkcast 112, 3) := dk_192 0 112 (dk_at dksX0_findSteps_5 8 rfl rfl)
theorem dX0_findSteps_127 : decode cX0_findSteps 127 = .ok (.invokevirtual 210, 3) := dk_182 0 210 (dk_at dksX0_findSteps_5 11 rfl rfl)
theorem dX0_findSteps_130 : decode cX0_findSteps 130 = .ok (.ifCond .eq 12, 3) := dk_153 0 12 (dk_at dksX0_findSteps_5 14 rfl rfl)
theorem dX0_findSteps_133 : decode cX0_findSteps 133 = .ok (.aload_n 0, 1) := dk_42 (dk_at dksX0_findSteps_5 17 rfl rfl)
theorem dX0_findSteps_134 : decode cX0_findSteps 134 = .ok (.getfield 77, 3) := dk_180 0 77 (dk_at dksX0_findSteps_5 18 rfl rfl)
theorem dX0_findSteps_137 : decode cX0_findSteps 137 = .ok (.iload_n 3, 1) := dk_29 (dk_at dksX0_findSteps_5 21 rfl rfl)
theorem dX0_findSteps_138 : decode cX0_findSteps 138 = .ok (.iload_n 2, 1) := dk_28 (dk_at dksX0_findSteps_5 22 rfl rfl)
theorem dX0_findSteps_139 : decode cX0_findSteps 139 = .ok (.iconst 1, 1) := dk_4 (dk_at dksX0_findSteps_5 23 rfl rfl)
theorem dX0_findSteps_140 : decode cX0_findSteps 140 = .ok (.iadd, 1) := dk_96 (dk_at dksX0_findSteps_6 0 rfl rfl)
theorem dX0_findSteps_141 : decode cX0_findSteps 141 = .ok (.iastore, 1) := dk_79 (dk_at dksX0_findSteps_6 1 rfl rfl)
theorem dX0_findSteps_142 : decode cX0_findSteps 142 = .ok (.iinc 4 1, 3) := dk_132 4 1 (dk_at dksX0_findSteps_6 2 rfl rfl)
theorem dX0_findSteps_145 : decode cX0_findSteps 145 = .ok (.goto (-75), 3) := dk_167 255 181 (dk_at dksX0_findSteps_6 5 rfl rfl)
theorem dX0_findSteps_148 : decode cX0_findSteps 148 = .ok (.iinc 3 1, 3) := dk_132 3 1 (dk_at dksX0_findSteps_6 8 rfl rfl)
theorem dX0_findSteps_151 : decode cX0_findSteps 151 = .ok (.goto (-108), 3) := dk_167 255 148 (dk_at dksX0_findSteps_6 11 rfl rfl)
theorem dX0_findSteps_154 : decode cX0_findSteps 154 = .ok (.iinc 2 1, 3) := dk_132 2 1 (dk_at dksX0_findSteps_6 14 rfl rfl)
theorem dX0_findSteps_157 : decode cX0_findSteps 157 = .ok (.goto (-127), 3) := dk_167 255 129 (dk_at dksX0_findSteps_6 17 rfl rfl)
theorem dX0_findSteps_160 : decode cX0_findSteps 160 = .ok (.return_, 1) := dk_177 (dk_at dksX0_findSteps_6 20 rfl rfl)
def dkwX0_best_3 : List UInt8 := [132, 3, 1, 167, 255, 209, 28, 172]
abbrev dktX0_best_3 : List UInt8 := dkwX0_best_3 ++ []
def dkwX0_best_2 : List UInt8 := [153, 0, 20, 167, 0, 11, 42, 29, 182, 1, 84, 153, 0, 9, 4, 29, 120, 167, 0, 4, 3, 128, 61]
abbrev dktX0_best_2 : List UInt8 := dkwX0_best_2 ++ dktX0_best_3
def dkwX0_best_1 : List UInt8 := [62, 29, 42, 180, 0, 37, 182, 0, 102, 162, 0, 42, 28, 27, 154, 0, 14, 42, 29, 182, 1, 80]
abbrev dktX0_best_1 : List UInt8 := dkwX0_best_1 ++ dktX0_best_2
def dkwX0_best_0 : List UInt8 := [42, 180, 0, 33, 182, 0, 177, 154, 0, 12, 27, 3, 4, 184, 0, 3, 154, 0, 5, 2, 172, 3, 61, 3]
abbrev dktX0_best_0 : List UInt8 := dkwX0_best_0 ++ dktX0_best_1
theorem dksX0_best_0 : cX0_best.data.toList.drop 0 = dktX0_best_0 := by decide +kernel
theorem dksX0_best_1 : cX0_best.data.toList.drop 24 = dktX0_best_1 := dk_seg dksX0_best_0 24 rfl rfl
theorem dksX0_best_2 : cX0_best.data.toList.drop 46 = dktX0_best_2 := dk_seg dksX0_best_1 22 rfl rfl
theorem dksX0_best_3 : cX0_best.data.toList.drop 69 = dktX0_best_3 := dk_seg dksX0_best_2 23 rfl rfl
theorem dX0_best_0 : decode cX0_best 0 = .ok (.aload_n 0, 1) := dk_42 (dk_at dksX0_best_0 0 rfl rfl)
theorem dX0_best_1 : decode cX0_best 1 = .ok (.getfield 33, 3) := dk_180 0 33 (dk_at dksX0_best_0 1 rfl rfl)
theorem dX0_best_4 : decode cX0_best 4 = .ok (.invokevirtual 177, 3) := dk_182 0 177 (dk_at dksX0_best_0 4 rfl rfl)
theorem dX0_best_7 : decode cX0_best 7 = .ok (.ifCond .ne 12, 3) := dk_154 0 12 (dk_at dksX0_best_0 7 rfl rfl)
theorem dX0_best_10 : decode cX0_best 10 = .ok (.iload_n 1, 1) := dk_27 (dk_at dksX0_best_0 10 rfl rfl)
theorem dX0_best_11 : decode cX0_best 11 = .ok (.iconst 0, 1) := dk_3 (dk_at dksX0_best_0 11 rfl rfl)
theorem dX0_best_12 : decode cX0_best 12 = .ok (.iconst 1, 1) := dk_4 (dk_at dksX0_best_0 12 rfl rfl)
theorem dX0_best_13 : decode cX0_best 13 = .ok (.invokestatic 3, 3) := dk_184 0 3 (dk_at dksX0_best_0 13 rfl rfl)
theorem dX0_best_16 : decode cX0_best 16 = .ok (.ifCond .ne 5, 3) := dk_154 0 5 (dk_at dksX0_best_0 16 rfl rfl)
theorem dX0_best_19 : decode cX0_best 19 = .ok (.iconst (-1), 1) := dk_2 (dk_at dksX0_best_0 19 rfl rfl)
theorem dX0_best_20 : decode cX0_best 20 = .ok (.ireturn, 1) := dk_172 (dk_at dksX0_best_0 20 rfl rfl)
theorem dX0_best_21 : decode cX0_best 21 = .ok (.iconst 0, 1) := dk_3 (dk_at dksX0_best_0 21 rfl rfl)
theorem dX0_best_22 : decode cX0_best 22 = .ok (.istore_n 2, 1) := dk_61 (dk_at dksX0_best_0 22 rfl rfl)
theorem dX0_best_23 : decode cX0_best 23 = .ok (.iconst 0, 1) := dk_3 (dk_at dksX0_best_0 23 rfl rfl)
theorem dX0_best_24 : decode cX0_best 24 = .ok (.istore_n 3, 1) := dk_62 (dk_at dksX0_best_1 0 rfl rfl)
theorem dX0_best_25 : decode cX0_best 25 = .ok (.iload_n 3, 1) := dk_29 (dk_at dksX0_best_1 1 rfl rfl)
theorem dX0_best_26 : decode cX0_best 26 = .ok (.aload_n 0, 1) := dk_42 (dk_at dksX0_best_1 2 rfl rfl)
theorem dX0_best_27 : decode cX0_best 27 = .ok (.getfield 37, 3) := dk_180 0 37 (dk_at dksX0_best_1 3 rfl rfl)
theorem dX0_best_30 : decode cX0_best 30 = .ok (.invokevirtual 102, 3) := dk_182 0 102 (dk_at dksX0_best_1 6 rfl rfl)
theorem dX0_best_33 : decode cX0_best 33 = .ok (.if_icmp .ge 42, 3) := dk_162 0 42 (dk_at dksX0_best_1 9 rfl rfl)
theorem dX0_best_36 : decode cX0_best 36 = .ok (.iload_n 2, 1) := dk_28 (dk_at dksX0_best_1 12 rfl rfl)
theorem dX0_best_37 : decode cX0_best 37 = .ok (.iload_n 1, 1) := dk_27 (dk_at dksX0_best_1 13 rfl rfl)
theorem dX0_best_38 : decode cX0_best 38 = .ok (.ifCond .ne 14, 3) := dk_154 0 14 (dk_at dksX0_best_1 14 rfl rfl)
theorem dX0_best_41 : decode cX0_best 41 = .ok (.aload_n 0, 1) := dk_42 (dk_at dksX0_best_1 17 rfl rfl)
theorem dX0_best_42 : decode cX0_best 42 = .ok (.iload_n 3, 1) := dk_29 (dk_at dksX0_best_1 18 rfl rfl)
theorem dX0_best_43 : decode cX0_best 43 = .ok (.invokevirtual 336, 3) := dk_182 1 80 (dk_at dksX0_best_1 19 rfl rfl)
theorem dX0_best_46 : decode cX0_best 46 = .ok (.ifCond .eq 20, 3) := dk_153 0 20 (dk_at dksX0_best_2 0 rfl rfl)
theorem dX0_best_49 : decode cX0_best 49 = .ok (.goto 11, 3) := dk_167 0 11 (dk_at dksX0_best_2 3 rfl rfl)
theorem dX0_best_52 : decode cX0_best 52 = .ok (.aload_n 0, 1) := dk_42 (dk_at dksX0_best_2 6 rfl rfl)
theorem dX0_best_53 : decode cX0_best 53 = .ok (.iload_n 3, 1) := dk_29 (dk_at dksX0_best_2 7 rfl rfl)
theorem dX0_best_54 : decode cX0_best 54 = .ok (.invokevirtual 340, 3) := dk_182 1 84 (dk_at dksX0_best_2 8 rfl rfl)
theorem dX0_best_57 : decode cX0_best 57 = .ok (.ifCond .eq 9, 3) := dk_153 0 9 (dk_at dksX0_best_2 11 rfl rfl)
theorem dX0_best_60 : decode cX0_best 60 = .ok (.iconst 1, 1) := dk_4 (dk_at dksX0_best_2 14 rfl rfl)
theorem dX0_best_61 : decode cX0_best 61 = .ok (.iload_n 3, 1) := dk_29 (dk_at dksX0_best_2 15 rfl rfl)
theorem dX0_best_62 : decode cX0_best 62 = .ok (.ishl, 1) := dk_120 (dk_at dksX0_best_2 16 rfl rfl)
theorem dX0_best_63 : decode cX0_best 63 = .ok (.goto 4, 3) := dk_167 0 4 (dk_at dksX0_best_2 17 rfl rfl)
theorem dX0_best_66 : decode cX0_best 66 = .ok (.iconst 0, 1) := dk_3 (dk_at dksX0_best_2 20 rfl rfl)
theorem dX0_best_67 : decode cX0_best 67 = .ok (.ior, 1) := dk_128 (dk_at dksX0_best_2 21 rfl rfl)
theorem dX0_best_68 : decode cX0_best 68 = .ok (.istore_n 2, 1) := dk_61 (dk_at dksX0_best_2 22 rfl rfl)
theorem dX0_best_69 : decode cX0_best 69 = .ok (.iinc 3 1, 3) := dk_132 3 1 (dk_at dksX0_best_3 0 rfl rfl)
theorem dX0_best_72 : decode cX0_best 72 = .ok (.goto (-47), 3) := dk_167 255 209 (dk_at dksX0_best_3 3 rfl rfl)
theorem dX0_best_75 : decode cX0_best 75 = .ok (.iload_n 2, 1) := dk_28 (dk_at dksX0_best_3 6 rfl rfl)
theorem dX0_best_76 : decode cX0_best 76 = .ok (.ireturn, 1) := dk_172 (dk_at dksX0_best_3 7 rfl rfl)
def dkwX0_reaches_1 : List UInt8 := [2, 160, 0, 5, 3, 172, 132, 2, 1, 167, 255, 230, 4, 172]
abbrev dktX0_reaches_1 : List UInt8 := dkwX0_reaches_1 ++ []
def dkwX0_reaches_0 : List UInt8 := [42, 27, 182, 1, 74, 3, 61, 28, 42, 180, 0, 37, 182, 0, 102, 162, 0, 21, 42, 180, 0, 77, 28, 46]
abbrev dktX0_reaches_0 : List UInt8 := dkwX0_reaches_0 ++ dktX0_reaches_1
theorem dksX0_reaches_0 : cX0_reaches.data.toList.drop 0 = dktX0_reaches_0 := by decide +kernel
theorem dksX0_reaches_1 : cX0_reaches.data.toList.drop 24 = dktX0_reaches_1 := dk_seg dksX0_reaches_0 24 rfl rfl
theorem dX0_reaches_0 : decode cX0_reaches 0 = .ok (.aload_n 0, 1) := dk_42 (dk_at dksX0_reaches_0 0 rfl rfl)
theorem dX0_reaches_1 : decode cX0_reaches 1 = .ok (.iload_n 1, 1) := dk_27 (dk_at dksX0_reaches_0 1 rfl rfl)
theorem dX0_reaches_2 : decode cX0_reaches 2 = .ok (.invokevirtual 330, 3) := dk_182 1 74 (dk_at dksX0_reaches_0 2 rfl rfl)
theorem dX0_reaches_5 : decode cX0_reaches 5 = .ok (.iconst 0, 1) := dk_3 (dk_at dksX0_reaches_0 5 rfl rfl)
theorem dX0_reaches_6 : decode cX0_reaches 6 = .ok (.istore_n 2, 1) := dk_61 (dk_at dksX0_reaches_0 6 rfl rfl)
theorem dX0_reaches_7 : decode cX0_reaches 7 = .ok (.iload_n 2, 1) := dk_28 (dk_at dksX0_reaches_0 7 rfl rfl)
theorem dX0_reaches_8 : decode cX0_reaches 8 = .ok (.aload_n 0, 1) := dk_42 (dk_at dksX0_reaches_0 8 rfl rfl)
theorem dX0_reaches_9 : decode cX0_reaches 9 = .ok (.getfield 37, 3) := dk_180 0 37 (dk_at dksX0_reaches_0 9 rfl rfl)
theorem dX0_reaches_12 : decode cX0_reaches 12 = .ok (.invokevirtual 102, 3) := dk_182 0 102 (dk_at dksX0_reaches_0 12 rfl rfl)
theorem dX0_reaches_15 : decode cX0_reaches 15 = .ok (.if_icmp .ge 21, 3) := dk_162 0 21 (dk_at dksX0_reaches_0 15 rfl rfl)
theorem dX0_reaches_18 : decode cX0_reaches 18 = .ok (.aload_n 0, 1) := dk_42 (dk_at dksX0_reaches_0 18 rfl rfl)
theorem dX0_reaches_19 : decode cX0_reaches 19 = .ok (.getfield 77, 3) := dk_180 0 77 (dk_at dksX0_reaches_0 19 rfl rfl)
theorem dX0_reaches_22 : decode cX0_reaches 22 = .ok (.iload_n 2, 1) := dk_28 (dk_at dksX0_reaches_0 22 rfl rfl)
theorem dX0_reaches_23 : decode cX0_reaches 23 = .ok (.iaload, 1) := dk_46 (dk_at dksX0_reaches_0 23 rfl rfl)
theorem dX0_reaches_24 : decode cX0_reaches 24 = .ok (.iconst (-1), 1) := dk_2 (dk_at dksX0_reaches_1 0 rfl rfl)
theorem dX0_reaches_25 : decode cX0_reaches 25 = .ok (.if_icmp .ne 5, 3) := dk_160 0 5 (dk_at dksX0_reaches_1 1 rfl rfl)
theorem dX0_reaches_28 : decode cX0_reaches 28 = .ok (.iconst 0, 1) := dk_3 (dk_at dksX0_reaches_1 4 rfl rfl)
theorem dX0_reaches_29 : decode cX0_reaches 29 = .ok (.ireturn, 1) := dk_172 (dk_at dksX0_reaches_1 5 rfl rfl)
theorem dX0_reaches_30 : decode cX0_reaches 30 = .ok (.iinc 2 1, 3) := dk_132 2 1 (dk_at dksX0_reaches_1 6 rfl rfl)
theorem dX0_reaches_33 : decode cX0_reaches 33 = .ok (.goto (-26), 3) := dk_167 255 230 (dk_at dksX0_reaches_1 9 rfl rfl)
theorem dX0_reaches_36 : decode cX0_reaches 36 = .ok (.iconst 1, 1) := dk_4 (dk_at dksX0_reaches_1 12 rfl rfl)
theorem dX0_reaches_37 : decode cX0_reaches 37 = .ok (.ireturn, 1) := dk_172 (dk_at dksX0_reaches_1 13 rfl rfl)
def dkwX0_isOpen_2 : List UInt8 := [132, 2, 1, 167, 255, 211, 4, 172]
abbrev dktX0_isOpen_2 : List UInt8 := dkwX0_isOpen_2 ++ []
def dkwX0_isOpen_1 : List UInt8 := [192, 0, 112, 42, 180, 0, 37, 27, 182, 0, 106, 192, 0, 112, 182, 1, 77, 153, 0, 5, 3, 172]
abbrev dktX0_isOpen_1 : List UInt8 := dkwX0_isOpen_1 ++ dktX0_isOpen_2
def dkwX0_isOpen_0 : List UInt8 := [3, 61, 28, 42, 180, 0, 37, 182, 0, 102, 162, 0, 40, 42, 42, 180, 0, 37, 28, 182, 0, 106]
abbrev dktX0_isOpen_0 : List UInt8 := dkwX0_isOpen_0 ++ dktX0_isOpen_1
theorem dksX0_isOpen_0 : cX0_isOpen.data.toList.drop 0 = dktX0_isOpen_0 := by decide +kernel
theorem dksX0_isOpen_1 : cX0_isOpen.data.toList.drop 22 = dktX0_isOpen_1 := dk_seg dksX0_isOpen_0 22 rfl rfl
theorem dksX0_isOpen_2 : cX0_isOpen.data.toList.drop 44 = dktX0_isOpen_2 := dk_seg dksX0_isOpen_1 22 rfl rfl
theorem dX0_isOpen_0 : decode cX0_isOpen 0 = .ok (.iconst 0, 1) := dk_3 (dk_at dksX0_isOpen_0 0 rfl rfl)
theorem dX0_isOpen_1 : decode cX0_isOpen 1 = .ok (.istore_n 2, 1) := dk_61 (dk_at dksX0_isOpen_0 1 rfl rfl)
theorem dX0_isOpen_2 : decode cX0_isOpen 2 = .ok (.iload_n 2, 1) := dk_28 (dk_at dksX0_isOpen_0 2 rfl rfl)
theorem dX0_isOpen_3 : decode cX0_isOpen 3 = .ok (.aload_n 0, 1) := dk_42 (dk_at dksX0_isOpen_0 3 rfl rfl)
theorem dX0_isOpen_4 : decode cX0_isOpen 4 = .ok (.getfield 37, 3) := dk_180 0 37 (dk_at dksX0_isOpen_0 4 rfl rfl)
theorem dX0_isOpen_7 : decode cX0_isOpen 7 = .ok (.invokevirtual 102, 3) := dk_182 0 102 (dk_at dksX0_isOpen_0 7 rfl rfl)
theorem dX0_isOpen_10 : decode cX0_isOpen 10 = .ok (.if_icmp .ge 40, 3) := dk_162 0 40 (dk_at dksX0_isOpen_0 10 rfl rfl)
theorem dX0_isOpen_13 : decode cX0_isOpen 13 = .ok (.aload_n 0, 1) := dk_42 (dk_at dksX0_isOpen_0 13 rfl rfl)
theorem dX0_isOpen_14 : decode cX0_isOpen 14 = .ok (.aload_n 0, 1) := dk_42 (dk_at dksX0_isOpen_0 14 rfl rfl)
theorem dX0_isOpen_15 : decode cX0_isOpen 15 = .ok (.getfield 37, 3) := dk_180 0 37 (dk_at dksX0_isOpen_0 15 rfl rfl)
theorem dX0_isOpen_18 : decode cX0_isOpen 18 = .ok (.iload_n 2, 1) := dk_28 (dk_at dksX0_isOpen_0 18 rfl rfl)
theorem dX0_isOpen_19 : decode cX0_isOpen 19 = .ok (.invokevirtual 106, 3) := dk_182 0 106 (dk_at dksX0_isOpen_0 19 rfl rfl)
theorem dX0_isOpen_22 : decode cX0_isOpen 22 = .ok (.checkcast 112, 3) := dk_192 0 112 (dk_at dksX0_isOpen_1 0 rfl rfl)
theorem dX0_isOpen_25 : decode cX0_isOpen 25 = .ok (.aload_n 0, 1) := dk_42 (dk_at dksX0_isOpen_1 3 rfl rfl)
theorem dX0_isOpen_26 : decode cX0_isOpen 26 = .ok (.getfield 37, 3) := dk_180 0 37 (dk_at dksX0_isOpen_1 4 rfl rfl)
theorem dX0_isOpen_29 : decode cX0_isOpen 29 = .ok (.iload_n 1, 1) := dk_27 (dk_at dksX0_isOpen_1 7 rfl rfl)
theorem dX0_isOpen_30 : decode cX0_isOpen 30 = .ok (.invokevirtual 106, 3) := dk_182 0 106 (dk_at dksX0_isOpen_1 8 rfl rfl)
theorem dX0_isOpen_33 : decode cX0_isOpen 33 = .ok (.checkcast 112, 3) := dk_192 0 112 (dk_at dksX0_isOpen_1 11 rfl rfl)
theorem dX0_isOpen_36 : decode cX0_isOpen 36 = .ok (.invokevirtual 333, 3) := dk_182 1 77 (dk_at dksX0_isOpen_1 14 rfl rfl)
theorem dX0_isOpen_39 : decode cX0_isOpen 39 = .ok (.ifCond .eq 5, 3) := dk_153 0 5 (dk_at dksX0_isOpen_1 17 rfl rfl)
theorem dX0_isOpen_42 : decode cX0_isOpen 42 = .ok (.iconst 0, 1) := dk_3 (dk_at dksX0_isOpen_1 20 rfl rfl)
theorem dX0_isOpen_43 : decode cX0_isOpen 43 = .ok (.ireturn, 1) := dk_172 (dk_at dksX0_isOpen_1 21 rfl rfl)
theorem dX0_isOpen_44 : decode cX0_isOpen 44 = .ok (.iinc 2 1, 3) := dk_132 2 1 (dk_at dksX0_isOpen_2 0 rfl rfl)
theorem dX0_isOpen_47 : decode cX0_isOpen 47 = .ok (.goto (-45), 3) := dk_167 255 211 (dk_at dksX0_isOpen_2 3 rfl rfl)
theorem dX0_isOpen_50 : decode cX0_isOpen 50 = .ok (.iconst 1, 1) := dk_4 (dk_at dksX0_isOpen_2 6 rfl rfl)
theorem dX0_isOpen_51 : decode cX0_isOpen 51 = .ok (.ireturn, 1) := dk_172 (dk_at dksX0_isOpen_2 7 rfl rfl)
def dkwX0_covers_2 : List UInt8 := [29, 182, 0, 106, 192, 0, 112, 44, 182, 0, 210, 154, 0, 5, 3, 172, 132, 3, 1, 167, 255, 202, 4, 172]
abbrev dktX0_covers_2 : List UInt8 := dkwX0_covers_2 ++ []
def dkwX0_covers_1 : List UInt8 := [42, 42, 180, 0, 37, 29, 182, 0, 106, 192, 0, 112, 43, 182, 0, 210, 153, 0, 24, 42, 42, 180, 0, 37]
abbrev dktX0_covers_1 : List UInt8 := dkwX0_covers_1 ++ dktX0_covers_2
def dkwX0_covers_0 : List UInt8 := [42, 43, 44, 182, 0, 210, 154, 0, 5, 3, 172, 3, 62, 29, 42, 180, 0, 37, 182, 0, 102, 162, 0, 49]
abbrev dktX0_covers_0 : List UInt8 := dkwX0_covers_0 ++ dktX0_covers_1
theorem dksX0_covers_0 : cX0_covers.data.toList.drop 0 = dktX0_covers_0 := by decide +kernel
theorem dksX0_covers_1 : cX0_covers.data.toList.drop 24 = dktX0_covers_1 := dk_seg dksX0_covers_0 24 rfl rfl
theorem dksX0_covers_2 : cX0_covers.data.toList.drop 48 = dktX0_covers_2 := dk_seg dksX0_covers_1 24 rfl rfl
theorem dX0_covers_0 : decode cX0_covers 0 = .ok (.aload_n 0, 1) := dk_42 (dk_at dksX0_covers_0 0 rfl rfl)
theorem dX0_covers_1 : decode cX0_covers 1 = .ok (.aload_n 1, 1) := dk_43 (dk_at dksX0_covers_0 1 rfl rfl)
theorem dX0_covers_2 : decode cX0_covers 2 = .ok (.aload_n 2, 1) := dk_44 (dk_at dksX0_covers_0 2 rfl rfl)
theorem dX0_covers_3 : decode cX0_covers 3 = .ok (.invokevirtual 210, 3) := dk_182 0 210 (dk_at dksX0_covers_0 3 rfl rfl)
theorem dX0_covers_6 : decode cX0_covers 6 = .ok (.ifCond .ne 5, 3) := dk_154 0 5 (dk_at dksX0_covers_0 6 rfl rfl)
theorem dX0_covers_9 : decode cX0_covers 9 = .ok (.iconst 0, 1) := dk_3 (dk_at dksX0_covers_0 9 rfl rfl)
theorem dX0_covers_10 : decode cX0_covers 10 = .ok (.ireturn, 1) := dk_172 (dk_at dksX0_covers_0 10 rfl rfl)
theorem dX0_covers_11 : decode cX0_covers 11 = .ok (.iconst 0, 1) := dk_3 (dk_at dksX0_covers_0 11 rfl rfl)
theorem dX0_covers_12 : decode cX0_covers 12 = .ok (.istore_n 3, 1) := dk_62 (dk_at dksX0_covers_0 12 rfl rfl)
theorem dX0_covers_13 : decode cX0_covers 13 = .ok (.iload_n 3, 1) := dk_29 (dk_at dksX0_covers_0 13 rfl rfl)
theorem dX0_covers_14 : decode cX0_covers 14 = .ok (.aload_n 0, 1) := dk_42 (dk_at dksX0_covers_0 14 rfl rfl)
theorem dX0_covers_15 : decode cX0_covers 15 = .ok (.getfield 37, 3) := dk_180 0 37 (dk_at dksX0_covers_0 15 rfl rfl)
theorem dX0_covers_18 : decode cX0_covers 18 = .ok (.invokevirtual 102, 3) := dk_182 0 102 (dk_at dksX0_covers_0 18 rfl rfl)
theorem dX0_covers_21 : decode cX0_covers 21 = .ok (.if_icmp .ge 49, 3) := dk_162 0 49 (dk_at dksX0_covers_0 21 rfl rfl)
theorem dX0_covers_24 : decode cX0_covers 24 = .ok (.aload_n 0, 1) := dk_42 (dk_at dksX0_covers_1 0 rfl rfl)
theorem dX0_covers_25 : decode cX0_covers 25 = .ok (.aload_n 0, 1) := dk_42 (dk_at dksX0_covers_1 1 rfl rfl)
theorem dX0_covers_26 : decode cX0_covers 26 = .ok (.getfield 37, 3) := dk_180 0 37 (dk_at dksX0_covers_1 2 rfl rfl)
theorem dX0_covers_29 : decode cX0_covers 29 = .ok (.iload_n 3, 1) := dk_29 (dk_at dksX0_covers_1 5 rfl rfl)
theorem dX0_covers_30 : decode cX0_covers 30 = .ok (.invokevirtual 106, 3) := dk_182 0 106 (dk_at dksX0_covers_1 6 rfl rfl)
theorem dX0_covers_33 : decode cX0_covers 33 = .ok (.checkcast 112, 3) := dk_192 0 112 (dk_at dksX0_covers_1 9 rfl rfl)
theorem dX0_covers_36 : decode cX0_covers 36 = .ok (.aload_n 1, 1) := dk_43 (dk_at dksX0_covers_1 12 rfl rfl)
theorem dX0_covers_37 : decode cX0_covers 37 = .ok (.invokevirtual 210, 3) := dk_182 0 210 (dk_at dksX0_covers_1 13 rfl rfl)
theorem dX0_covers_40 : decode cX0_covers 40 = .ok (.ifCond .eq 24, 3) := dk_153 0 24 (dk_at dksX0_covers_1 16 rfl rfl)
theorem dX0_covers_43 : decode cX0_covers 43 = .ok (.aload_n 0, 1) := dk_42 (dk_at dksX0_covers_1 19 rfl rfl)
theorem dX0_covers_44 : decode cX0_covers 44 = .ok (.aload_n 0, 1) := dk_42 (dk_at dksX0_covers_1 20 rfl rfl)
theorem dX0_covers_45 : decode cX0_covers 45 = .ok (.getfield 37, 3) := dk_180 0 37 (dk_at dksX0_covers_1 21 rfl rfl)
theorem dX0_covers_48 : decode cX0_covers 48 = .ok (.iload_n 3, 1) := dk_29 (dk_at dksX0_covers_2 0 rfl rfl)
theorem dX0_covers_49 : decode cX0_covers 49 = .ok (.invokevirtual 106, 3) := dk_182 0 106 (dk_at dksX0_covers_2 1 rfl rfl)
theorem dX0_covers_52 : decode cX0_covers 52 = .ok (.checkcast 112, 3) := dk_192 0 112 (dk_at dksX0_covers_2 4 rfl rfl)
theorem dX0_covers_55 : decode cX0_covers 55 = .ok (.aload_n 2, 1) := dk_44 (dk_at dksX0_covers_2 7 rfl rfl)
theorem dX0_covers_56 : decode cX0_covers 56 = .ok (.invokevirtual 210, 3) := dk_182 0 210 (dk_at dksX0_covers_2 8 rfl rfl)
theorem dX0_covers_59 : decode cX0_covers 59 = .ok (.ifCond .ne 5, 3) := dk_154 0 5 (dk_at dksX0_covers_2 11 rfl rfl)
theorem dX0_covers_62 : decode cX0_covers 62 = .ok (.iconst 0, 1) := dk_3 (dk_at dksX0_covers_2 14 rfl rfl)
theorem dX0_covers_63 : decode cX0_covers 63 = .ok (.ireturn, 1) := dk_172 (dk_at dksX0_covers_2 15 rfl rfl)
theorem dX0_covers_64 : decode cX0_covers 64 = .ok (.iinc 3 1, 3) := dk_132 3 1 (dk_at dksX0_covers_2 16 rfl rfl)
theorem dX0_covers_67 : decode cX0_covers 67 = .ok (.goto (-54), 3) := dk_167 255 202 (dk_at dksX0_covers_2 19 rfl rfl)
theorem dX0_covers_70 : decode cX0_covers 70 = .ok (.iconst 1, 1) := dk_4 (dk_at dksX0_covers_2 22 rfl rfl)
theorem dX0_covers_71 : decode cX0_covers 71 = .ok (.ireturn, 1) := dk_172 (dk_at dksX0_covers_2 23 rfl rfl)
def dkwX0_between_4 : List UInt8 := [172]
abbrev dktX0_between_4 : List UInt8 := dkwX0_between_4 ++ []
def dkwX0_between_3 : List UInt8 := [180, 0, 175, 25, 4, 180, 0, 176, 182, 0, 202, 153, 0, 6, 21, 5, 172, 132, 5, 1, 167, 255, 181, 2]
abbrev dktX0_between_3 : List UInt8 := dkwX0_between_3 ++ dktX0_between_4
def dkwX0_between_2 : List UInt8 := [21, 5, 16, 100, 112, 182, 0, 202, 153, 0, 33, 42, 21, 5, 16, 100, 108, 21, 5, 16, 100, 112, 25, 4]
abbrev dktX0_between_2 : List UInt8 := dkwX0_between_2 ++ dktX0_between_3
def dkwX0_between_1 : List UInt8 := [45, 198, 0, 69, 25, 4, 198, 0, 64, 42, 45, 180, 0, 175, 45, 180, 0, 176, 21, 5, 16, 100, 108]
abbrev dktX0_between_1 : List UInt8 := dkwX0_between_1 ++ dktX0_between_2
def dkwX0_between_0 : List UInt8 := [42, 27, 182, 0, 171, 78, 42, 28, 182, 0, 171, 58, 4, 3, 54, 5, 21, 5, 17, 39, 16, 162, 0, 73]
abbrev dktX0_between_0 : List UInt8 := dkwX0_between_0 ++ dktX0_between_1
theorem dksX0_between_0 : cX0_between.data.toList.drop 0 = dktX0_between_0 := by decide +kernel
theorem dksX0_between_1 : cX0_between.data.toList.drop 24 = dktX0_between_1 := dk_seg dksX0_between_0 24 rfl rfl
theorem dksX0_between_2 : cX0_between.data.toList.drop 47 = dktX0_between_2 := dk_seg dksX0_between_1 23 rfl rfl
theorem dksX0_between_3 : cX0_between.data.toList.drop 71 = dktX0_between_3 := dk_seg dksX0_between_2 24 rfl rfl
theorem dksX0_between_4 : cX0_between.data.toList.drop 95 = dktX0_between_4 := dk_seg dksX0_between_3 24 rfl rfl
theorem dX0_between_0 : decode cX0_between 0 = .ok (.aload_n 0, 1) := dk_42 (dk_at dksX0_between_0 0 rfl rfl)
theorem dX0_between_1 : decode cX0_between 1 = .ok (.iload_n 1, 1) := dk_27 (dk_at dksX0_between_0 1 rfl rfl)
theorem dX0_between_2 : decode cX0_between 2 = .ok (.invokevirtual 171, 3) := dk_182 0 171 (dk_at dksX0_between_0 2 rfl rfl)
theorem dX0_between_5 : decode cX0_between 5 = .ok (.astore_n 3, 1) := dk_78 (dk_at dksX0_between_0 5 rfl rfl)
theorem dX0_between_6 : decode cX0_between 6 = .ok (.aload_n 0, 1) := dk_42 (dk_at dksX0_between_0 6 rfl rfl)
theorem dX0_between_7 : decode cX0_between 7 = .ok (.iload_n 2, 1) := dk_28 (dk_at dksX0_between_0 7 rfl rfl)
theorem dX0_between_8 : decode cX0_between 8 = .ok (.invokevirtual 171, 3) := dk_182 0 171 (dk_at dksX0_between_0 8 rfl rfl)
theorem dX0_between_11 : decode cX0_between 11 = .ok (.astore 4, 2) := dk_58 4 (dk_at dksX0_between_0 11 rfl rfl)
theorem dX0_between_13 : decode cX0_between 13 = .ok (.iconst 0, 1) := dk_3 (dk_at dksX0_between_0 13 rfl rfl)
theorem dX0_between_14 : decode cX0_between 14 = .ok (.istore 5, 2) := dk_54 5 (dk_at dksX0_between_0 14 rfl rfl)
theorem dX0_between_16 : decode cX0_between 16 = .ok (.iload 5, 2) := dk_21 5 (dk_at dksX0_between_0 16 rfl rfl)
theorem dX0_between_18 : decode cX0_between 18 = .ok (.sipush 10000, 3) := dk_17 39 16 (dk_at dksX0_between_0 18 rfl rfl)
theorem dX0_between_21 : decode cX0_between 21 = .ok (.if_icmp .ge 73, 3) := dk_162 0 73 (dk_at dksX0_between_0 21 rfl rfl)
theorem dX0_between_24 : decode cX0_between 24 = .ok (.aload_n 3, 1) := dk_45 (dk_at dksX0_between_1 0 rfl rfl)
theorem dX0_between_25 : decode cX0_between 25 = .ok (.ifnull 69, 3) := dk_198 0 69 (dk_at dksX0_between_1 1 rfl rfl)
theorem dX0_between_28 : decode cX0_between 28 = .ok (.aload 4, 2) := dk_25 4 (dk_at dksX0_between_1 4 rfl rfl)
theorem dX0_between_30 : decode cX0_between 30 = .ok (.ifnull 64, 3) := dk_198 0 64 (dk_at dksX0_between_1 6 rfl rfl)
theorem dX0_between_33 : decode cX0_between 33 = .ok (.aload_n 0, 1) := dk_42 (dk_at dksX0_between_1 9 rfl rfl)
theorem dX0_between_34 : decode cX0_between 34 = .ok (.aload_n 3, 1) := dk_45 (dk_at dksX0_between_1 10 rfl rfl)
theorem dX0_between_35 : decode cX0_between 35 = .ok (.getfield 175, 3) := dk_180 0 175 (dk_at dksX0_between_1 11 rfl rfl)
theorem dX0_between_38 : decode cX0_between 38 = .ok (.aload_n 3, 1) := dk_45 (dk_at dksX0_between_1 14 rfl rfl)
theorem dX0_between_39 : decode cX0_between 39 = .ok (.getfield 176, 3) := dk_180 0 176 (dk_at dksX0_between_1 15 rfl rfl)
theorem dX0_between_42 : decode cX0_between 42 = .ok (.iload 5, 2) := dk_21 5 (dk_at dksX0_between_1 18 rfl rfl)
theorem dX0_between_44 : decode cX0_between 44 = .ok (.bipush 100, 2) := dk_16 100 (dk_at dksX0_between_1 20 rfl rfl)
theorem dX0_between_46 : decode cX0_between 46 = .ok (.idiv, 1) := dk_108 (dk_at dksX0_between_1 22 rfl rfl)
theorem dX0_between_47 : decode cX0_between 47 = .ok (.iload 5, 2) := dk_21 5 (dk_at dksX0_between_2 0 rfl rfl)
theorem dX0_between_49 : decode cX0_between 49 = .ok (.bipush 100, 2) := dk_16 100 (dk_at dksX0_between_2 2 rfl rfl)
theorem dX0_between_51 : decode cX0_between 51 = .ok (.irem, 1) := dk_112 (dk_at dksX0_between_2 4 rfl rfl)
theorem dX0_between_52 : decode cX0_between 52 = .ok (.invokevirtual 202, 3) := dk_182 0 202 (dk_at dksX0_between_2 5 rfl rfl)
theorem dX0_between_55 : decode cX0_between 55 = .ok (.ifCond .eq 33, 3) := dk_153 0 33 (dk_at dksX0_between_2 8 rfl rfl)
theorem dX0_between_58 : decode cX0_between 58 = .ok (.aload_n 0, 1) := dk_42 (dk_at dksX0_between_2 11 rfl rfl)
theorem dX0_between_59 : decode cX0_between 59 = .ok (.iload 5, 2) := dk_21 5 (dk_at dksX0_between_2 12 rfl rfl)
theorem dX0_between_61 : decode cX0_between 61 = .ok (.bipush 100, 2) := dk_16 100 (dk_at dksX0_between_2 14 rfl rfl)
theorem dX0_between_63 : decode cX0_between 63 = .ok (.idiv, 1) := dk_108 (dk_at dksX0_between_2 16 rfl rfl)
theorem dX0_between_64 : decode cX0_between 64 = .ok (.iload 5, 2) := dk_21 5 (dk_at dksX0_between_2 17 rfl rfl)
theorem dX0_between_66 : decode cX0_between 66 = .ok (.bipush 100, 2) := dk_16 100 (dk_at dksX0_between_2 19 rfl rfl)
theorem dX0_between_68 : decode cX0_between 68 = .ok (.irem, 1) := dk_112 (dk_at dksX0_between_2 21 rfl rfl)
theorem dX0_between_69 : decode cX0_between 69 = .ok (.aload 4, 2) := dk_25 4 (dk_at dksX0_between_2 22 rfl rfl)
theorem dX0_between_71 : decode cX0_between 71 = .ok (.getfield 175, 3) := dk_180 0 175 (dk_at dksX0_between_3 0 rfl rfl)
theorem dX0_between_74 : decode cX0_between 74 = .ok (.aload 4, 2) := dk_25 4 (dk_at dksX0_between_3 3 rfl rfl)
theorem dX0_between_76 : decode cX0_between 76 = .ok (.getfield 176, 3) := dk_180 0 176 (dk_at dksX0_between_3 5 rfl rfl)
theorem dX0_between_79 : decode cX0_between 79 = .ok (.invokevirtual 202, 3) := dk_182 0 202 (dk_at dksX0_between_3 8 rfl rfl)
theorem dX0_between_82 : decode cX0_between 82 = .ok (.ifCond .eq 6, 3) := dk_153 0 6 (dk_at dksX0_between_3 11 rfl rfl)
theorem dX0_between_85 : decode cX0_between 85 = .ok (.iload 5, 2) := dk_21 5 (dk_at dksX0_between_3 14 rfl rfl)
theorem dX0_between_87 : decode cX0_between 87 = .ok (.ireturn, 1) := dk_172 (dk_at dksX0_between_3 16 rfl rfl)
theorem dX0_between_88 : decode cX0_between 88 = .ok (.iinc 5 1, 3) := dk_132 5 1 (dk_at dksX0_between_3 17 rfl rfl)
theorem dX0_between_91 : decode cX0_between 91 = .ok (.goto (-75), 3) := dk_167 255 181 (dk_at dksX0_between_3 20 rfl rfl)
theorem dX0_between_94 : decode cX0_between 94 = .ok (.iconst (-1), 1) := dk_2 (dk_at dksX0_between_3 23 rfl rfl)
theorem dX0_between_95 : decode cX0_between 95 = .ok (.ireturn, 1) := dk_172 (dk_at dksX0_between_4 0 rfl rfl)
def dkwX0_rest_2 : List UInt8 := [167, 255, 225, 29, 153, 0, 5, 28, 172, 132, 2, 1, 167, 255, 203, 2, 172]
abbrev dktX0_rest_2 : List UInt8 := dkwX0_rest_2 ++ []
def dkwX0_rest_1 : List UInt8 := [153, 0, 19, 42, 180, 0, 82, 21, 4, 50, 28, 46, 157, 0, 7, 4, 167, 0, 4, 3, 62, 132, 4, 1]
abbrev dktX0_rest_1 : List UInt8 := dkwX0_rest_1 ++ dktX0_rest_2
def dkwX0_rest_0 : List UInt8 := [42, 182, 1, 90, 60, 3, 61, 28, 27, 162, 0, 54, 4, 62, 3, 54, 4, 21, 4, 27, 162, 0, 31, 29]
abbrev dktX0_rest_0 : List UInt8 := dkwX0_rest_0 ++ dktX0_rest_1
theorem dksX0_rest_0 : cX0_rest.data.toList.drop 0 = dktX0_rest_0 := by decide +kernel
theorem dksX0_rest_1 : cX0_rest.data.toList.drop 24 = dktX0_rest_1 := dk_seg dksX0_rest_0 24 rfl rfl
theorem dksX0_rest_2 : cX0_rest.data.toList.drop 48 = dktX0_rest_2 := dk_seg dksX0_rest_1 24 rfl rfl
theorem dX0_rest_0 : decode cX0_rest 0 = .ok (.aload_n 0, 1) := dk_42 (dk_at dksX0_rest_0 0 rfl rfl)
theorem dX0_rest_1 : decode cX0_rest 1 = .ok (.invokevirtual 346, 3) := dk_182 1 90 (dk_at dksX0_rest_0 1 rfl rfl)
theorem dX0_rest_4 : decode cX0_rest 4 = .ok (.istore_n 1, 1) := dk_60 (dk_at dksX0_rest_0 4 rfl rfl)
theorem dX0_rest_5 : decode cX0_rest 5 = .ok (.iconst 0, 1) := dk_3 (dk_at dksX0_rest_0 5 rfl rfl)
theorem dX0_rest_6 : decode cX0_rest 6 = .ok (.istore_n 2, 1) := dk_61 (dk_at dksX0_rest_0 6 rfl rfl)
theorem dX0_rest_7 : decode cX0_rest 7 = .ok (.iload_n 2, 1) := dk_28 (dk_at dksX0_rest_0 7 rfl rfl)
theorem dX0_rest_8 : decode cX0_rest 8 = .ok (.iload_n 1, 1) := dk_27 (dk_at dksX0_rest_0 8 rfl rfl)
theorem dX0_rest_9 : decode cX0_rest 9 = .ok (.if_icmp .ge 54, 3) := dk_162 0 54 (dk_at dksX0_rest_0 9 rfl rfl)
theorem dX0_rest_12 : decode cX0_rest 12 = .ok (.iconst 1, 1) := dk_4 (dk_at dksX0_rest_0 12 rfl rfl)
theorem dX0_rest_13 : decode cX0_rest 13 = .ok (.istore_n 3, 1) := dk_62 (dk_at dksX0_rest_0 13 rfl rfl)
theorem dX0_rest_14 : decode cX0_rest 14 = .ok (.iconst 0, 1) := dk_3 (dk_at dksX0_rest_0 14 rfl rfl)
theorem dX0_rest_15 : decode cX0_rest 15 = .ok (.istore 4, 2) := dk_54 4 (dk_at dksX0_rest_0 15 rfl rfl)
theorem dX0_rest_17 : decode cX0_rest 17 = .ok (.iload 4, 2) := dk_21 4 (dk_at dksX0_rest_0 17 rfl rfl)
theorem dX0_rest_19 : decode cX0_rest 19 = .ok (.iload_n 1, 1) := dk_27 (dk_at dksX0_rest_0 19 rfl rfl)
theorem dX0_rest_20 : decode cX0_rest 20 = .ok (.if_icmp .ge 31, 3) := dk_162 0 31 (dk_at dksX0_rest_0 20 rfl rfl)
theorem dX0_rest_23 : decode cX0_rest 23 = .ok (.iload_n 3, 1) := dk_29 (dk_at dksX0_rest_0 23 rfl rfl)
theorem dX0_rest_24 : decode cX0_rest 24 = .ok (.ifCond .eq 19, 3) := dk_153 0 19 (dk_at dksX0_rest_1 0 rfl rfl)
theorem dX0_rest_27 : decode cX0_rest 27 = .ok (.aload_n 0, 1) := dk_42 (dk_at dksX0_rest_1 3 rfl rfl)
theorem dX0_rest_28 : decode cX0_rest 28 = .ok (.getfield 82, 3) := dk_180 0 82 (dk_at dksX0_rest_1 4 rfl rfl)
theorem dX0_rest_31 : decode cX0_rest 31 = .ok (.iload 4, 2) := dk_21 4 (dk_at dksX0_rest_1 7 rfl rfl)
theorem dX0_rest_33 : decode cX0_rest 33 = .ok (.aaload, 1) := dk_50 (dk_at dksX0_rest_1 9 rfl rfl)
theorem dX0_rest_34 : decode cX0_rest 34 = .ok (.iload_n 2, 1) := dk_28 (dk_at dksX0_rest_1 10 rfl rfl)
theorem dX0_rest_35 : decode cX0_rest 35 = .ok (.iaload, 1) := dk_46 (dk_at dksX0_rest_1 11 rfl rfl)
theorem dX0_rest_36 : decode cX0_rest 36 = .ok (.ifCond .gt 7, 3) := dk_157 0 7 (dk_at dksX0_rest_1 12 rfl rfl)
theorem dX0_rest_39 : decode cX0_rest 39 = .ok (.iconst 1, 1) := dk_4 (dk_at dksX0_rest_1 15 rfl rfl)
theorem dX0_rest_40 : decode cX0_rest 40 = .ok (.goto 4, 3) := dk_167 0 4 (dk_at dksX0_rest_1 16 rfl rfl)
theorem dX0_rest_43 : decode cX0_rest 43 = .ok (.iconst 0, 1) := dk_3 (dk_at dksX0_rest_1 19 rfl rfl)
theorem dX0_rest_44 : decode cX0_rest 44 = .ok (.istore_n 3, 1) := dk_62 (dk_at dksX0_rest_1 20 rfl rfl)
theorem dX0_rest_45 : decode cX0_rest 45 = .ok (.iinc 4 1, 3) := dk_132 4 1 (dk_at dksX0_rest_1 21 rfl rfl)
theorem dX0_rest_48 : decode cX0_rest 48 = .ok (.goto (-31), 3) := dk_167 255 225 (dk_at dksX0_rest_2 0 rfl rfl)
theorem dX0_rest_51 : decode cX0_rest 51 = .ok (.iload_n 3, 1) := dk_29 (dk_at dksX0_rest_2 3 rfl rfl)
theorem dX0_rest_52 : decode cX0_rest 52 = .ok (.ifCond .eq 5, 3) := dk_153 0 5 (dk_at dksX0_rest_2 4 rfl rfl)
theorem dX0_rest_55 : decode cX0_rest 55 = .ok (.iload_n 2, 1) := dk_28 (dk_at dksX0_rest_2 7 rfl rfl)
theorem dX0_rest_56 : decode cX0_rest 56 = .ok (.ireturn, 1) := dk_172 (dk_at dksX0_rest_2 8 rfl rfl)
theorem dX0_rest_57 : decode cX0_rest 57 = .ok (.iinc 2 1, 3) := dk_132 2 1 (dk_at dksX0_rest_2 9 rfl rfl)
theorem dX0_rest_60 : decode cX0_rest 60 = .ok (.goto (-53), 3) := dk_167 255 203 (dk_at dksX0_rest_2 12 rfl rfl)
theorem dX0_rest_63 : decode cX0_rest 63 = .ok (.iconst (-1), 1) := dk_2 (dk_at dksX0_rest_2 15 rfl rfl)
theorem dX0_rest_64 : decode cX0_rest 64 = .ok (.ireturn, 1) := dk_172 (dk_at dksX0_rest_2 16 rfl rfl)
def dkwX0_gains_4 : List UInt8 := [167, 255, 187, 132, 2, 1, 167, 255, 174, 27, 172]
abbrev dktX0_gains_4 : List UInt8 := dkwX0_gains_4 ++ []
def dkwX0_gains_3 : List UInt8 := [192, 0, 112, 42, 180, 0, 37, 28, 182, 0, 106, 192, 0, 112, 182, 0, 206, 100, 79, 132, 3, 1]
abbrev dktX0_gains_3 : List UInt8 := dkwX0_gains_3 ++ dktX0_gains_4
def dkwX0_gains_2 : List UInt8 := [180, 0, 37, 29, 182, 0, 106, 192, 0, 112, 182, 0, 206, 42, 42, 180, 0, 37, 29, 182, 0, 106]
abbrev dktX0_gains_2 : List UInt8 := dkwX0_gains_2 ++ dktX0_gains_3
def dkwX0_gains_1 : List UInt8 := [162, 0, 70, 42, 180, 0, 82, 28, 50, 29, 42, 42, 180, 0, 37, 28, 182, 0, 106, 192, 0, 112, 42]
abbrev dktX0_gains_1 : List UInt8 := dkwX0_gains_1 ++ dktX0_gains_2
def dkwX0_gains_0 : List UInt8 := [16, 8, 42, 180, 0, 37, 182, 0, 102, 184, 1, 87, 60, 3, 61, 28, 27, 162, 0, 83, 3, 62, 29, 27]
abbrev dktX0_gains_0 : List UInt8 := dkwX0_gains_0 ++ dktX0_gains_1
theorem dksX0_gains_0 : cX0_gains.data.toList.drop 0 = dktX0_gains_0 := by decide +kernel
theorem dksX0_gains_1 : cX0_gains.data.toList.drop 24 = dktX0_gains_1 := dk_seg dksX0_gains_0 24 rfl rfl
theorem dksX0_gains_2 : cX0_gains.data.toList.drop 47 = dktX0_gains_2 := dk_seg dksX0_gains_1 23 rfl rfl
theorem dksX0_gains_3 : cX0_gains.data.toList.drop 69 = dktX0_gains_3 := dk_seg dksX0_gains_2 22 rfl rfl
theorem dksX0_gains_4 : cX0_gains.data.toList.drop 91 = dktX0_gains_4 := dk_seg dksX0_gains_3 22 rfl rfl
theorem dX0_gains_0 : decode cX0_gains 0 = .ok (.bipush 8, 2) := dk_16 8 (dk_at dksX0_gains_0 0 rfl rfl)
theorem dX0_gains_2 : decode cX0_gains 2 = .ok (.aload_n 0, 1) := dk_42 (dk_at dksX0_gains_0 2 rfl rfl)
theorem dX0_gains_3 : decode cX0_gains 3 = .ok (.getfield 37, 3) := dk_180 0 37 (dk_at dksX0_gains_0 3 rfl rfl)
theorem dX0_gains_6 : decode cX0_gains 6 = .ok (.invokevirtual 102, 3) := dk_182 0 102 (dk_at dksX0_gains_0 6 rfl rfl)
theorem dX0_gains_9 : decode cX0_gains 9 = .ok (.invokestatic 343, 3) := dk_184 1 87 (dk_at dksX0_gains_0 9 rfl rfl)
theorem dX0_gains_12 : decode cX0_gains 12 = .ok (.istore_n 1, 1) := dk_60 (dk_at dksX0_gains_0 12 rfl rfl)
theorem dX0_gains_13 : decode cX0_gains 13 = .ok (.iconst 0, 1) := dk_3 (dk_at dksX0_gains_0 13 rfl rfl)
theorem dX0_gains_14 : decode cX0_gains 14 = .ok (.istore_n 2, 1) := dk_61 (dk_at dksX0_gains_0 14 rfl rfl)
theorem dX0_gains_15 : decode cX0_gains 15 = .ok (.iload_n 2, 1) := dk_28 (dk_at dksX0_gains_0 15 rfl rfl)
theorem dX0_gains_16 : decode cX0_gains 16 = .ok (.iload_n 1, 1) := dk_27 (dk_at dksX0_gains_0 16 rfl rfl)
theorem dX0_gains_17 : decode cX0_gains 17 = .ok (.if_icmp .ge 83, 3) := dk_162 0 83 (dk_at dksX0_gains_0 17 rfl rfl)
theorem dX0_gains_20 : decode cX0_gains 20 = .ok (.iconst 0, 1) := dk_3 (dk_at dksX0_gains_0 20 rfl rfl)
theorem dX0_gains_21 : decode cX0_gains 21 = .ok (.istore_n 3, 1) := dk_62 (dk_at dksX0_gains_0 21 rfl rfl)
theorem dX0_gains_22 : decode cX0_gains 22 = .ok (.iload_n 3, 1) := dk_29 (dk_at dksX0_gains_0 22 rfl rfl)
theorem dX0_gains_23 : decode cX0_gains 23 = .ok (.iload_n 1, 1) := dk_27 (dk_at dksX0_gains_0 23 rfl rfl)
theorem dX0_gains_24 : decode cX0_gains 24 = .ok (.if_icmp .ge 70, 3) := dk_162 0 70 (dk_at dksX0_gains_1 0 rfl rfl)
theorem dX0_gains_27 : decode cX0_gains 27 = .ok (.aload_n 0, 1) := dk_42 (dk_at dksX0_gains_1 3 rfl rfl)
theorem dX0_gains_28 : decode cX0_gains 28 = .ok (.getfield 82, 3) := dk_180 0 82 (dk_at dksX0_gains_1 4 rfl rfl)
theorem dX0_gains_31 : decode cX0_gains 31 = .ok (.iload_n 2, 1) := dk_28 (dk_at dksX0_gains_1 7 rfl rfl)
theorem dX0_gains_32 : decode cX0_gains 32 = .ok (.aaload, 1) := dk_50 (dk_at dksX0_gains_1 8 rfl rfl)
theorem dX0_gains_33 : decode cX0_gains 33 = .ok (.iload_n 3, 1) := dk_29 (dk_at dksX0_gains_1 9 rfl rfl)
theorem dX0_gains_34 : decode cX0_gains 34 = .ok (.aload_n 0, 1) := dk_42 (dk_at dksX0_gains_1 10 rfl rfl)
theorem dX0_gains_35 : decode cX0_gains 35 = .ok (.aload_n 0, 1) := dk_42 (dk_at dksX0_gains_1 11 rfl rfl)
theorem dX0_gains_36 : decode cX0_gains 36 = .ok (.getfield 37, 3) := dk_180 0 37 (dk_at dksX0_gains_1 12 rfl rfl)
theorem dX0_gains_39 : decode cX0_gains 39 = .ok (.iload_n 2, 1) := dk_28 (dk_at dksX0_gains_1 15 rfl rfl)
theorem dX0_gains_40 : decode cX0_gains 40 = .ok (.invokevirtual 106, 3) := dk_182 0 106 (dk_at dksX0_gains_1 16 rfl rfl)
theorem dX0_gains_43 : decode cX0_gains 43 = .ok (.checkcast 112, 3) := dk_192 0 112 (dk_at dksX0_gains_1 19 rfl rfl)
theorem dX0_gains_46 : decode cX0_gains 46 = .ok (.aload_n 0, 1) := dk_42 (dk_at dksX0_gains_1 22 rfl rfl)
theorem dX0_gains_47 : decode cX0_gains 47 = .ok (.getfield 37, 3) := dk_180 0 37 (dk_at dksX0_gains_2 0 rfl rfl)
theorem dX0_gains_50 : decode cX0_gains 50 = .ok (.iload_n 3, 1) := dk_29 (dk_at dksX0_gains_2 3 rfl rfl)
theorem dX0_gains_51 : decode cX0_gains 51 = .ok (.invokevirtual 106, 3) := dk_182 0 106 (dk_at dksX0_gains_2 4 rfl rfl)
theorem dX0_gains_54 : decode cX0_gains 54 = .ok (.checkcast 112, 3) := dk_192 0 112 (dk_at dksX0_gains_2 7 rfl rfl)
theorem dX0_gains_57 : decode cX0_gains 57 = .ok (.invokevirtual 206, 3) := dk_182 0 206 (dk_at dksX0_gains_2 10 rfl rfl)
theorem dX0_gains_60 : decode cX0_gains 60 = .ok (.aload_n 0, 1) := dk_42 (dk_at dksX0_gains_2 13 rfl rfl)
theorem dX0_gains_61 : decode cX0_gains 61 = .ok (.aload_n 0, 1) := dk_42 (dk_at dksX0_gains_2 14 rfl rfl)
theorem dX0_gains_62 : decode cX0_gains 62 = .ok (.getfield 37, 3) := dk_180 0 37 (dk_at dksX0_gains_2 15 rfl rfl)
theorem dX0_gains_65 : decode cX0_gains 65 = .ok (.iload_n 3, 1) := dk_29 (dk_at dksX0_gains_2 18 rfl rfl)
theorem dX0_gains_66 : decode cX0_gains 66 = .ok (.invokevirtual 106, 3) := dk_182 0 106 (dk_at dksX0_gains_2 19 rfl rfl)
theorem dX0_gains_69 : decode cX0_gains 69 = .ok (.checkcast 112, 3) := dk_192 0 112 (dk_at dksX0_gains_3 0 rfl rfl)
theorem dX0_gains_72 : decode cX0_gains 72 = .ok (.aload_n 0, 1) := dk_42 (dk_at dksX0_gains_3 3 rfl rfl)
theorem dX0_gains_73 : decode cX0_gains 73 = .ok (.getfield 37, 3) := dk_180 0 37 (dk_at dksX0_gains_3 4 rfl rfl)
theorem dX0_gains_76 : decode cX0_gains 76 = .ok (.iload_n 2, 1) := dk_28 (dk_at dksX0_gains_3 7 rfl rfl)
theorem dX0_gains_77 : decode cX0_gains 77 = .ok (.invokevirtual 106, 3) := dk_182 0 106 (dk_at dksX0_gains_3 8 rfl rfl)
theorem dX0_gains_80 : decode cX0_gains 80 = .ok (.checkcast 112, 3) := dk_192 0 112 (dk_at dksX0_gains_3 11 rfl rfl)
theorem dX0_gains_83 : decode cX0_gains 83 = .ok (.invokevirtual 206, 3) := dk_182 0 206 (dk_at dksX0_gains_3 14 rfl rfl)
theorem dX0_gains_86 : decode cX0_gains 86 = .ok (.isub, 1) := dk_100 (dk_at dksX0_gains_3 17 rfl rfl)
theorem dX0_gains_87 : decode cX0_gains 87 = .ok (.iastore, 1) := dk_79 (dk_at dksX0_gains_3 18 rfl rfl)
theorem dX0_gains_88 : decode cX0_gains 88 = .ok (.iinc 3 1, 3) := dk_132 3 1 (dk_at dksX0_gains_3 19 rfl rfl)
theorem dX0_gains_91 : decode cX0_gains 91 = .ok (.goto (-69), 3) := dk_167 255 187 (dk_at dksX0_gains_4 0 rfl rfl)
theorem dX0_gains_94 : decode cX0_gains 94 = .ok (.iinc 2 1, 3) := dk_132 2 1 (dk_at dksX0_gains_4 3 rfl rfl)
theorem dX0_gains_97 : decode cX0_gains 97 = .ok (.goto (-82), 3) := dk_167 255 174 (dk_at dksX0_gains_4 6 rfl rfl)
theorem dX0_gains_100 : decode cX0_gains 100 = .ok (.iload_n 1, 1) := dk_27 (dk_at dksX0_gains_4 9 rfl rfl)
theorem dX0_gains_101 : decode cX0_gains 101 = .ok (.ireturn, 1) := dk_172 (dk_at dksX0_gains_4 10 rfl rfl)
def dkwX0_lot_3 : List UInt8 := [180, 0, 88, 27, 47, 136, 172]
abbrev dktX0_lot_3 : List UInt8 := dkwX0_lot_3 ++ []
def dkwX0_lot_2 : List UInt8 := [180, 0, 88, 21, 4, 47, 97, 65, 132, 4, 1, 167, 255, 236, 27, 2, 160, 0, 7, 32, 167, 0, 9, 42]
abbrev dktX0_lot_2 : List UInt8 := dkwX0_lot_2 ++ dktX0_lot_3
def dkwX0_lot_1 : List UInt8 := [182, 1, 112, 154, 0, 5, 2, 172, 9, 65, 3, 54, 4, 21, 4, 16, 8, 162, 0, 19, 32, 42]
abbrev dktX0_lot_1 : List UInt8 := dkwX0_lot_1 ++ dktX0_lot_2
def dkwX0_lot_0 : List UInt8 := [27, 2, 16, 8, 42, 180, 0, 37, 182, 0, 102, 184, 1, 87, 4, 100, 184, 0, 3, 153, 0, 10, 42]
abbrev dktX0_lot_0 : List UInt8 := dkwX0_lot_0 ++ dktX0_lot_1
theorem dksX0_lot_0 : cX0_lot.data.toList.drop 0 = dktX0_lot_0 := by decide +kernel
theorem dksX0_lot_1 : cX0_lot.data.toList.drop 23 = dktX0_lot_1 := dk_seg dksX0_lot_0 23 rfl rfl
theorem dksX0_lot_2 : cX0_lot.data.toList.drop 45 = dktX0_lot_2 := dk_seg dksX0_lot_1 22 rfl rfl
theorem dksX0_lot_3 : cX0_lot.data.toList.drop 69 = dktX0_lot_3 := dk_seg dksX0_lot_2 24 rfl rfl
theorem dX0_lot_0 : decode cX0_lot 0 = .ok (.iload_n 1, 1) := dk_27 (dk_at dksX0_lot_0 0 rfl rfl)
theorem dX0_lot_1 : decode cX0_lot 1 = .ok (.iconst (-1), 1) := dk_2 (dk_at dksX0_lot_0 1 rfl rfl)
theorem dX0_lot_2 : decode cX0_lot 2 = .ok (.bipush 8, 2) := dk_16 8 (dk_at dksX0_lot_0 2 rfl rfl)
theorem dX0_lot_4 : decode cX0_lot 4 = .ok (.aload_n 0, 1) := dk_42 (dk_at dksX0_lot_0 4 rfl rfl)
theorem dX0_lot_5 : decode cX0_lot 5 = .ok (.getfield 37, 3) := dk_180 0 37 (dk_at dksX0_lot_0 5 rfl rfl)
theorem dX0_lot_8 : decode cX0_lot 8 = .ok (.invokevirtual 102, 3) := dk_182 0 102 (dk_at dksX0_lot_0 8 rfl rfl)
theorem dX0_lot_11 : decode cX0_lot 11 = .ok (.invokestatic 343, 3) := dk_184 1 87 (dk_at dksX0_lot_0 11 rfl rfl)
theorem dX0_lot_14 : decode cX0_lot 14 = .ok (.iconst 1, 1) := dk_4 (dk_at dksX0_lot_0 14 rfl rfl)
theorem dX0_lot_15 : decode cX0_lot 15 = .ok (.isub, 1) := dk_100 (dk_at dksX0_lot_0 15 rfl rfl)
theorem dX0_lot_16 : decode cX0_lot 16 = .ok (.invokestatic 3, 3) := dk_184 0 3 (dk_at dksX0_lot_0 16 rfl rfl)
theorem dX0_lot_19 : decode cX0_lot 19 = .ok (.ifCond .eq 10, 3) := dk_153 0 10 (dk_at dksX0_lot_0 19 rfl rfl)
theorem dX0_lot_22 : decode cX0_lot 22 = .ok (.aload_n 0, 1) := dk_42 (dk_at dksX0_lot_0 22 rfl rfl)
theorem dX0_lot_23 : decode cX0_lot 23 = .ok (.invokevirtual 368, 3) := dk_182 1 112 (dk_at dksX0_lot_1 0 rfl rfl)
theorem dX0_lot_26 : decode cX0_lot 26 = .ok (.ifCond .ne 5, 3) := dk_154 0 5 (dk_at dksX0_lot_1 3 rfl rfl)
theorem dX0_lot_29 : decode cX0_lot 29 = .ok (.iconst (-1), 1) := dk_2 (dk_at dksX0_lot_1 6 rfl rfl)
theorem dX0_lot_30 : decode cX0_lot 30 = .ok (.ireturn, 1) := dk_172 (dk_at dksX0_lot_1 7 rfl rfl)
theorem dX0_lot_31 : decode cX0_lot 31 = .ok (.lconst 0, 1) := dk_9 (dk_at dksX0_lot_1 8 rfl rfl)
theorem dX0_lot_32 : decode cX0_lot 32 = .ok (.lstore_n 2, 1) := dk_65 (dk_at dksX0_lot_1 9 rfl rfl)
theorem dX0_lot_33 : decode cX0_lot 33 = .ok (.iconst 0, 1) := dk_3 (dk_at dksX0_lot_1 10 rfl rfl)
theorem dX0_lot_34 : decode cX0_lot 34 = .ok (.istore 4, 2) := dk_54 4 (dk_at dksX0_lot_1 11 rfl rfl)
theorem dX0_lot_36 : decode cX0_lot 36 = .ok (.iload 4, 2) := dk_21 4 (dk_at dksX0_lot_1 13 rfl rfl)
theorem dX0_lot_38 : decode cX0_lot 38 = .ok (.bipush 8, 2) := dk_16 8 (dk_at dksX0_lot_1 15 rfl rfl)
theorem dX0_lot_40 : decode cX0_lot 40 = .ok (.if_icmp .ge 19, 3) := dk_162 0 19 (dk_at dksX0_lot_1 17 rfl rfl)
theorem dX0_lot_43 : decode cX0_lot 43 = .ok (.lload_n 2, 1) := dk_32 (dk_at dksX0_lot_1 20 rfl rfl)
theorem dX0_lot_44 : decode cX0_lot 44 = .ok (.aload_n 0, 1) := dk_42 (dk_at dksX0_lot_1 21 rfl rfl)
theorem dX0_lot_45 : decode cX0_lot 45 = .ok (.getfield 88, 3) := dk_180 0 88 (dk_at dksX0_lot_2 0 rfl rfl)
theorem dX0_lot_48 : decode cX0_lot 48 = .ok (.iload 4, 2) := dk_21 4 (dk_at dksX0_lot_2 3 rfl rfl)
theorem dX0_lot_50 : decode cX0_lot 50 = .ok (.laload, 1) := dk_47 (dk_at dksX0_lot_2 5 rfl rfl)
theorem dX0_lot_51 : decode cX0_lot 51 = .ok (.ladd, 1) := dk_97 (dk_at dksX0_lot_2 6 rfl rfl)
theorem dX0_lot_52 : decode cX0_lot 52 = .ok (.lstore_n 2, 1) := dk_65 (dk_at dksX0_lot_2 7 rfl rfl)
theorem dX0_lot_53 : decode cX0_lot 53 = .ok (.iinc 4 1, 3) := dk_132 4 1 (dk_at dksX0_lot_2 8 rfl rfl)
theorem dX0_lot_56 : decode cX0_lot 56 = .ok (.goto (-20), 3) := dk_167 255 236 (dk_at dksX0_lot_2 11 rfl rfl)
theorem dX0_lot_59 : decode cX0_lot 59 = .ok (.iload_n 1, 1) := dk_27 (dk_at dksX0_lot_2 14 rfl rfl)
theorem dX0_lot_60 : decode cX0_lot 60 = .ok (.iconst (-1), 1) := dk_2 (dk_at dksX0_lot_2 15 rfl rfl)
theorem dX0_lot_61 : decode cX0_lot 61 = .ok (.if_icmp .ne 7, 3) := dk_160 0 7 (dk_at dksX0_lot_2 16 rfl rfl)
theorem dX0_lot_64 : decode cX0_lot 64 = .ok (.lload_n 2, 1) := dk_32 (dk_at dksX0_lot_2 19 rfl rfl)
theorem dX0_lot_65 : decode cX0_lot 65 = .ok (.goto 9, 3) := dk_167 0 9 (dk_at dksX0_lot_2 20 rfl rfl)
theorem dX0_lot_68 : decode cX0_lot 68 = .ok (.aload_n 0, 1) := dk_42 (dk_at dksX0_lot_2 23 rfl rfl)
theorem dX0_lot_69 : decode cX0_lot 69 = .ok (.getfield 88, 3) := dk_180 0 88 (dk_at dksX0_lot_3 0 rfl rfl)
theorem dX0_lot_72 : decode cX0_lot 72 = .ok (.iload_n 1, 1) := dk_27 (dk_at dksX0_lot_3 3 rfl rfl)
theorem dX0_lot_73 : decode cX0_lot 73 = .ok (.laload, 1) := dk_47 (dk_at dksX0_lot_3 4 rfl rfl)
theorem dX0_lot_74 : decode cX0_lot 74 = .ok (.l2i, 1) := dk_136 (dk_at dksX0_lot_3 5 rfl rfl)
theorem dX0_lot_75 : decode cX0_lot 75 = .ok (.ireturn, 1) := dk_172 (dk_at dksX0_lot_3 6 rfl rfl)
def dkwX0_findLots_2 : List UInt8 := [132, 2, 2, 167, 255, 214, 3, 172]
abbrev dktX0_findLots_2 : List UInt8 := dkwX0_findLots_2 ++ []
def dkwX0_findLots_1 : List UInt8 := [184, 1, 103, 28, 160, 0, 14, 42, 29, 27, 182, 1, 109, 153, 0, 5, 4, 172, 132, 3, 1, 167, 255, 227]
abbrev dktX0_findLots_1 : List UInt8 := dkwX0_findLots_1 ++ dktX0_findLots_2
def dkwX0_findLots_0 : List UInt8 := [42, 182, 1, 90, 60, 4, 61, 28, 27, 163, 0, 43, 4, 62, 29, 4, 27, 120, 162, 0, 28, 29]
abbrev dktX0_findLots_0 : List UInt8 := dkwX0_findLots_0 ++ dktX0_findLots_1
theorem dksX0_findLots_0 : cX0_findLots.data.toList.drop 0 = dktX0_findLots_0 := by decide +kernel
theorem dksX0_findLots_1 : cX0_findLots.data.toList.drop 22 = dktX0_findLots_1 := dk_seg dksX0_findLots_0 22 rfl rfl
theorem dksX0_findLots_2 : cX0_findLots.data.toList.drop 46 = dktX0_findLots_2 := dk_seg dksX0_findLots_1 24 rfl rfl
theorem dX0_findLots_0 : decode cX0_findLots 0 = .ok (.aload_n 0, 1) := dk_42 (dk_at dksX0_findLots_0 0 rfl rfl)
theorem dX0_findLots_1 : decode cX0_findLots 1 = .ok (.invokevirtual 346, 3) := dk_182 1 90 (dk_at dksX0_findLots_0 1 rfl rfl)
theorem dX0_findLots_4 : decode cX0_findLots 4 = .ok (.istore_n 1, 1) := dk_60 (dk_at dksX0_findLots_0 4 rfl rfl)
theorem dX0_findLots_5 : decode cX0_findLots 5 = .ok (.iconst 1, 1) := dk_4 (dk_at dksX0_findLots_0 5 rfl rfl)
theorem dX0_findLots_6 : decode cX0_findLots 6 = .ok (.istore_n 2, 1) := dk_61 (dk_at dksX0_findLots_0 6 rfl rfl)
theorem dX0_findLots_7 : decode cX0_findLots 7 = .ok (.iload_n 2, 1) := dk_28 (dk_at dksX0_findLots_0 7 rfl rfl)
theorem dX0_findLots_8 : decode cX0_findLots 8 = .ok (.iload_n 1, 1) := dk_27 (dk_at dksX0_findLots_0 8 rfl rfl)
theorem dX0_findLots_9 : decode cX0_findLots 9 = .ok (.if_icmp .gt 43, 3) := dk_163 0 43 (dk_at dksX0_findLots_0 9 rfl rfl)
theorem dX0_findLots_12 : decode cX0_findLots 12 = .ok (.iconst 1, 1) := dk_4 (dk_at dksX0_findLots_0 12 rfl rfl)
theorem dX0_findLots_13 : decode cX0_findLots 13 = .ok (.istore_n 3, 1) := dk_62 (dk_at dksX0_findLots_0 13 rfl rfl)
theorem dX0_findLots_14 : decode cX0_findLots 14 = .ok (.iload_n 3, 1) := dk_29 (dk_at dksX0_findLots_0 14 rfl rfl)
theorem dX0_findLots_15 : decode cX0_findLots 15 = .ok (.iconst 1, 1) := dk_4 (dk_at dksX0_findLots_0 15 rfl rfl)
theorem dX0_findLots_16 : decode cX0_findLots 16 = .ok (.iload_n 1, 1) := dk_27 (dk_at dksX0_findLots_0 16 rfl rfl)
theorem dX0_findLots_17 : decode cX0_findLots 17 = .ok (.ishl, 1) := dk_120 (dk_at dksX0_findLots_0 17 rfl rfl)
theorem dX0_findLots_18 : decode cX0_findLots 18 = .ok (.if_icmp .ge 28, 3) := dk_162 0 28 (dk_at dksX0_findLots_0 18 rfl rfl)
theorem dX0_findLots_21 : decode cX0_findLots 21 = .ok (.iload_n 3, 1) := dk_29 (dk_at dksX0_findLots_0 21 rfl rfl)
theorem dX0_findLots_22 : decode cX0_findLots 22 = .ok (.invokestatic 359, 3) := dk_184 1 103 (dk_at dksX0_findLots_1 0 rfl rfl)
theorem dX0_findLots_25 : decode cX0_findLots 25 = .ok (.iload_n 2, 1) := dk_28 (dk_at dksX0_findLots_1 3 rfl rfl)
theorem dX0_findLots_26 : decode cX0_findLots 26 = .ok (.if_icmp .ne 14, 3) := dk_160 0 14 (dk_at dksX0_findLots_1 4 rfl rfl)
theorem dX0_findLots_29 : decode cX0_findLots 29 = .ok (.aload_n 0, 1) := dk_42 (dk_at dksX0_findLots_1 7 rfl rfl)
theorem dX0_findLots_30 : decode cX0_findLots 30 = .ok (.iload_n 3, 1) := dk_29 (dk_at dksX0_findLots_1 8 rfl rfl)
theorem dX0_findLots_31 : decode cX0_findLots 31 = .ok (.iload_n 1, 1) := dk_27 (dk_at dksX0_findLots_1 9 rfl rfl)
theorem dX0_findLots_32 : decode cX0_findLots 32 = .ok (.invokevirtual 365, 3) := dk_182 1 109 (dk_at dksX0_findLots_1 10 rfl rfl)
theorem dX0_findLots_35 : decode cX0_findLots 35 = .ok (.ifCond .eq 5, 3) := dk_153 0 5 (dk_at dksX0_findLots_1 13 rfl rfl)
theorem dX0_findLots_38 : decode cX0_findLots 38 = .ok (.iconst 1, 1) := dk_4 (dk_at dksX0_findLots_1 16 rfl rfl)
theorem dX0_findLots_39 : decode cX0_findLots 39 = .ok (.ireturn, 1) := dk_172 (dk_at dksX0_findLots_1 17 rfl rfl)
theorem dX0_findLots_40 : decode cX0_findLots 40 = .ok (.iinc 3 1, 3) := dk_132 3 1 (dk_at dksX0_findLots_1 18 rfl rfl)
theorem dX0_findLots_43 : decode cX0_findLots 43 = .ok (.goto (-29), 3) := dk_167 255 227 (dk_at dksX0_findLots_1 21 rfl rfl)
theorem dX0_findLots_46 : decode cX0_findLots 46 = .ok (.iinc 2 2, 3) := dk_132 2 2 (dk_at dksX0_findLots_2 0 rfl rfl)
theorem dX0_findLots_49 : decode cX0_findLots 49 = .ok (.goto (-42), 3) := dk_167 255 214 (dk_at dksX0_findLots_2 3 rfl rfl)
theorem dX0_findLots_52 : decode cX0_findLots 52 = .ok (.iconst 0, 1) := dk_3 (dk_at dksX0_findLots_2 6 rfl rfl)
theorem dX0_findLots_53 : decode cX0_findLots 53 = .ok (.ireturn, 1) := dk_172 (dk_at dksX0_findLots_2 7 rfl rfl)
def dkwX0_isLots_3 : List UInt8 := [167, 255, 198, 4, 172]
abbrev dktX0_isLots_3 : List UInt8 := dkwX0_isLots_3 ++ []
def dkwX0_isLots_2 : List UInt8 := [133, 105, 97, 55, 4, 132, 6, 1, 167, 255, 224, 22, 4, 9, 148, 158, 0, 5, 3, 172, 132, 3, 1]
abbrev dktX0_isLots_2 : List UInt8 := dkwX0_isLots_2 ++ dktX0_isLots_3
def dkwX0_isLots_1 : List UInt8 := [21, 6, 28, 162, 0, 32, 22, 4, 42, 180, 0, 88, 21, 6, 47, 42, 180, 0, 82, 29, 50, 21, 6, 46]
abbrev dktX0_isLots_1 : List UInt8 := dkwX0_isLots_1 ++ dktX0_isLots_2
def dkwX0_isLots_0 : List UInt8 := [42, 27, 182, 1, 106, 154, 0, 5, 3, 172, 3, 62, 29, 28, 162, 0, 59, 9, 55, 4, 3, 54, 6]
abbrev dktX0_isLots_0 : List UInt8 := dkwX0_isLots_0 ++ dktX0_isLots_1
theorem dksX0_isLots_0 : cX0_isLots.data.toList.drop 0 = dktX0_isLots_0 := by decide +kernel
theorem dksX0_isLots_1 : cX0_isLots.data.toList.drop 23 = dktX0_isLots_1 := dk_seg dksX0_isLots_0 23 rfl rfl
theorem dksX0_isLots_2 : cX0_isLots.data.toList.drop 47 = dktX0_isLots_2 := dk_seg dksX0_isLots_1 24 rfl rfl
theorem dksX0_isLots_3 : cX0_isLots.data.toList.drop 70 = dktX0_isLots_3 := dk_seg dksX0_isLots_2 23 rfl rfl
theorem dX0_isLots_0 : decode cX0_isLots 0 = .ok (.aload_n 0, 1) := dk_42 (dk_at dksX0_isLots_0 0 rfl rfl)
theorem dX0_isLots_1 : decode cX0_isLots 1 = .ok (.iload_n 1, 1) := dk_27 (dk_at dksX0_isLots_0 1 rfl rfl)
theorem dX0_isLots_2 : decode cX0_isLots 2 = .ok (.invokevirtual 362, 3) := dk_182 1 106 (dk_at dksX0_isLots_0 2 rfl rfl)
theorem dX0_isLots_5 : decode cX0_isLots 5 = .ok (.ifCond .ne 5, 3) := dk_154 0 5 (dk_at dksX0_isLots_0 5 rfl rfl)
theorem dX0_isLots_8 : decode cX0_isLots 8 = .ok (.iconst 0, 1) := dk_3 (dk_at dksX0_isLots_0 8 rfl rfl)
theorem dX0_isLots_9 : decode cX0_isLots 9 = .ok (.ireturn, 1) := dk_172 (dk_at dksX0_isLots_0 9 rfl rfl)
theorem dX0_isLots_10 : decode cX0_isLots 10 = .ok (.iconst 0, 1) := dk_3 (dk_at dksX0_isLots_0 10 rfl rfl)
theorem dX0_isLots_11 : decode cX0_isLots 11 = .ok (.istore_n 3, 1) := dk_62 (dk_at dksX0_isLots_0 11 rfl rfl)
theorem dX0_isLots_12 : decode cX0_isLots 12 = .ok (.iload_n 3, 1) := dk_29 (dk_at dksX0_isLots_0 12 rfl rfl)
theorem dX0_isLots_13 : decode cX0_isLots 13 = .ok (.iload_n 2, 1) := dk_28 (dk_at dksX0_isLots_0 13 rfl rfl)
theorem dX0_isLots_14 : decode cX0_isLots 14 = .ok (.if_icmp .ge 59, 3) := dk_162 0 59 (dk_at dksX0_isLots_0 14 rfl rfl)
theorem dX0_isLots_17 : decode cX0_isLots 17 = .ok (.lconst 0, 1) := dk_9 (dk_at dksX0_isLots_0 17 rfl rfl)
theorem dX0_isLots_18 : decode cX0_isLots 18 = .ok (.lstore 4, 2) := dk_55 4 (dk_at dksX0_isLots_0 18 rfl rfl)
theorem dX0_isLots_20 : decode cX0_isLots 20 = .ok (.iconst 0, 1) := dk_3 (dk_at dksX0_isLots_0 20 rfl rfl)
theorem dX0_isLots_21 : decode cX0_isLots 21 = .ok (.istore 6, 2) := dk_54 6 (dk_at dksX0_isLots_0 21 rfl rfl)
theorem dX0_isLots_23 : decode cX0_isLots 23 = .ok (.iload 6, 2) := dk_21 6 (dk_at dksX0_isLots_1 0 rfl rfl)
theorem dX0_isLots_25 : decode cX0_isLots 25 = .ok (.iload_n 2, 1) := dk_28 (dk_at dksX0_isLots_1 2 rfl rfl)
theorem dX0_isLots_26 : decode cX0_isLots 26 = .ok (.if_icmp .ge 32, 3) := dk_162 0 32 (dk_at dksX0_isLots_1 3 rfl rfl)
theorem dX0_isLots_29 : decode cX0_isLots 29 = .ok (.lload 4, 2) := dk_22 4 (dk_at dksX0_isLots_1 6 rfl rfl)
theorem dX0_isLots_31 : decode cX0_isLots 31 = .ok (.aload_n 0, 1) := dk_42 (dk_at dksX0_isLots_1 8 rfl rfl)
theorem dX0_isLots_32 : decode cX0_isLots 32 = .ok (.getfield 88, 3) := dk_180 0 88 (dk_at dksX0_isLots_1 9 rfl rfl)
theorem dX0_isLots_35 : decode cX0_isLots 35 = .ok (.iload 6, 2) := dk_21 6 (dk_at dksX0_isLots_1 12 rfl rfl)
theorem dX0_isLots_37 : decode cX0_isLots 37 = .ok (.laload, 1) := dk_47 (dk_at dksX0_isLots_1 14 rfl rfl)
theorem dX0_isLots_38 : decode cX0_isLots 38 = .ok (.aload_n 0, 1) := dk_42 (dk_at dksX0_isLots_1 15 rfl rfl)
theorem dX0_isLots_39 : decode cX0_isLots 39 = .ok (.getfield 82, 3) := dk_180 0 82 (dk_at dksX0_isLots_1 16 rfl rfl)
theorem dX0_isLots_42 : decode cX0_isLots 42 = .ok (.iload_n 3, 1) := dk_29 (dk_at dksX0_isLots_1 19 rfl rfl)
theorem dX0_isLots_43 : decode cX0_isLots 43 = .ok (.aaload, 1) := dk_50 (dk_at dksX0_isLots_1 20 rfl rfl)
theorem dX0_isLots_44 : decode cX0_isLots 44 = .ok (.iload 6, 2) := dk_21 6 (dk_at dksX0_isLots_1 21 rfl rfl)
theorem dX0_isLots_46 : decode cX0_isLots 46 = .ok (.iaload, 1) := dk_46 (dk_at dksX0_isLots_1 23 rfl rfl)
theorem dX0_isLots_47 : decode cX0_isLots 47 = .ok (.i2l, 1) := dk_133 (dk_at dksX0_isLots_2 0 rfl rfl)
theorem dX0_isLots_48 : decode cX0_isLots 48 = .ok (.lmul, 1) := dk_105 (dk_at dksX0_isLots_2 1 rfl rfl)
theorem dX0_isLots_49 : decode cX0_isLots 49 = .ok (.ladd, 1) := dk_97 (dk_at dksX0_isLots_2 2 rfl rfl)
theorem dX0_isLots_50 : decode cX0_isLots 50 = .ok (.lstore 4, 2) := dk_55 4 (dk_at dksX0_isLots_2 3 rfl rfl)
theorem dX0_isLots_52 : decode cX0_isLots 52 = .ok (.iinc 6 1, 3) := dk_132 6 1 (dk_at dksX0_isLots_2 5 rfl rfl)
theorem dX0_isLots_55 : decode cX0_isLots 55 = .ok (.goto (-32), 3) := dk_167 255 224 (dk_at dksX0_isLots_2 8 rfl rfl)
theorem dX0_isLots_58 : decode cX0_isLots 58 = .ok (.lload 4, 2) := dk_22 4 (dk_at dksX0_isLots_2 11 rfl rfl)
theorem dX0_isLots_60 : decode cX0_isLots 60 = .ok (.lconst 0, 1) := dk_9 (dk_at dksX0_isLots_2 13 rfl rfl)
theorem dX0_isLots_61 : decode cX0_isLots 61 = .ok (.lcmp, 1) := dk_148 (dk_at dksX0_isLots_2 14 rfl rfl)
theorem dX0_isLots_62 : decode cX0_isLots 62 = .ok (.ifCond .le 5, 3) := dk_158 0 5 (dk_at dksX0_isLots_2 15 rfl rfl)
theorem dX0_isLots_65 : decode cX0_isLots 65 = .ok (.iconst 0, 1) := dk_3 (dk_at dksX0_isLots_2 18 rfl rfl)
theorem dX0_isLots_66 : decode cX0_isLots 66 = .ok (.ireturn, 1) := dk_172 (dk_at dksX0_isLots_2 19 rfl rfl)
theorem dX0_isLots_67 : decode cX0_isLots 67 = .ok (.iinc 3 1, 3) := dk_132 3 1 (dk_at dksX0_isLots_2 20 rfl rfl)
theorem dX0_isLots_70 : decode cX0_isLots 70 = .ok (.goto (-58), 3) := dk_167 255 198 (dk_at dksX0_isLots_3 0 rfl rfl)
theorem dX0_isLots_73 : decode cX0_isLots 73 = .ok (.iconst 1, 1) := dk_4 (dk_at dksX0_isLots_3 3 rfl rfl)
theorem dX0_isLots_74 : decode cX0_isLots 74 = .ok (.ireturn, 1) := dk_172 (dk_at dksX0_isLots_3 4 rfl rfl)
def dkwX0_hasShares_8 : List UInt8 := [167, 255, 226, 4, 172]
abbrev dktX0_hasShares_8 : List UInt8 := dkwX0_hasShares_8 ++ []
def dkwX0_hasShares_7 : List UInt8 := [42, 180, 0, 88, 21, 8, 42, 180, 0, 88, 21, 8, 47, 184, 0, 7, 22, 4, 109, 80, 132, 8, 1]
abbrev dktX0_hasShares_7 : List UInt8 := dkwX0_hasShares_7 ++ dktX0_hasShares_8
def dkwX0_hasShares_6 : List UInt8 := [159, 0, 14, 21, 7, 27, 184, 1, 103, 159, 0, 5, 3, 172, 3, 54, 8, 21, 8, 16, 8, 162, 0, 29]
abbrev dktX0_hasShares_6 : List UInt8 := dkwX0_hasShares_6 ++ dktX0_hasShares_7
def dkwX0_hasShares_5 : List UInt8 := [180, 0, 88, 21, 8, 47, 184, 1, 51, 55, 4, 132, 8, 1, 167, 255, 144, 21, 6, 27, 184, 1, 103]
abbrev dktX0_hasShares_5 : List UInt8 := dkwX0_hasShares_5 ++ dktX0_hasShares_6
def dkwX0_hasShares_4 : List UInt8 := [180, 0, 88, 21, 8, 47, 9, 148, 156, 0, 7, 4, 167, 0, 4, 3, 96, 54, 7, 22, 4, 42]
abbrev dktX0_hasShares_4 : List UInt8 := dkwX0_hasShares_4 ++ dktX0_hasShares_5
def dkwX0_hasShares_3 : List UInt8 := [180, 0, 88, 21, 8, 47, 9, 148, 158, 0, 7, 4, 167, 0, 4, 3, 96, 54, 6, 21, 7, 42]
abbrev dktX0_hasShares_3 : List UInt8 := dkwX0_hasShares_3 ++ dktX0_hasShares_4
def dkwX0_hasShares_2 : List UInt8 := [21, 8, 32, 42, 27, 4, 21, 8, 120, 2, 130, 126, 182, 1, 99, 105, 80, 32, 117, 65, 21, 6, 42]
abbrev dktX0_hasShares_2 : List UInt8 := dkwX0_hasShares_2 ++ dktX0_hasShares_3
def dkwX0_hasShares_1 : List UInt8 := [180, 0, 88, 21, 8, 9, 80, 27, 21, 8, 122, 4, 126, 154, 0, 6, 167, 0, 85, 42, 180, 0, 88]
abbrev dktX0_hasShares_1 : List UInt8 := dkwX0_hasShares_1 ++ dktX0_hasShares_2
def dkwX0_hasShares_0 : List UInt8 := [10, 65, 9, 55, 4, 3, 54, 6, 3, 54, 7, 3, 54, 8, 21, 8, 16, 8, 162, 0, 111, 42]
abbrev dktX0_hasShares_0 : List UInt8 := dkwX0_hasShares_0 ++ dktX0_hasShares_1
theorem dksX0_hasShares_0 : cX0_hasShares.data.toList.drop 0 = dktX0_hasShares_0 := by decide +kernel
theorem dksX0_hasShares_1 : cX0_hasShares.data.toList.drop 22 = dktX0_hasShares_1 := dk_seg dksX0_hasShares_0 22 rfl rfl
theorem dksX0_hasShares_2 : cX0_hasShares.data.toList.drop 45 = dktX0_hasShares_2 := dk_seg dksX0_hasShares_1 23 rfl rfl
theorem dksX0_hasShares_3 : cX0_hasShares.data.toList.drop 68 = dktX0_hasShares_3 := dk_seg dksX0_hasShares_2 23 rfl rfl
theorem dksX0_hasShares_4 : cX0_hasShares.data.toList.drop 90 = dktX0_hasShares_4 := dk_seg dksX0_hasShares_3 22 rfl rfl
theorem dksX0_hasShares_5 : cX0_hasShares.data.toList.drop 112 = dktX0_hasShares_5 := dk_seg dksX0_hasShares_4 22 rfl rfl
theorem dksX0_hasShares_6 : cX0_hasShares.data.toList.drop 135 = dktX0_hasShares_6 := dk_seg dksX0_hasShares_5 23 rfl rfl
theorem dksX0_hasShares_7 : cX0_hasShares.data.toList.drop 159 = dktX0_hasShares_7 := dk_seg dksX0_hasShares_6 24 rfl rfl
theorem dksX0_hasShares_8 : cX0_hasShares.data.toList.drop 182 = dktX0_hasShares_8 := dk_seg dksX0_hasShares_7 23 rfl rfl
theorem dX0_hasShares_0 : decode cX0_hasShares 0 = .ok (.lconst 1, 1) := dk_10 (dk_at dksX0_hasShares_0 0 rfl rfl)
theorem dX0_hasShares_1 : decode cX0_hasShares 1 = .ok (.lstore_n 2, 1) := dk_65 (dk_at dksX0_hasShares_0 1 rfl rfl)
theorem dX0_hasShares_2 : decode cX0_hasShares 2 = .ok (.lconst 0, 1) := dk_9 (dk_at dksX0_hasShares_0 2 rfl rfl)
theorem dX0_hasShares_3 : decode cX0_hasShares 3 = .ok (.lstore 4, 2) := dk_55 4 (dk_at dksX0_hasShares_0 3 rfl rfl)
theorem dX0_hasShares_5 : decode cX0_hasShares 5 = .ok (.iconst 0, 1) := dk_3 (dk_at dksX0_hasShares_0 5 rfl rfl)
theorem dX0_hasShares_6 : decode cX0_hasShares 6 = .ok (.istore 6, 2) := dk_54 6 (dk_at dksX0_hasShares_0 6 rfl rfl)
theorem dX0_hasShares_8 : decode cX0_hasShares 8 = .ok (.iconst 0, 1) := dk_3 (dk_at dksX0_hasShares_0 8 rfl rfl)
theorem dX0_hasShares_9 : decode cX0_hasShares 9 = .ok (.istore 7, 2) := dk_54 7 (dk_at dksX0_hasShares_0 9 rfl rfl)
theorem dX0_hasShares_11 : decode cX0_hasShares 11 = .ok (.iconst 0, 1) := dk_3 (dk_at dksX0_hasShares_0 11 rfl rfl)
theorem dX0_hasShares_12 : decode cX0_hasShares 12 = .ok (.istore 8, 2) := dk_54 8 (dk_at dksX0_hasShares_0 12 rfl rfl)
theorem dX0_hasShares_14 : decode cX0_hasShares 14 = .ok (.iload 8, 2) := dk_21 8 (dk_at dksX0_hasShares_0 14 rfl rfl)
theorem dX0_hasShares_16 : decode cX0_hasShares 16 = .ok (.bipush 8, 2) := dk_16 8 (dk_at dksX0_hasShares_0 16 rfl rfl)
theorem dX0_hasShares_18 : decode cX0_hasShares 18 = .ok (.if_icmp .ge 111, 3) := dk_162 0 111 (dk_at dksX0_hasShares_0 18 rfl rfl)
theorem dX0_hasShares_21 : decode cX0_hasShares 21 = .ok (.aload_n 0, 1) := dk_42 (dk_at dksX0_hasShares_0 21 rfl rfl)
theorem dX0_hasShares_22 : decode cX0_hasShares 22 = .ok (.getfield 88, 3) := dk_180 0 88 (dk_at dksX0_hasShares_1 0 rfl rfl)
theorem dX0_hasShares_25 : decode cX0_hasShares 25 = .ok (.iload 8, 2) := dk_21 8 (dk_at dksX0_hasShares_1 3 rfl rfl)
theorem dX0_hasShares_27 : decode cX0_hasShares 27 = .ok (.lconst 0, 1) := dk_9 (dk_at dksX0_hasShares_1 5 rfl rfl)
theorem dX0_hasShares_28 : decode cX0_hasShares 28 = .ok (.lastore, 1) := dk_80 (dk_at dksX0_hasShares_1 6 rfl rfl)
theorem dX0_hasShares_29 : decode cX0_hasShares 29 = .ok (.iload_n 1, 1) := dk_27 (dk_at dksX0_hasShares_1 7 rfl rfl)
theorem dX0_hasShares_30 : decode cX0_hasShares 30 = .ok (.iload 8, 2) := dk_21 8 (dk_at dksX0_hasShares_1 8 rfl rfl)
theorem dX0_hasShares_32 : decode cX0_hasShares 32 = .ok (.ishr, 1) := dk_122 (dk_at dksX0_hasShares_1 10 rfl rfl)
theorem dX0_hasShares_33 : decode cX0_hasShares 33 = .ok (.iconst 1, 1) := dk_4 (dk_at dksX0_hasShares_1 11 rfl rfl)
theorem dX0_hasShares_34 : decode cX0_hasShares 34 = .ok (.iand, 1) := dk_126 (dk_at dksX0_hasShares_1 12 rfl rfl)
theorem dX0_hasShares_35 : decode cX0_hasShares 35 = .ok (.ifCond .ne 6, 3) := dk_154 0 6 (dk_at dksX0_hasShares_1 13 rfl rfl)
theorem dX0_hasShares_38 : decode cX0_hasShares 38 = .ok (.goto 85, 3) := dk_167 0 85 (dk_at dksX0_hasShares_1 16 rfl rfl)
theorem dX0_hasShares_41 : decode cX0_hasShares 41 = .ok (.aload_n 0, 1) := dk_42 (dk_at dksX0_hasShares_1 19 rfl rfl)
theorem dX0_hasShares_42 : decode cX0_hasShares 42 = .ok (.getfield 88, 3) := dk_180 0 88 (dk_at dksX0_hasShares_1 20 rfl rfl)
theorem dX0_hasShares_45 : decode cX0_hasShares 45 = .ok (.iload 8, 2) := dk_21 8 (dk_at dksX0_hasShares_2 0 rfl rfl)
theorem dX0_hasShares_47 : decode cX0_hasShares 47 = .ok (.lload_n 2, 1) := dk_32 (dk_at dksX0_hasShares_2 2 rfl rfl)
theorem dX0_hasShares_48 : decode cX0_hasShares 48 = .ok (.aload_n 0, 1) := dk_42 (dk_at dksX0_hasShares_2 3 rfl rfl)
theorem dX0_hasShares_49 : decode cX0_hasShares 49 = .ok (.iload_n 1, 1) := dk_27 (dk_at dksX0_hasShares_2 4 rfl rfl)
theorem dX0_hasShares_50 : decode cX0_hasShares 50 = .ok (.iconst 1, 1) := dk_4 (dk_at dksX0_hasShares_2 5 rfl rfl)
theorem dX0_hasShares_51 : decode cX0_hasShares 51 = .ok (.iload 8, 2) := dk_21 8 (dk_at dksX0_hasShares_2 6 rfl rfl)
theorem dX0_hasShares_53 : decode cX0_hasShares 53 = .ok (.ishl, 1) := dk_120 (dk_at dksX0_hasShares_2 8 rfl rfl)
theorem dX0_hasShares_54 : decode cX0_hasShares 54 = .ok (.iconst (-1), 1) := dk_2 (dk_at dksX0_hasShares_2 9 rfl rfl)
theorem dX0_hasShares_55 : decode cX0_hasShares 55 = .ok (.ixor, 1) := dk_130 (dk_at dksX0_hasShares_2 10 rfl rfl)
theorem dX0_hasShares_56 : decode cX0_hasShares 56 = .ok (.iand, 1) := dk_126 (dk_at dksX0_hasShares_2 11 rfl rfl)
theorem dX0_hasShares_57 : decode cX0_hasShares 57 = .ok (.invokevirtual 355, 3) := dk_182 1 99 (dk_at dksX0_hasShares_2 12 rfl rfl)
theorem dX0_hasShares_60 : decode cX0_hasShares 60 = .ok (.lmul, 1) := dk_105 (dk_at dksX0_hasShares_2 15 rfl rfl)
theorem dX0_hasShares_61 : decode cX0_hasShares 61 = .ok (.lastore, 1) := dk_80 (dk_at dksX0_hasShares_2 16 rfl rfl)
theorem dX0_hasShares_62 : decode cX0_hasShares 62 = .ok (.lload_n 2, 1) := dk_32 (dk_at dksX0_hasShares_2 17 rfl rfl)
theorem dX0_hasShares_63 : decode cX0_hasShares 63 = .ok (.lneg, 1) := dk_117 (dk_at dksX0_hasShares_2 18 rfl rfl)
theorem dX0_hasShares_64 : decode cX0_hasShares 64 = .ok (.lstore_n 2, 1) := dk_65 (dk_at dksX0_hasShares_2 19 rfl rfl)
theorem dX0_hasShares_65 : decode cX0_hasShares 65 = .ok (.iload 6, 2) := dk_21 6 (dk_at dksX0_hasShares_2 20 rfl rfl)
theorem dX0_hasShares_67 : decode cX0_hasShares 67 = .ok (.aload_n 0, 1) := dk_42 (dk_at dksX0_hasShares_2 22 rfl rfl)
theorem dX0_hasShares_68 : decode cX0_hasShares 68 = .ok (.getfield 88, 3) := dk_180 0 88 (dk_at dksX0_hasShares_3 0 rfl rfl)
theorem dX0_hasShares_71 : decode cX0_hasShares 71 = .ok (.iload 8, 2) := dk_21 8 (dk_at dksX0_hasShares_3 3 rfl rfl)
theorem dX0_hasShares_73 : decode cX0_hasShares 73 = .ok (.laload, 1) := dk_47 (dk_at dksX0_hasShares_3 5 rfl rfl)
theorem dX0_hasShares_74 : decode cX0_hasShares 74 = .ok (.lconst 0, 1) := dk_9 (dk_at dksX0_hasShares_3 6 rfl rfl)
theorem dX0_hasShares_75 : decode cX0_hasShares 75 = .ok (.lcmp, 1) := dk_148 (dk_at dksX0_hasShares_3 7 rfl rfl)
theorem dX0_hasShares_76 : decode cX0_hasShares 76 = .ok (.ifCond .le 7, 3) := dk_158 0 7 (dk_at dksX0_hasShares_3 8 rfl rfl)
theorem dX0_hasShares_79 : decode cX0_hasShares 79 = .ok (.iconst 1, 1) := dk_4 (dk_at dksX0_hasShares_3 11 rfl rfl)
theorem dX0_hasShares_80 : decode cX0_hasShares 80 = .ok (.goto 4, 3) := dk_167 0 4 (dk_at dksX0_hasShares_3 12 rfl rfl)
theorem dX0_hasShares_83 : decode cX0_hasShares 83 = .ok (.iconst 0, 1) := dk_3 (dk_at dksX0_hasShares_3 15 rfl rfl)
theorem dX0_hasShares_84 : decode cX0_hasShares 84 = .ok (.iadd, 1) := dk_96 (dk_at dksX0_hasShares_3 16 rfl rfl)
theorem dX0_hasShares_85 : decode cX0_hasShares 85 = .ok (.istore 6, 2) := dk_54 6 (dk_at dksX0_hasShares_3 17 rfl rfl)
theorem dX0_hasShares_87 : decode cX0_hasShares 87 = .ok (.iload 7, 2) := dk_21 7 (dk_at dksX0_hasShares_3 19 rfl rfl)
theorem dX0_hasShares_89 : decode cX0_hasShares 89 = .ok (.aload_n 0, 1) := dk_42 (dk_at dksX0_hasShares_3 21 rfl rfl)
theorem dX0_hasShares_90 : decode cX0_hasShares 90 = .ok (.getfield 88, 3) := dk_180 0 88 (dk_at dksX0_hasShares_4 0 rfl rfl)
theorem dX0_hasShares_93 : decode cX0_hasShares 93 = .ok (.iload 8, 2) := dk_21 8 (dk_at dksX0_hasShares_4 3 rfl rfl)
theorem dX0_hasShares_95 : decode cX0_hasShares 95 = .ok (.laload, 1) := dk_47 (dk_at dksX0_hasShares_4 5 rfl rfl)
theorem dX0_hasShares_96 : decode cX0_hasShares 96 = .ok (.lconst 0, 1) := dk_9 (dk_at dksX0_hasShares_4 6 rfl rfl)
theorem dX0_hasShares_97 : decode cX0_hasShares 97 = .ok (.lcmp, 1) := dk_148 (dk_at dksX0_hasShares_4 7 rfl rfl)
theorem dX0_hasShares_98 : decode cX0_hasShares 98 = .ok (.ifCond .ge 7, 3) := dk_156 0 7 (dk_at dksX0_hasShares_4 8 rfl rfl)
theorem dX0_hasShares_101 : decode cX0_hasShares 101 = .ok (.iconst 1, 1) := dk_4 (dk_at dksX0_hasShares_4 11 rfl rfl)
theorem dX0_hasShares_102 : decode cX0_hasShares 102 = .ok (.goto 4, 3) := dk_167 0 4 (dk_at dksX0_hasShares_4 12 rfl rfl)
theorem dX0_hasShares_105 : decode cX0_hasShares 105 = .ok (.iconst 0, 1) := dk_3 (dk_at dksX0_hasShares_4 15 rfl rfl)
theorem dX0_hasShares_106 : decode cX0_hasShares 106 = .ok (.iadd, 1) := dk_96 (dk_at dksX0_hasShares_4 16 rfl rfl)
theorem dX0_hasShares_107 : decode cX0_hasShares 107 = .ok (.istore 7, 2) := dk_54 7 (dk_at dksX0_hasShares_4 17 rfl rfl)
theorem dX0_hasShares_109 : decode cX0_hasShares 109 = .ok (.lload 4, 2) := dk_22 4 (dk_at dksX0_hasShares_4 19 rfl rfl)
theorem dX0_hasShares_111 : decode cX0_hasShares 111 = .ok (.aload_n 0, 1) := dk_42 (dk_at dksX0_hasShares_4 21 rfl rfl)
theorem dX0_hasShares_112 : decode cX0_hasShares 112 = .ok (.getfield 88, 3) := dk_180 0 88 (dk_at dksX0_hasShares_5 0 rfl rfl)
theorem dX0_hasShares_115 : decode cX0_hasShares 115 = .ok (.iload 8, 2) := dk_21 8 (dk_at dksX0_hasShares_5 3 rfl rfl)
theorem dX0_hasShares_117 : decode cX0_hasShares 117 = .ok (.laload, 1) := dk_47 (dk_at dksX0_hasShares_5 5 rfl rfl)
theorem dX0_hasShares_118 : decode cX0_hasShares 118 = .ok (.invokestatic 307, 3) := dk_184 1 51 (dk_at dksX0_hasShares_5 6 rfl rfl)
theorem dX0_hasShares_121 : decode cX0_hasShares 121 = .ok (.lstore 4, 2) := dk_55 4 (dk_at dksX0_hasShares_5 9 rfl rfl)
theorem dX0_hasShares_123 : decode cX0_hasShares 123 = .ok (.iinc 8 1, 3) := dk_132 8 1 (dk_at dksX0_hasShares_5 11 rfl rfl)
theorem dX0_hasShares_126 : decode cX0_hasShares 126 = .ok (.goto (-112), 3) := dk_167 255 144 (dk_at dksX0_hasShares_5 14 rfl rfl)
theorem dX0_hasShares_129 : decode cX0_hasShares 129 = .ok (.iload 6, 2) := dk_21 6 (dk_at dksX0_hasShares_5 17 rfl rfl)
theorem dX0_hasShares_131 : decode cX0_hasShares 131 = .ok (.iload_n 1, 1) := dk_27 (dk_at dksX0_hasShares_5 19 rfl rfl)
theorem dX0_hasShares_132 : decode cX0_hasShares 132 = .ok (.invokestatic 359, 3) := dk_184 1 103 (dk_at dksX0_hasShares_5 20 rfl rfl)
theorem dX0_hasShares_135 : decode cX0_hasShares 135 = .ok (.if_icmp .eq 14, 3) := dk_159 0 14 (dk_at dksX0_hasShares_6 0 rfl rfl)
theorem dX0_hasShares_138 : decode cX0_hasShares 138 = .ok (.iload 7, 2) := dk_21 7 (dk_at dksX0_hasShares_6 3 rfl rfl)
theorem dX0_hasShares_140 : decode cX0_hasShares 140 = .ok (.iload_n 1, 1) := dk_27 (dk_at dksX0_hasShares_6 5 rfl rfl)
theorem dX0_hasShares_141 : decode cX0_hasShares 141 = .ok (.invokestatic 359, 3) := dk_184 1 103 (dk_at dksX0_hasShares_6 6 rfl rfl)
theorem dX0_hasShares_144 : decode cX0_hasShares 144 = .ok (.if_icmp .eq 5, 3) := dk_159 0 5 (dk_at dksX0_hasShares_6 9 rfl rfl)
theorem dX0_hasShares_147 : decode cX0_hasShares 147 = .ok (.iconst 0, 1) := dk_3 (dk_at dksX0_hasShares_6 12 rfl rfl)
theorem dX0_hasShares_148 : decode cX0_hasShares 148 = .ok (.ireturn, 1) := dk_172 (dk_at dksX0_hasShares_6 13 rfl rfl)
theorem dX0_hasShares_149 : decode cX0_hasShares 149 = .ok (.iconst 0, 1) := dk_3 (dk_at dksX0_hasShares_6 14 rfl rfl)
theorem dX0_hasShares_150 : decode cX0_hasShares 150 = .ok (.istore 8, 2) := dk_54 8 (dk_at dksX0_hasShares_6 15 rfl rfl)
theorem dX0_hasShares_152 : decode cX0_hasShares 152 = .ok (.iload 8, 2) := dk_21 8 (dk_at dksX0_hasShares_6 17 rfl rfl)
theorem dX0_hasShares_154 : decode cX0_hasShares 154 = .ok (.bipush 8, 2) := dk_16 8 (dk_at dksX0_hasShares_6 19 rfl rfl)
theorem dX0_hasShares_156 : decode cX0_hasShares 156 = .ok (.if_icmp .ge 29, 3) := dk_162 0 29 (dk_at dksX0_hasShares_6 21 rfl rfl)
theorem dX0_hasShares_159 : decode cX0_hasShares 159 = .ok (.aload_n 0, 1) := dk_42 (dk_at dksX0_hasShares_7 0 rfl rfl)
theorem dX0_hasShares_160 : decode cX0_hasShares 160 = .ok (.getfield 88, 3) := dk_180 0 88 (dk_at dksX0_hasShares_7 1 rfl rfl)
theorem dX0_hasShares_163 : decode cX0_hasShares 163 = .ok (.iload 8, 2) := dk_21 8 (dk_at dksX0_hasShares_7 4 rfl rfl)
theorem dX0_hasShares_165 : decode cX0_hasShares 165 = .ok (.aload_n 0, 1) := dk_42 (dk_at dksX0_hasShares_7 6 rfl rfl)
theorem dX0_hasShares_166 : decode cX0_hasShares 166 = .ok (.getfield 88, 3) := dk_180 0 88 (dk_at dksX0_hasShares_7 7 rfl rfl)
theorem dX0_hasShares_169 : decode cX0_hasShares 169 = .ok (.iload 8, 2) := dk_21 8 (dk_at dksX0_hasShares_7 10 rfl rfl)
theorem dX0_hasShares_171 : decode cX0_hasShares 171 = .ok (.laload, 1) := dk_47 (dk_at dksX0_hasShares_7 12 rfl rfl)
theorem dX0_hasShares_172 : decode cX0_hasShares 172 = .ok (.invokestatic 7, 3) := dk_184 0 7 (dk_at dksX0_hasShares_7 13 rfl rfl)
theorem dX0_hasShares_175 : decode cX0_hasShares 175 = .ok (.lload 4, 2) := dk_22 4 (dk_at dksX0_hasShares_7 16 rfl rfl)
theorem dX0_hasShares_177 : decode cX0_hasShares 177 = .ok (.ldiv, 1) := dk_109 (dk_at dksX0_hasShares_7 18 rfl rfl)
theorem dX0_hasShares_178 : decode cX0_hasShares 178 = .ok (.lastore, 1) := dk_80 (dk_at dksX0_hasShares_7 19 rfl rfl)
theorem dX0_hasShares_179 : decode cX0_hasShares 179 = .ok (.iinc 8 1, 3) := dk_132 8 1 (dk_at dksX0_hasShares_7 20 rfl rfl)
theorem dX0_hasShares_182 : decode cX0_hasShares 182 = .ok (.goto (-30), 3) := dk_167 255 226 (dk_at dksX0_hasShares_8 0 rfl rfl)
theorem dX0_hasShares_185 : decode cX0_hasShares 185 = .ok (.iconst 1, 1) := dk_4 (dk_at dksX0_hasShares_8 3 rfl rfl)
theorem dX0_hasShares_186 : decode cX0_hasShares 186 = .ok (.ireturn, 1) := dk_172 (dk_at dksX0_hasShares_8 4 rfl rfl)
def dkwX0_pairs_4 : List UInt8 := [132, 8, 1, 167, 255, 186, 22, 4, 173]
abbrev dktX0_pairs_4 : List UInt8 := dkwX0_pairs_4 ++ []
def dkwX0_pairs_3 : List UInt8 := [133, 105, 42, 29, 4, 21, 8, 120, 2, 130, 126, 182, 1, 99, 105, 97, 55, 4, 22, 6, 117, 55, 6]
abbrev dktX0_pairs_3 : List UInt8 := dkwX0_pairs_3 ++ dktX0_pairs_4
def dkwX0_pairs_2 : List UInt8 := [180, 0, 82, 28, 50, 21, 8, 46, 153, 0, 34, 22, 4, 22, 6, 42, 180, 0, 82, 28, 50, 21, 8, 46]
abbrev dktX0_pairs_2 : List UInt8 := dkwX0_pairs_2 ++ dktX0_pairs_3
def dkwX0_pairs_1 : List UInt8 := [4, 96, 54, 8, 21, 8, 16, 8, 162, 0, 69, 29, 21, 8, 122, 4, 126, 154, 0, 6, 167, 0, 51, 42]
abbrev dktX0_pairs_1 : List UInt8 := dkwX0_pairs_1 ++ dktX0_pairs_2
def dkwX0_pairs_0 : List UInt8 := [27, 154, 0, 5, 10, 173, 27, 184, 1, 93, 61, 27, 27, 4, 100, 126, 62, 9, 55, 4, 10, 55, 6, 28]
abbrev dktX0_pairs_0 : List UInt8 := dkwX0_pairs_0 ++ dktX0_pairs_1
theorem dksX0_pairs_0 : cX0_pairs.data.toList.drop 0 = dktX0_pairs_0 := by decide +kernel
theorem dksX0_pairs_1 : cX0_pairs.data.toList.drop 24 = dktX0_pairs_1 := dk_seg dksX0_pairs_0 24 rfl rfl
theorem dksX0_pairs_2 : cX0_pairs.data.toList.drop 48 = dktX0_pairs_2 := dk_seg dksX0_pairs_1 24 rfl rfl
theorem dksX0_pairs_3 : cX0_pairs.data.toList.drop 72 = dktX0_pairs_3 := dk_seg dksX0_pairs_2 24 rfl rfl
theorem dksX0_pairs_4 : cX0_pairs.data.toList.drop 95 = dktX0_pairs_4 := dk_seg dksX0_pairs_3 23 rfl rfl
theorem dX0_pairs_0 : decode cX0_pairs 0 = .ok (.iload_n 1, 1) := dk_27 (dk_at dksX0_pairs_0 0 rfl rfl)
theorem dX0_pairs_1 : decode cX0_pairs 1 = .ok (.ifCond .ne 5, 3) := dk_154 0 5 (dk_at dksX0_pairs_0 1 rfl rfl)
theorem dX0_pairs_4 : decode cX0_pairs 4 = .ok (.lconst 1, 1) := dk_10 (dk_at dksX0_pairs_0 4 rfl rfl)
theorem dX0_pairs_5 : decode cX0_pairs 5 = .ok (.lreturn, 1) := dk_173 (dk_at dksX0_pairs_0 5 rfl rfl)
theorem dX0_pairs_6 : decode cX0_pairs 6 = .ok (.iload_n 1, 1) := dk_27 (dk_at dksX0_pairs_0 6 rfl rfl)
theorem dX0_pairs_7 : decode cX0_pairs 7 = .ok (.invokestatic 349, 3) := dk_184 1 93 (dk_at dksX0_pairs_0 7 rfl rfl)
theorem dX0_pairs_10 : decode cX0_pairs 10 = .ok (.istore_n 2, 1) := dk_61 (dk_at dksX0_pairs_0 10 rfl rfl)
theorem dX0_pairs_11 : decode cX0_pairs 11 = .ok (.iload_n 1, 1) := dk_27 (dk_at dksX0_pairs_0 11 rfl rfl)
theorem dX0_pairs_12 : decode cX0_pairs 12 = .ok (.iload_n 1, 1) := dk_27 (dk_at dksX0_pairs_0 12 rfl rfl)
theorem dX0_pairs_13 : decode cX0_pairs 13 = .ok (.iconst 1, 1) := dk_4 (dk_at dksX0_pairs_0 13 rfl rfl)
theorem dX0_pairs_14 : decode cX0_pairs 14 = .ok (.isub, 1) := dk_100 (dk_at dksX0_pairs_0 14 rfl rfl)
theorem dX0_pairs_15 : decode cX0_pairs 15 = .ok (.iand, 1) := dk_126 (dk_at dksX0_pairs_0 15 rfl rfl)
theorem dX0_pairs_16 : decode cX0_pairs 16 = .ok (.istore_n 3, 1) := dk_62 (dk_at dksX0_pairs_0 16 rfl rfl)
theorem dX0_pairs_17 : decode cX0_pairs 17 = .ok (.lconst 0, 1) := dk_9 (dk_at dksX0_pairs_0 17 rfl rfl)
theorem dX0_pairs_18 : decode cX0_pairs 18 = .ok (.lstore 4, 2) := dk_55 4 (dk_at dksX0_pairs_0 18 rfl rfl)
theorem dX0_pairs_20 : decode cX0_pairs 20 = .ok (.lconst 1, 1) := dk_10 (dk_at dksX0_pairs_0 20 rfl rfl)
theorem dX0_pairs_21 : decode cX0_pairs 21 = .ok (.lstore 6, 2) := dk_55 6 (dk_at dksX0_pairs_0 21 rfl rfl)
theorem dX0_pairs_23 : decode cX0_pairs 23 = .ok (.iload_n 2, 1) := dk_28 (dk_at dksX0_pairs_0 23 rfl rfl)
theorem dX0_pairs_24 : decode cX0_pairs 24 = .ok (.iconst 1, 1) := dk_4 (dk_at dksX0_pairs_1 0 rfl rfl)
theorem dX0_pairs_25 : decode cX0_pairs 25 = .ok (.iadd, 1) := dk_96 (dk_at dksX0_pairs_1 1 rfl rfl)
theorem dX0_pairs_26 : decode cX0_pairs 26 = .ok (.istore 8, 2) := dk_54 8 (dk_at dksX0_pairs_1 2 rfl rfl)
theorem dX0_pairs_28 : decode cX0_pairs 28 = .ok (.iload 8, 2) := dk_21 8 (dk_at dksX0_pairs_1 4 rfl rfl)
theorem dX0_pairs_30 : decode cX0_pairs 30 = .ok (.bipush 8, 2) := dk_16 8 (dk_at dksX0_pairs_1 6 rfl rfl)
theorem dX0_pairs_32 : decode cX0_pairs 32 = .ok (.if_icmp .ge 69, 3) := dk_162 0 69 (dk_at dksX0_pairs_1 8 rfl rfl)
theorem dX0_pairs_35 : decode cX0_pairs 35 = .ok (.iload_n 3, 1) := dk_29 (dk_at dksX0_pairs_1 11 rfl rfl)
theorem dX0_pairs_36 : decode cX0_pairs 36 = .ok (.iload 8, 2) := dk_21 8 (dk_at dksX0_pairs_1 12 rfl rfl)
theorem dX0_pairs_38 : decode cX0_pairs 38 = .ok (.ishr, 1) := dk_122 (dk_at dksX0_pairs_1 14 rfl rfl)
theorem dX0_pairs_39 : decode cX0_pairs 39 = .ok (.iconst 1, 1) := dk_4 (dk_at dksX0_pairs_1 15 rfl rfl)
theorem dX0_pairs_40 : decode cX0_pairs 40 = .ok (.iand, 1) := dk_126 (dk_at dksX0_pairs_1 16 rfl rfl)
theorem dX0_pairs_41 : decode cX0_pairs 41 = .ok (.ifCond .ne 6, 3) := dk_154 0 6 (dk_at dksX0_pairs_1 17 rfl rfl)
theorem dX0_pairs_44 : decode cX0_pairs 44 = .ok (.goto 51, 3) := dk_167 0 51 (dk_at dksX0_pairs_1 20 rfl rfl)
theorem dX0_pairs_47 : decode cX0_pairs 47 = .ok (.aload_n 0, 1) := dk_42 (dk_at dksX0_pairs_1 23 rfl rfl)
theorem dX0_pairs_48 : decode cX0_pairs 48 = .ok (.getfield 82, 3) := dk_180 0 82 (dk_at dksX0_pairs_2 0 rfl rfl)
theorem dX0_pairs_51 : decode cX0_pairs 51 = .ok (.iload_n 2, 1) := dk_28 (dk_at dksX0_pairs_2 3 rfl rfl)
theorem dX0_pairs_52 : decode cX0_pairs 52 = .ok (.aaload, 1) := dk_50 (dk_at dksX0_pairs_2 4 rfl rfl)
theorem dX0_pairs_53 : decode cX0_pairs 53 = .ok (.iload 8, 2) := dk_21 8 (dk_at dksX0_pairs_2 5 rfl rfl)
theorem dX0_pairs_55 : decode cX0_pairs 55 = .ok (.iaload, 1) := dk_46 (dk_at dksX0_pairs_2 7 rfl rfl)
theorem dX0_pairs_56 : decode cX0_pairs 56 = .ok (.ifCond .eq 34, 3) := dk_153 0 34 (dk_at dksX0_pairs_2 8 rfl rfl)
theorem dX0_pairs_59 : decode cX0_pairs 59 = .ok (.lload 4, 2) := dk_22 4 (dk_at dksX0_pairs_2 11 rfl rfl)
theorem dX0_pairs_61 : decode cX0_pairs 61 = .ok (.lload 6, 2) := dk_22 6 (dk_at dksX0_pairs_2 13 rfl rfl)
theorem dX0_pairs_63 : decode cX0_pairs 63 = .ok (.aload_n 0, 1) := dk_42 (dk_at dksX0_pairs_2 15 rfl rfl)
theorem dX0_pairs_64 : decode cX0_pairs 64 = .ok (.getfield 82, 3) := dk_180 0 82 (dk_at dksX0_pairs_2 16 rfl rfl)
theorem dX0_pairs_67 : decode cX0_pairs 67 = .ok (.iload_n 2, 1) := dk_28 (dk_at dksX0_pairs_2 19 rfl rfl)
theorem dX0_pairs_68 : decode cX0_pairs 68 = .ok (.aaload, 1) := dk_50 (dk_at dksX0_pairs_2 20 rfl rfl)
theorem dX0_pairs_69 : decode cX0_pairs 69 = .ok (.iload 8, 2) := dk_21 8 (dk_at dksX0_pairs_2 21 rfl rfl)
theorem dX0_pairs_71 : decode cX0_pairs 71 = .ok (.iaload, 1) := dk_46 (dk_at dksX0_pairs_2 23 rfl rfl)
theorem dX0_pairs_72 : decode cX0_pairs 72 = .ok (.i2l, 1) := dk_133 (dk_at dksX0_pairs_3 0 rfl rfl)
theorem dX0_pairs_73 : decode cX0_pairs 73 = .ok (.lmul, 1) := dk_105 (dk_at dksX0_pairs_3 1 rfl rfl)
theorem dX0_pairs_74 : decode cX0_pairs 74 = .ok (.aload_n 0, 1) := dk_42 (dk_at dksX0_pairs_3 2 rfl rfl)
theorem dX0_pairs_75 : decode cX0_pairs 75 = .ok (.iload_n 3, 1) := dk_29 (dk_at dksX0_pairs_3 3 rfl rfl)
theorem dX0_pairs_76 : decode cX0_pairs 76 = .ok (.iconst 1, 1) := dk_4 (dk_at dksX0_pairs_3 4 rfl rfl)
theorem dX0_pairs_77 : decode cX0_pairs 77 = .ok (.iload 8, 2) := dk_21 8 (dk_at dksX0_pairs_3 5 rfl rfl)
theorem dX0_pairs_79 : decode cX0_pairs 79 = .ok (.ishl, 1) := dk_120 (dk_at dksX0_pairs_3 7 rfl rfl)
theorem dX0_pairs_80 : decode cX0_pairs 80 = .ok (.iconst (-1), 1) := dk_2 (dk_at dksX0_pairs_3 8 rfl rfl)
theorem dX0_pairs_81 : decode cX0_pairs 81 = .ok (.ixor, 1) := dk_130 (dk_at dksX0_pairs_3 9 rfl rfl)
theorem dX0_pairs_82 : decode cX0_pairs 82 = .ok (.iand, 1) := dk_126 (dk_at dksX0_pairs_3 10 rfl rfl)
theorem dX0_pairs_83 : decode cX0_pairs 83 = .ok (.invokevirtual 355, 3) := dk_182 1 99 (dk_at dksX0_pairs_3 11 rfl rfl)
theorem dX0_pairs_86 : decode cX0_pairs 86 = .ok (.lmul, 1) := dk_105 (dk_at dksX0_pairs_3 14 rfl rfl)
theorem dX0_pairs_87 : decode cX0_pairs 87 = .ok (.ladd, 1) := dk_97 (dk_at dksX0_pairs_3 15 rfl rfl)
theorem dX0_pairs_88 : decode cX0_pairs 88 = .ok (.lstore 4, 2) := dk_55 4 (dk_at dksX0_pairs_3 16 rfl rfl)
theorem dX0_pairs_90 : decode cX0_pairs 90 = .ok (.lload 6, 2) := dk_22 6 (dk_at dksX0_pairs_3 18 rfl rfl)
theorem dX0_pairs_92 : decode cX0_pairs 92 = .ok (.lneg, 1) := dk_117 (dk_at dksX0_pairs_3 20 rfl rfl)
theorem dX0_pairs_93 : decode cX0_pairs 93 = .ok (.lstore 6, 2) := dk_55 6 (dk_at dksX0_pairs_3 21 rfl rfl)
theorem dX0_pairs_95 : decode cX0_pairs 95 = .ok (.iinc 8 1, 3) := dk_132 8 1 (dk_at dksX0_pairs_4 0 rfl rfl)
theorem dX0_pairs_98 : decode cX0_pairs 98 = .ok (.goto (-70), 3) := dk_167 255 186 (dk_at dksX0_pairs_4 3 rfl rfl)
theorem dX0_pairs_101 : decode cX0_pairs 101 = .ok (.lload 4, 2) := dk_22 4 (dk_at dksX0_pairs_4 6 rfl rfl)
theorem dX0_pairs_103 : decode cX0_pairs 103 = .ok (.lreturn, 1) := dk_173 (dk_at dksX0_pairs_4 8 rfl rfl)
def dkwX0_need_3 : List UInt8 := [167, 255, 227, 28, 172]
abbrev dktX0_need_3 : List UInt8 := dkwX0_need_3 ++ []
def dkwX0_need_2 : List UInt8 := [182, 0, 102, 162, 0, 24, 42, 29, 182, 1, 115, 42, 28, 182, 1, 115, 162, 0, 5, 29, 61, 132, 3, 1]
abbrev dktX0_need_2 : List UInt8 := dkwX0_need_2 ++ dktX0_need_3
def dkwX0_need_1 : List UInt8 := [2, 172, 27, 2, 159, 0, 9, 42, 27, 182, 1, 115, 172, 3, 61, 4, 62, 29, 42, 180, 0, 37]
abbrev dktX0_need_1 : List UInt8 := dkwX0_need_1 ++ dktX0_need_2
def dkwX0_need_0 : List UInt8 := [42, 180, 0, 37, 182, 0, 102, 5, 161, 0, 16, 27, 2, 159, 0, 13, 42, 27, 182, 0, 171, 199, 0, 5]
abbrev dktX0_need_0 : List UInt8 := dkwX0_need_0 ++ dktX0_need_1
theorem dksX0_need_0 : cX0_need.data.toList.drop 0 = dktX0_need_0 := by decide +kernel
theorem dksX0_need_1 : cX0_need.data.toList.drop 24 = dktX0_need_1 := dk_seg dksX0_need_0 24 rfl rfl
theorem dksX0_need_2 : cX0_need.data.toList.drop 46 = dktX0_need_2 := dk_seg dksX0_need_1 22 rfl rfl
theorem dksX0_need_3 : cX0_need.data.toList.drop 70 = dktX0_need_3 := dk_seg dksX0_need_2 24 rfl rfl
theorem dX0_need_0 : decode cX0_need 0 = .ok (.aload_n 0, 1) := dk_42 (dk_at dksX0_need_0 0 rfl rfl)
theorem dX0_need_1 : decode cX0_need 1 = .ok (.getfield 37, 3) := dk_180 0 37 (dk_at dksX0_need_0 1 rfl rfl)
theorem dX0_need_4 : decode cX0_need 4 = .ok (.invokevirtual 102, 3) := dk_182 0 102 (dk_at dksX0_need_0 4 rfl rfl)
theorem dX0_need_7 : decode cX0_need 7 = .ok (.iconst 2, 1) := dk_5 (dk_at dksX0_need_0 7 rfl rfl)
theorem dX0_need_8 : decode cX0_need 8 = .ok (.if_icmp .lt 16, 3) := dk_161 0 16 (dk_at dksX0_need_0 8 rfl rfl)
theorem dX0_need_11 : decode cX0_need 11 = .ok (.iload_n 1, 1) := dk_27 (dk_at dksX0_need_0 11 rfl rfl)
theorem dX0_need_12 : decode cX0_need 12 = .ok (.iconst (-1), 1) := dk_2 (dk_at dksX0_need_0 12 rfl rfl)
theorem dX0_need_13 : decode cX0_need 13 = .ok (.if_icmp .eq 13, 3) := dk_159 0 13 (dk_at dksX0_need_0 13 rfl rfl)
theorem dX0_need_16 : decode cX0_need 16 = .ok (.aload_n 0, 1) := dk_42 (dk_at dksX0_need_0 16 rfl rfl)
theorem dX0_need_17 : decode cX0_need 17 = .ok (.iload_n 1, 1) := dk_27 (dk_at dksX0_need_0 17 rfl rfl)
theorem dX0_need_18 : decode cX0_need 18 = .ok (.invokevirtual 171, 3) := dk_182 0 171 (dk_at dksX0_need_0 18 rfl rfl)
theorem dX0_need_21 : decode cX0_need 21 = .ok (.ifnonnull 5, 3) := dk_199 0 5 (dk_at dksX0_need_0 21 rfl rfl)
theorem dX0_need_24 : decode cX0_need 24 = .ok (.iconst (-1), 1) := dk_2 (dk_at dksX0_need_1 0 rfl rfl)
theorem dX0_need_25 : decode cX0_need 25 = .ok (.ireturn, 1) := dk_172 (dk_at dksX0_need_1 1 rfl rfl)
theorem dX0_need_26 : decode cX0_need 26 = .ok (.iload_n 1, 1) := dk_27 (dk_at dksX0_need_1 2 rfl rfl)
theorem dX0_need_27 : decode cX0_need 27 = .ok (.iconst (-1), 1) := dk_2 (dk_at dksX0_need_1 3 rfl rfl)
theorem dX0_need_28 : decode cX0_need 28 = .ok (.if_icmp .eq 9, 3) := dk_159 0 9 (dk_at dksX0_need_1 4 rfl rfl)
theorem dX0_need_31 : decode cX0_need 31 = .ok (.aload_n 0, 1) := dk_42 (dk_at dksX0_need_1 7 rfl rfl)
theorem dX0_need_32 : decode cX0_need 32 = .ok (.iload_n 1, 1) := dk_27 (dk_at dksX0_need_1 8 rfl rfl)
theorem dX0_need_33 : decode cX0_need 33 = .ok (.invokevirtual 371, 3) := dk_182 1 115 (dk_at dksX0_need_1 9 rfl rfl)
theorem dX0_need_36 : decode cX0_need 36 = .ok (.ireturn, 1) := dk_172 (dk_at dksX0_need_1 12 rfl rfl)
theorem dX0_need_37 : decode cX0_need 37 = .ok (.iconst 0, 1) := dk_3 (dk_at dksX0_need_1 13 rfl rfl)
theorem dX0_need_38 : decode cX0_need 38 = .ok (.istore_n 2, 1) := dk_61 (dk_at dksX0_need_1 14 rfl rfl)
theorem dX0_need_39 : decode cX0_need 39 = .ok (.iconst 1, 1) := dk_4 (dk_at dksX0_need_1 15 rfl rfl)
theorem dX0_need_40 : decode cX0_need 40 = .ok (.istore_n 3, 1) := dk_62 (dk_at dksX0_need_1 16 rfl rfl)
theorem dX0_need_41 : decode cX0_need 41 = .ok (.iload_n 3, 1) := dk_29 (dk_at dksX0_need_1 17 rfl rfl)
theorem dX0_need_42 : decode cX0_need 42 = .ok (.aload_n 0, 1) := dk_42 (dk_at dksX0_need_1 18 rfl rfl)
theorem dX0_need_43 : decode cX0_need 43 = .ok (.getfield 37, 3) := dk_180 0 37 (dk_at dksX0_need_1 19 rfl rfl)
theorem dX0_need_46 : decode cX0_need 46 = .ok (.invokevirtual 102, 3) := dk_182 0 102 (dk_at dksX0_need_2 0 rfl rfl)
theorem dX0_need_49 : decode cX0_need 49 = .ok (.if_icmp .ge 24, 3) := dk_162 0 24 (dk_at dksX0_need_2 3 rfl rfl)
theorem dX0_need_52 : decode cX0_need 52 = .ok (.aload_n 0, 1) := dk_42 (dk_at dksX0_need_2 6 rfl rfl)
theorem dX0_need_53 : decode cX0_need 53 = .ok (.iload_n 3, 1) := dk_29 (dk_at dksX0_need_2 7 rfl rfl)
theorem dX0_need_54 : decode cX0_need 54 = .ok (.invokevirtual 371, 3) := dk_182 1 115 (dk_at dksX0_need_2 8 rfl rfl)
theorem dX0_need_57 : decode cX0_need 57 = .ok (.aload_n 0, 1) := dk_42 (dk_at dksX0_need_2 11 rfl rfl)
theorem dX0_need_58 : decode cX0_need 58 = .ok (.iload_n 2, 1) := dk_28 (dk_at dksX0_need_2 12 rfl rfl)
theorem dX0_need_59 : decode cX0_need 59 = .ok (.invokevirtual 371, 3) := dk_182 1 115 (dk_at dksX0_need_2 13 rfl rfl)
theorem dX0_need_62 : decode cX0_need 62 = .ok (.if_icmp .ge 5, 3) := dk_162 0 5 (dk_at dksX0_need_2 16 rfl rfl)
theorem dX0_need_65 : decode cX0_need 65 = .ok (.iload_n 3, 1) := dk_29 (dk_at dksX0_need_2 19 rfl rfl)
theorem dX0_need_66 : decode cX0_need 66 = .ok (.istore_n 2, 1) := dk_61 (dk_at dksX0_need_2 20 rfl rfl)
theorem dX0_need_67 : decode cX0_need 67 = .ok (.iinc 3 1, 3) := dk_132 3 1 (dk_at dksX0_need_2 21 rfl rfl)
theorem dX0_need_70 : decode cX0_need 70 = .ok (.goto (-29), 3) := dk_167 255 227 (dk_at dksX0_need_3 0 rfl rfl)
theorem dX0_need_73 : decode cX0_need 73 = .ok (.iload_n 2, 1) := dk_28 (dk_at dksX0_need_3 3 rfl rfl)
theorem dX0_need_74 : decode cX0_need 74 = .ok (.ireturn, 1) := dk_172 (dk_at dksX0_need_3 4 rfl rfl)
def dkwX0_needOf_2 : List UInt8 := [184, 1, 3, 61, 132, 3, 1, 167, 255, 206, 28, 172]
abbrev dktX0_needOf_2 : List UInt8 := dkwX0_needOf_2 ++ []
def dkwX0_needOf_1 : List UInt8 := [180, 0, 37, 29, 182, 0, 106, 192, 0, 112, 42, 180, 0, 37, 27, 182, 0, 106, 192, 0, 112, 182, 0, 206]
abbrev dktX0_needOf_1 : List UInt8 := dkwX0_needOf_1 ++ dktX0_needOf_2
def dkwX0_needOf_0 : List UInt8 := [3, 61, 3, 62, 29, 42, 180, 0, 37, 182, 0, 102, 162, 0, 45, 29, 27, 159, 0, 34, 28, 42, 42]
abbrev dktX0_needOf_0 : List UInt8 := dkwX0_needOf_0 ++ dktX0_needOf_1
theorem dksX0_needOf_0 : cX0_needOf.data.toList.drop 0 = dktX0_needOf_0 := by decide +kernel
theorem dksX0_needOf_1 : cX0_needOf.data.toList.drop 23 = dktX0_needOf_1 := dk_seg dksX0_needOf_0 23 rfl rfl
theorem dksX0_needOf_2 : cX0_needOf.data.toList.drop 47 = dktX0_needOf_2 := dk_seg dksX0_needOf_1 24 rfl rfl
theorem dX0_needOf_0 : decode cX0_needOf 0 = .ok (.iconst 0, 1) := dk_3 (dk_at dksX0_needOf_0 0 rfl rfl)
theorem dX0_needOf_1 : decode cX0_needOf 1 = .ok (.istore_n 2, 1) := dk_61 (dk_at dksX0_needOf_0 1 rfl rfl)
theorem dX0_needOf_2 : decode cX0_needOf 2 = .ok (.iconst 0, 1) := dk_3 (dk_at dksX0_needOf_0 2 rfl rfl)
theorem dX0_needOf_3 : decode cX0_needOf 3 = .ok (.istore_n 3, 1) := dk_62 (dk_at dksX0_needOf_0 3 rfl rfl)
theorem dX0_needOf_4 : decode cX0_needOf 4 = .ok (.iload_n 3, 1) := dk_29 (dk_at dksX0_needOf_0 4 rfl rfl)
theorem dX0_needOf_5 : decode cX0_needOf 5 = .ok (.aload_n 0, 1) := dk_42 (dk_at dksX0_needOf_0 5 rfl rfl)
theorem dX0_needOf_6 : decode cX0_needOf 6 = .ok (.getfield 37, 3) := dk_180 0 37 (dk_at dksX0_needOf_0 6 rfl rfl)
theorem dX0_needOf_9 : decode cX0_needOf 9 = .ok (.invokevirtual 102, 3) := dk_182 0 102 (dk_at dksX0_needOf_0 9 rfl rfl)
theorem dX0_needOf_12 : decode cX0_needOf 12 = .ok (.if_icmp .ge 45, 3) := dk_162 0 45 (dk_at dksX0_needOf_0 12 rfl rfl)
theorem dX0_needOf_15 : decode cX0_needOf 15 = .ok (.iload_n 3, 1) := dk_29 (dk_at dksX0_needOf_0 15 rfl rfl)
theorem dX0_needOf_16 : decode cX0_needOf 16 = .ok (.iload_n 1, 1) := dk_27 (dk_at dksX0_needOf_0 16 rfl rfl)
theorem dX0_needOf_17 : decode cX0_needOf 17 = .ok (.if_icmp .eq 34, 3) := dk_159 0 34 (dk_at dksX0_needOf_0 17 rfl rfl)
theorem dX0_needOf_20 : decode cX0_needOf 20 = .ok (.iload_n 2, 1) := dk_28 (dk_at dksX0_needOf_0 20 rfl rfl)
theorem dX0_needOf_21 : decode cX0_needOf 21 = .ok (.aload_n 0, 1) := dk_42 (dk_at dksX0_needOf_0 21 rfl rfl)
theorem dX0_needOf_22 : decode cX0_needOf 22 = .ok (.aload_n 0, 1) := dk_42 (dk_at dksX0_needOf_0 22 rfl rfl)
theorem dX0_needOf_23 : decode cX0_needOf 23 = .ok (.getfield 37, 3) := dk_180 0 37 (dk_at dksX0_needOf_1 0 rfl rfl)
theorem dX0_needOf_26 : decode cX0_needOf 26 = .ok (.iload_n 3, 1) := dk_29 (dk_at dksX0_needOf_1 3 rfl rfl)
theorem dX0_needOf_27 : decode cX0_needOf 27 = .ok (.invokevirtual 106, 3) := dk_182 0 106 (dk_at dksX0_needOf_1 4 rfl rfl)
theorem dX0_needOf_30 : decode cX0_needOf 30 = .ok (.checkcast 112, 3) := dk_192 0 112 (dk_at dksX0_needOf_1 7 rfl rfl)
theorem dX0_needOf_33 : decode cX0_needOf 33 = .ok (.aload_n 0, 1) := dk_42 (dk_at dksX0_needOf_1 10 rfl rfl)
theorem dX0_needOf_34 : decode cX0_needOf 34 = .ok (.getfield 37, 3) := dk_180 0 37 (dk_at dksX0_needOf_1 11 rfl rfl)
theorem dX0_needOf_37 : decode cX0_needOf 37 = .ok (.iload_n 1, 1) := dk_27 (dk_at dksX0_needOf_1 14 rfl rfl)
theorem dX0_needOf_38 : decode cX0_needOf 38 = .ok (.invokevirtual 106, 3) := dk_182 0 106 (dk_at dksX0_needOf_1 15 rfl rfl)
theorem dX0_needOf_41 : decode cX0_needOf 41 = .ok (.checkcast 112, 3) := dk_192 0 112 (dk_at dksX0_needOf_1 18 rfl rfl)
theorem dX0_needOf_44 : decode cX0_needOf 44 = .ok (.invokevirtual 206, 3) := dk_182 0 206 (dk_at dksX0_needOf_1 21 rfl rfl)
theorem dX0_needOf_47 : decode cX0_needOf 47 = .ok (.invokestatic 259, 3) := dk_184 1 3 (dk_at dksX0_needOf_2 0 rfl rfl)
theorem dX0_needOf_50 : decode cX0_needOf 50 = .ok (.istore_n 2, 1) := dk_61 (dk_at dksX0_needOf_2 3 rfl rfl)
theorem dX0_needOf_51 : decode cX0_needOf 51 = .ok (.iinc 3 1, 3) := dk_132 3 1 (dk_at dksX0_needOf_2 4 rfl rfl)
theorem dX0_needOf_54 : decode cX0_needOf 54 = .ok (.goto (-50), 3) := dk_167 255 206 (dk_at dksX0_needOf_2 7 rfl rfl)
theorem dX0_needOf_57 : decode cX0_needOf 57 = .ok (.iload_n 2, 1) := dk_28 (dk_at dksX0_needOf_2 10 rfl rfl)
theorem dX0_needOf_58 : decode cX0_needOf 58 = .ok (.ireturn, 1) := dk_172 (dk_at dksX0_needOf_2 11 rfl rfl)
def dkwX0_most_2 : List UInt8 := [182, 0, 196, 184, 1, 3, 62, 132, 4, 1, 167, 255, 224, 29, 172]
abbrev dktX0_most_2 : List UInt8 := dkwX0_most_2 ++ []
def dkwX0_most_1 : List UInt8 := [54, 4, 21, 4, 17, 39, 16, 162, 0, 30, 29, 42, 21, 4, 16, 100, 108, 21, 4, 16, 100, 112, 27, 28]
abbrev dktX0_most_1 : List UInt8 := dkwX0_most_1 ++ dktX0_most_2
def dkwX0_most_0 : List UInt8 := [42, 180, 0, 33, 182, 0, 177, 154, 0, 11, 27, 28, 184, 0, 181, 154, 0, 5, 2, 172, 3, 62, 3]
abbrev dktX0_most_0 : List UInt8 := dkwX0_most_0 ++ dktX0_most_1
theorem dksX0_most_0 : cX0_most.data.toList.drop 0 = dktX0_most_0 := by decide +kernel
theorem dksX0_most_1 : cX0_most.data.toList.drop 23 = dktX0_most_1 := dk_seg dksX0_most_0 23 rfl rfl
theorem dksX0_most_2 : cX0_most.data.toList.drop 47 = dktX0_most_2 := dk_seg dksX0_most_1 24 rfl rfl
theorem dX0_most_0 : decode cX0_most 0 = .ok (.aload_n 0, 1) := dk_42 (dk_at dksX0_most_0 0 rfl rfl)
theorem dX0_most_1 : decode cX0_most 1 = .ok (.getfield 33, 3) := dk_180 0 33 (dk_at dksX0_most_0 1 rfl rfl)
theorem dX0_most_4 : decode cX0_most 4 = .ok (.invokevirtual 177, 3) := dk_182 0 177 (dk_at dksX0_most_0 4 rfl rfl)
theorem dX0_most_7 : decode cX0_most 7 = .ok (.ifCond .ne 11, 3) := dk_154 0 11 (dk_at dksX0_most_0 7 rfl rfl)
theorem dX0_most_10 : decode cX0_most 10 = .ok (.iload_n 1, 1) := dk_27 (dk_at dksX0_most_0 10 rfl rfl)
theorem dX0_most_11 : decode cX0_most 11 = .ok (.iload_n 2, 1) := dk_28 (dk_at dksX0_most_0 11 rfl rfl)
theorem dX0_most_12 : decode cX0_most 12 = .ok (.invokestatic 181, 3) := dk_184 0 181 (dk_at dksX0_most_0 12 rfl rfl)
theorem dX0_most_15 : decode cX0_most 15 = .ok (.ifCond .ne 5, 3) := dk_154 0 5 (dk_at dksX0_most_0 15 rfl rfl)
theorem dX0_most_18 : decode cX0_most 18 = .ok (.iconst (-1), 1) := dk_2 (dk_at dksX0_most_0 18 rfl rfl)
theorem dX0_most_19 : decode cX0_most 19 = .ok (.ireturn, 1) := dk_172 (dk_at dksX0_most_0 19 rfl rfl)
theorem dX0_most_20 : decode cX0_most 20 = .ok (.iconst 0, 1) := dk_3 (dk_at dksX0_most_0 20 rfl rfl)
theorem dX0_most_21 : decode cX0_most 21 = .ok (.istore_n 3, 1) := dk_62 (dk_at dksX0_most_0 21 rfl rfl)
theorem dX0_most_22 : decode cX0_most 22 = .ok (.iconst 0, 1) := dk_3 (dk_at dksX0_most_0 22 rfl rfl)
theorem dX0_most_23 : decode cX0_most 23 = .ok (.istore 4, 2) := dk_54 4 (dk_at dksX0_most_1 0 rfl rfl)
theorem dX0_most_25 : decode cX0_most 25 = .ok (.iload 4, 2) := dk_21 4 (dk_at dksX0_most_1 2 rfl rfl)
theorem dX0_most_27 : decode cX0_most 27 = .ok (.sipush 10000, 3) := dk_17 39 16 (dk_at dksX0_most_1 4 rfl rfl)
theorem dX0_most_30 : decode cX0_most 30 = .ok (.if_icmp .ge 30, 3) := dk_162 0 30 (dk_at dksX0_most_1 7 rfl rfl)
theorem dX0_most_33 : decode cX0_most 33 = .ok (.iload_n 3, 1) := dk_29 (dk_at dksX0_most_1 10 rfl rfl)
theorem dX0_most_34 : decode cX0_most 34 = .ok (.aload_n 0, 1) := dk_42 (dk_at dksX0_most_1 11 rfl rfl)
theorem dX0_most_35 : decode cX0_most 35 = .ok (.iload 4, 2) := dk_21 4 (dk_at dksX0_most_1 12 rfl rfl)
theorem dX0_most_37 : decode cX0_most 37 = .ok (.bipush 100, 2) := dk_16 100 (dk_at dksX0_most_1 14 rfl rfl)
theorem dX0_most_39 : decode cX0_most 39 = .ok (.idiv, 1) := dk_108 (dk_at dksX0_most_1 16 rfl rfl)
theorem dX0_most_40 : decode cX0_most 40 = .ok (.iload 4, 2) := dk_21 4 (dk_at dksX0_most_1 17 rfl rfl)
theorem dX0_most_42 : decode cX0_most 42 = .ok (.bipush 100, 2) := dk_16 100 (dk_at dksX0_most_1 19 rfl rfl)
theorem dX0_most_44 : decode cX0_most 44 = .ok (.irem, 1) := dk_112 (dk_at dksX0_most_1 21 rfl rfl)
theorem dX0_most_45 : decode cX0_most 45 = .ok (.iload_n 1, 1) := dk_27 (dk_at dksX0_most_1 22 rfl rfl)
theorem dX0_most_46 : decode cX0_most 46 = .ok (.iload_n 2, 1) := dk_28 (dk_at dksX0_most_1 23 rfl rfl)
theorem dX0_most_47 : decode cX0_most 47 = .ok (.invokevirtual 196, 3) := dk_182 0 196 (dk_at dksX0_most_2 0 rfl rfl)
theorem dX0_most_50 : decode cX0_most 50 = .ok (.invokestatic 259, 3) := dk_184 1 3 (dk_at dksX0_most_2 3 rfl rfl)
theorem dX0_most_53 : decode cX0_most 53 = .ok (.istore_n 3, 1) := dk_62 (dk_at dksX0_most_2 6 rfl rfl)
theorem dX0_most_54 : decode cX0_most 54 = .ok (.iinc 4 1, 3) := dk_132 4 1 (dk_at dksX0_most_2 7 rfl rfl)
theorem dX0_most_57 : decode cX0_most 57 = .ok (.goto (-32), 3) := dk_167 255 224 (dk_at dksX0_most_2 10 rfl rfl)
theorem dX0_most_60 : decode cX0_most 60 = .ok (.iload_n 3, 1) := dk_29 (dk_at dksX0_most_2 13 rfl rfl)
theorem dX0_most_61 : decode cX0_most 61 = .ok (.ireturn, 1) := dk_172 (dk_at dksX0_most_2 14 rfl rfl)
def dkwX0_peace_1 : List UInt8 := [132, 1, 1, 167, 255, 232, 2, 172]
abbrev dktX0_peace_1 : List UInt8 := dkwX0_peace_1 ++ []
def dkwX0_peace_0 : List UInt8 := [3, 60, 27, 42, 180, 0, 37, 182, 0, 102, 162, 0, 19, 42, 27, 182, 1, 118, 153, 0, 5, 27, 172]
abbrev dktX0_peace_0 : List UInt8 := dkwX0_peace_0 ++ dktX0_peace_1
theorem dksX0_peace_0 : cX0_peace.data.toList.drop 0 = dktX0_peace_0 := by decide +kernel
theorem dksX0_peace_1 : cX0_peace.data.toList.drop 23 = dktX0_peace_1 := dk_seg dksX0_peace_0 23 rfl rfl
theorem dX0_peace_0 : decode cX0_peace 0 = .ok (.iconst 0, 1) := dk_3 (dk_at dksX0_peace_0 0 rfl rfl)
theorem dX0_peace_1 : decode cX0_peace 1 = .ok (.istore_n 1, 1) := dk_60 (dk_at dksX0_peace_0 1 rfl rfl)
theorem dX0_peace_2 : decode cX0_peace 2 = .ok (.iload_n 1, 1) := dk_27 (dk_at dksX0_peace_0 2 rfl rfl)
theorem dX0_peace_3 : decode cX0_peace 3 = .ok (.aload_n 0, 1) := dk_42 (dk_at dksX0_peace_0 3 rfl rfl)
theorem dX0_peace_4 : decode cX0_peace 4 = .ok (.getfield 37, 3) := dk_180 0 37 (dk_at dksX0_peace_0 4 rfl rfl)
theorem dX0_peace_7 : decode cX0_peace 7 = .ok (.invokevirtual 102, 3) := dk_182 0 102 (dk_at dksX0_peace_0 7 rfl rfl)
theorem dX0_peace_10 : decode cX0_peace 10 = .ok (.if_icmp .ge 19, 3) := dk_162 0 19 (dk_at dksX0_peace_0 10 rfl rfl)
theorem dX0_peace_13 : decode cX0_peace 13 = .ok (.aload_n 0, 1) := dk_42 (dk_at dksX0_peace_0 13 rfl rfl)
theorem dX0_peace_14 : decode cX0_peace 14 = .ok (.iload_n 1, 1) := dk_27 (dk_at dksX0_peace_0 14 rfl rfl)
theorem dX0_peace_15 : decode cX0_peace 15 = .ok (.invokevirtual 374, 3) := dk_182 1 118 (dk_at dksX0_peace_0 15 rfl rfl)
theorem dX0_peace_18 : decode cX0_peace 18 = .ok (.ifCond .eq 5, 3) := dk_153 0 5 (dk_at dksX0_peace_0 18 rfl rfl)
theorem dX0_peace_21 : decode cX0_peace 21 = .ok (.iload_n 1, 1) := dk_27 (dk_at dksX0_peace_0 21 rfl rfl)
theorem dX0_peace_22 : decode cX0_peace 22 = .ok (.ireturn, 1) := dk_172 (dk_at dksX0_peace_0 22 rfl rfl)
theorem dX0_peace_23 : decode cX0_peace 23 = .ok (.iinc 1 1, 3) := dk_132 1 1 (dk_at dksX0_peace_1 0 rfl rfl)
theorem dX0_peace_26 : decode cX0_peace 26 = .ok (.goto (-24), 3) := dk_167 255 232 (dk_at dksX0_peace_1 3 rfl rfl)
theorem dX0_peace_29 : decode cX0_peace 29 = .ok (.iconst (-1), 1) := dk_2 (dk_at dksX0_peace_1 6 rfl rfl)
theorem dX0_peace_30 : decode cX0_peace 30 = .ok (.ireturn, 1) := dk_172 (dk_at dksX0_peace_1 7 rfl rfl)
def dkwX0_isUnbeaten_2 : List UInt8 := [172, 132, 2, 1, 167, 255, 206, 4, 172]
abbrev dktX0_isUnbeaten_2 : List UInt8 := dkwX0_isUnbeaten_2 ++ []
def dkwX0_isUnbeaten_1 : List UInt8 := [182, 0, 106, 192, 0, 112, 42, 180, 0, 37, 27, 182, 0, 106, 192, 0, 112, 182, 0, 210, 153, 0, 5, 3]
abbrev dktX0_isUnbeaten_1 : List UInt8 := dkwX0_isUnbeaten_1 ++ dktX0_isUnbeaten_2
def dkwX0_isUnbeaten_0 : List UInt8 := [3, 61, 28, 42, 180, 0, 37, 182, 0, 102, 162, 0, 45, 28, 27, 159, 0, 34, 42, 42, 180, 0, 37, 28]
abbrev dktX0_isUnbeaten_0 : List UInt8 := dkwX0_isUnbeaten_0 ++ dktX0_isUnbeaten_1
theorem dksX0_isUnbeaten_0 : cX0_isUnbeaten.data.toList.drop 0 = dktX0_isUnbeaten_0 := by decide +kernel
theorem dksX0_isUnbeaten_1 : cX0_isUnbeaten.data.toList.drop 24 = dktX0_isUnbeaten_1 := dk_seg dksX0_isUnbeaten_0 24 rfl rfl
theorem dksX0_isUnbeaten_2 : cX0_isUnbeaten.data.toList.drop 48 = dktX0_isUnbeaten_2 := dk_seg dksX0_isUnbeaten_1 24 rfl rfl
theorem dX0_isUnbeaten_0 : decode cX0_isUnbeaten 0 = .ok (.iconst 0, 1) := dk_3 (dk_at dksX0_isUnbeaten_0 0 rfl rfl)
theorem dX0_isUnbeaten_1 : decode cX0_isUnbeaten 1 = .ok (.istore_n 2, 1) := dk_61 (dk_at dksX0_isUnbeaten_0 1 rfl rfl)
theorem dX0_isUnbeaten_2 : decode cX0_isUnbeaten 2 = .ok (.iload_n 2, 1) := dk_28 (dk_at dksX0_isUnbeaten_0 2 rfl rfl)
theorem dX0_isUnbeaten_3 : decode cX0_isUnbeaten 3 = .ok (.aload_n 0, 1) := dk_42 (dk_at dksX0_isUnbeaten_0 3 rfl rfl)
theorem dX0_isUnbeaten_4 : decode cX0_isUnbeaten 4 = .ok (.getfield 37, 3) := dk_180 0 37 (dk_at dksX0_isUnbeaten_0 4 rfl rfl)
theorem dX0_isUnbeaten_7 : decode cX0_isUnbeaten 7 = .ok (.invokevirtual 102, 3) := dk_182 0 102 (dk_at dksX0_isUnbeaten_0 7 rfl rfl)
theorem dX0_isUnbeaten_10 : decode cX0_isUnbeaten 10 = .ok (.if_icmp .ge 45, 3) := dk_162 0 45 (dk_at dksX0_isUnbeaten_0 10 rfl rfl)
theorem dX0_isUnbeaten_13 : decode cX0_isUnbeaten 13 = .ok (.iload_n 2, 1) := dk_28 (dk_at dksX0_isUnbeaten_0 13 rfl rfl)
theorem dX0_isUnbeaten_14 : decode cX0_isUnbeaten 14 = .ok (.iload_n 1, 1) := dk_27 (dk_at dksX0_isUnbeaten_0 14 rfl rfl)
theorem dX0_isUnbeaten_15 : decode cX0_isUnbeaten 15 = .ok (.if_icmp .eq 34, 3) := dk_159 0 34 (dk_at dksX0_isUnbeaten_0 15 rfl rfl)
theorem dX0_isUnbeaten_18 : decode cX0_isUnbeaten 18 = .ok (.aload_n 0, 1) := dk_42 (dk_at dksX0_isUnbeaten_0 18 rfl rfl)
theorem dX0_isUnbeaten_19 : decode cX0_isUnbeaten 19 = .ok (.aload_n 0, 1) := dk_42 (dk_at dksX0_isUnbeaten_0 19 rfl rfl)
theorem dX0_isUnbeaten_20 : decode cX0_isUnbeaten 20 = .ok (.getfield 37, 3) := dk_180 0 37 (dk_at dksX0_isUnbeaten_0 20 rfl rfl)
theorem dX0_isUnbeaten_23 : decode cX0_isUnbeaten 23 = .ok (.iload_n 2, 1) := dk_28 (dk_at dksX0_isUnbeaten_0 23 rfl rfl)
theorem dX0_isUnbeaten_24 : decode cX0_isUnbeaten 24 = .ok (.invokevirtual 106, 3) := dk_182 0 106 (dk_at dksX0_isUnbeaten_1 0 rfl rfl)
theorem dX0_isUnbeaten_27 : decode cX0_isUnbeaten 27 = .ok (.checkcast 112, 3) := dk_192 0 112 (dk_at dksX0_isUnbeaten_1 3 rfl rfl)
theorem dX0_isUnbeaten_30 : decode cX0_isUnbeaten 30 = .ok (.aload_n 0, 1) := dk_42 (dk_at dksX0_isUnbeaten_1 6 rfl rfl)
theorem dX0_isUnbeaten_31 : decode cX0_isUnbeaten 31 = .ok (.getfield 37, 3) := dk_180 0 37 (dk_at dksX0_isUnbeaten_1 7 rfl rfl)
theorem dX0_isUnbeaten_34 : decode cX0_isUnbeaten 34 = .ok (.iload_n 1, 1) := dk_27 (dk_at dksX0_isUnbeaten_1 10 rfl rfl)
theorem dX0_isUnbeaten_35 : decode cX0_isUnbeaten 35 = .ok (.invokevirtual 106, 3) := dk_182 0 106 (dk_at dksX0_isUnbeaten_1 11 rfl rfl)
theorem dX0_isUnbeaten_38 : decode cX0_isUnbeaten 38 = .ok (.checkcast 112, 3) := dk_192 0 112 (dk_at dksX0_isUnbeaten_1 14 rfl rfl)
theorem dX0_isUnbeaten_41 : decode cX0_isUnbeaten 41 = .ok (.invokevirtual 210, 3) := dk_182 0 210 (dk_at dksX0_isUnbeaten_1 17 rfl rfl)
theorem dX0_isUnbeaten_44 : decode cX0_isUnbeaten 44 = .ok (.ifCond .eq 5, 3) := dk_153 0 5 (dk_at dksX0_isUnbeaten_1 20 rfl rfl)
theorem dX0_isUnbeaten_47 : decode cX0_isUnbeaten 47 = .ok (.iconst 0, 1) := dk_3 (dk_at dksX0_isUnbeaten_1 23 rfl rfl)
theorem dX0_isUnbeaten_48 : decode cX0_isUnbeaten 48 = .ok (.ireturn, 1) := dk_172 (dk_at dksX0_isUnbeaten_2 0 rfl rfl)
theorem dX0_isUnbeaten_49 : decode cX0_isUnbeaten 49 = .ok (.iinc 2 1, 3) := dk_132 2 1 (dk_at dksX0_isUnbeaten_2 1 rfl rfl)
theorem dX0_isUnbeaten_52 : decode cX0_isUnbeaten 52 = .ok (.goto (-50), 3) := dk_167 255 206 (dk_at dksX0_isUnbeaten_2 4 rfl rfl)
theorem dX0_isUnbeaten_55 : decode cX0_isUnbeaten 55 = .ok (.iconst 1, 1) := dk_4 (dk_at dksX0_isUnbeaten_2 7 rfl rfl)
theorem dX0_isUnbeaten_56 : decode cX0_isUnbeaten 56 = .ok (.ireturn, 1) := dk_172 (dk_at dksX0_isUnbeaten_2 8 rfl rfl)
def dkwX0_make_11 : List UInt8 := [160, 0, 7, 29, 167, 0, 5, 21, 4, 172]
abbrev dktX0_make_11 : List UInt8 := dkwX0_make_11 ++ []
def dkwX0_make_10 : List UInt8 := [167, 255, 47, 28, 2, 160, 0, 7, 2, 167, 0, 22, 27, 154, 0, 7, 28, 167, 0, 14, 27, 4]
abbrev dktX0_make_10 : List UInt8 := dkwX0_make_10 ++ dktX0_make_11
def dkwX0_make_9 : List UInt8 := [167, 0, 13, 21, 5, 61, 21, 9, 62, 21, 10, 54, 4, 132, 9, 1, 167, 255, 96, 132, 5, 1]
abbrev dktX0_make_9 : List UInt8 := dkwX0_make_9 ++ dktX0_make_10
def dkwX0_make_8 : List UInt8 := [3, 54, 11, 25, 6, 21, 7, 181, 0, 156, 25, 6, 21, 8, 181, 0, 159, 21, 11, 154, 0, 6]
abbrev dktX0_make_8 : List UInt8 := dkwX0_make_8 ++ dktX0_make_9
def dkwX0_make_7 : List UInt8 := [182, 0, 106, 192, 0, 112, 180, 0, 176, 181, 0, 159, 42, 182, 1, 124, 2, 159, 0, 7, 4, 167, 0, 4]
abbrev dktX0_make_7 : List UInt8 := dkwX0_make_7 ++ dktX0_make_8
def dkwX0_make_6 : List UInt8 := [21, 9, 182, 0, 106, 192, 0, 112, 180, 0, 175, 181, 0, 156, 25, 6, 42, 180, 0, 37, 21, 9]
abbrev dktX0_make_6 : List UInt8 := dkwX0_make_6 ++ dktX0_make_7
def dkwX0_make_5 : List UInt8 := [104, 54, 10, 28, 2, 159, 0, 13, 21, 10, 21, 4, 161, 0, 6, 167, 0, 90, 25, 6, 42, 180, 0, 37]
abbrev dktX0_make_5 : List UInt8 := dkwX0_make_5 ++ dktX0_make_6
def dkwX0_make_4 : List UInt8 := [192, 0, 112, 180, 0, 175, 42, 180, 0, 37, 21, 9, 182, 0, 106, 192, 0, 112, 180, 0, 176, 182, 1, 121]
abbrev dktX0_make_4 : List UInt8 := dkwX0_make_4 ++ dktX0_make_5
def dkwX0_make_3 : List UInt8 := [182, 0, 102, 162, 0, 154, 25, 6, 180, 0, 144, 25, 6, 42, 180, 0, 37, 21, 9, 182, 0, 106]
abbrev dktX0_make_3 : List UInt8 := dkwX0_make_3 ++ dktX0_make_4
def dkwX0_make_2 : List UInt8 := [25, 6, 180, 0, 156, 54, 7, 25, 6, 180, 0, 159, 54, 8, 3, 54, 9, 21, 9, 42, 180, 0, 37]
abbrev dktX0_make_2 : List UInt8 := dkwX0_make_2 ++ dktX0_make_3
def dkwX0_make_1 : List UInt8 := [180, 0, 33, 182, 0, 102, 162, 0, 203, 42, 180, 0, 33, 21, 5, 182, 0, 106, 192, 0, 110, 58, 6]
abbrev dktX0_make_1 : List UInt8 := dkwX0_make_1 ++ dktX0_make_2
def dkwX0_make_0 : List UInt8 := [27, 3, 5, 184, 0, 3, 154, 0, 5, 2, 172, 2, 61, 2, 62, 3, 54, 4, 3, 54, 5, 21, 5, 42]
abbrev dktX0_make_0 : List UInt8 := dkwX0_make_0 ++ dktX0_make_1
theorem dksX0_make_0 : cX0_make.data.toList.drop 0 = dktX0_make_0 := by decide +kernel
theorem dksX0_make_1 : cX0_make.data.toList.drop 24 = dktX0_make_1 := dk_seg dksX0_make_0 24 rfl rfl
theorem dksX0_make_2 : cX0_make.data.toList.drop 47 = dktX0_make_2 := dk_seg dksX0_make_1 23 rfl rfl
theorem dksX0_make_3 : cX0_make.data.toList.drop 70 = dktX0_make_3 := dk_seg dksX0_make_2 23 rfl rfl
theorem dksX0_make_4 : cX0_make.data.toList.drop 92 = dktX0_make_4 := dk_seg dksX0_make_3 22 rfl rfl
theorem dksX0_make_5 : cX0_make.data.toList.drop 116 = dktX0_make_5 := dk_seg dksX0_make_4 24 rfl rfl
theorem dksX0_make_6 : cX0_make.data.toList.drop 140 = dktX0_make_6 := dk_seg dksX0_make_5 24 rfl rfl
theorem dksX0_make_7 : cX0_make.data.toList.drop 162 = dktX0_make_7 := dk_seg dksX0_make_6 22 rfl rfl
theorem dksX0_make_8 : cX0_make.data.toList.drop 186 = dktX0_make_8 := dk_seg dksX0_make_7 24 rfl rfl
theorem dksX0_make_9 : cX0_make.data.toList.drop 208 = dktX0_make_9 := dk_seg dksX0_make_8 22 rfl rfl
theorem dksX0_make_10 : cX0_make.data.toList.drop 230 = dktX0_make_10 := dk_seg dksX0_make_9 22 rfl rfl
theorem dksX0_make_11 : cX0_make.data.toList.drop 252 = dktX0_make_11 := dk_seg dksX0_make_10 22 rfl rfl
theorem dX0_make_0 : decode cX0_make 0 = .ok (.iload_n 1, 1) := dk_27 (dk_at dksX0_make_0 0 rfl rfl)
theorem dX0_make_1 : decode cX0_make 1 = .ok (.iconst 0, 1) := dk_3 (dk_at dksX0_make_0 1 rfl rfl)
theorem dX0_make_2 : decode cX0_make 2 = .ok (.iconst 2, 1) := dk_5 (dk_at dksX0_make_0 2 rfl rfl)
theorem dX0_make_3 : decode cX0_make 3 = .ok (.invokestatic 3, 3) := dk_184 0 3 (dk_at dksX0_make_0 3 rfl rfl)
theorem dX0_make_6 : decode cX0_make 6 = .ok (.ifCond .ne 5, 3) := dk_154 0 5 (dk_at dksX0_make_0 6 rfl rfl)
theorem dX0_make_9 : decode cX0_make 9 = .ok (.iconst (-1), 1) := dk_2 (dk_at dksX0_make_0 9 rfl rfl)
theorem dX0_make_10 : decode cX0_make 10 = .ok (.ireturn, 1) := dk_172 (dk_at dksX0_make_0 10 rfl rfl)
theorem dX0_make_11 : decode cX0_make 11 = .ok (.iconst (-1), 1) := dk_2 (dk_at dksX0_make_0 11 rfl rfl)
theorem dX0_make_12 : decode cX0_make 12 = .ok (.istore_n 2, 1) := dk_61 (dk_at dksX0_make_0 12 rfl rfl)
theorem dX0_make_13 : decode cX0_make 13 = .ok (.iconst (-1), 1) := dk_2 (dk_at dksX0_make_0 13 rfl rfl)
theorem dX0_make_14 : decode cX0_make 14 = .ok (.istore_n 3, 1) := dk_62 (dk_at dksX0_make_0 14 rfl rfl)
theorem dX0_make_15 : decode cX0_make 15 = .ok (.iconst 0, 1) := dk_3 (dk_at dksX0_make_0 15 rfl rfl)
theorem dX0_make_16 : decode cX0_make 16 = .ok (.istore 4, 2) := dk_54 4 (dk_at dksX0_make_0 16 rfl rfl)
theorem dX0_make_18 : decode cX0_make 18 = .ok (.iconst 0, 1) := dk_3 (dk_at dksX0_make_0 18 rfl rfl)
theorem dX0_make_19 : decode cX0_make 19 = .ok (.istore 5, 2) := dk_54 5 (dk_at dksX0_make_0 19 rfl rfl)
theorem dX0_make_21 : decode cX0_make 21 = .ok (.iload 5, 2) := dk_21 5 (dk_at dksX0_make_0 21 rfl rfl)
theorem dX0_make_23 : decode cX0_make 23 = .ok (.aload_n 0, 1) := dk_42 (dk_at dksX0_make_0 23 rfl rfl)
theorem dX0_make_24 : decode cX0_make 24 = .ok (.getfield 33, 3) := dk_180 0 33 (dk_at dksX0_make_1 0 rfl rfl)
theorem dX0_make_27 : decode cX0_make 27 = .ok (.invokevirtual 102, 3) := dk_182 0 102 (dk_at dksX0_make_1 3 rfl rfl)
theorem dX0_make_30 : decode cX0_make 30 = .ok (.if_icmp .ge 203, 3) := dk_162 0 203 (dk_at dksX0_make_1 6 rfl rfl)
theorem dX0_make_33 : decode cX0_make 33 = .ok (.aload_n 0, 1) := dk_42 (dk_at dksX0_make_1 9 rfl rfl)
theorem dX0_make_34 : decode cX0_make 34 = .ok (.getfield 33, 3) := dk_180 0 33 (dk_at dksX0_make_1 10 rfl rfl)
theorem dX0_make_37 : decode cX0_make 37 = .ok (.iload 5, 2) := dk_21 5 (dk_at dksX0_make_1 13 rfl rfl)
theorem dX0_make_39 : decode cX0_make 39 = .ok (.invokevirtual 106, 3) := dk_182 0 106 (dk_at dksX0_make_1 15 rfl rfl)
theorem dX0_make_42 : decode cX0_make 42 = .ok (.checkcast 110, 3) := dk_192 0 110 (dk_at dksX0_make_1 18 rfl rfl)
theorem dX0_make_45 : decode cX0_make 45 = .ok (.astore 6, 2) := dk_58 6 (dk_at dksX0_make_1 21 rfl rfl)
theorem dX0_make_47 : decode cX0_make 47 = .ok (.aload 6, 2) := dk_25 6 (dk_at dksX0_make_2 0 rfl rfl)
theorem dX0_make_49 : decode cX0_make 49 = .ok (.getfield 156, 3) := dk_180 0 156 (dk_at dksX0_make_2 2 rfl rfl)
theorem dX0_make_52 : decode cX0_make 52 = .ok (.istore 7, 2) := dk_54 7 (dk_at dksX0_make_2 5 rfl rfl)
theorem dX0_make_54 : decode cX0_make 54 = .ok (.aload 6, 2) := dk_25 6 (dk_at dksX0_make_2 7 rfl rfl)
theorem dX0_make_56 : decode cX0_make 56 = .ok (.getfield 159, 3) := dk_180 0 159 (dk_at dksX0_make_2 9 rfl rfl)
theorem dX0_make_59 : decode cX0_make 59 = .ok (.istore 8, 2) := dk_54 8 (dk_at dksX0_make_2 12 rfl rfl)
theorem dX0_make_61 : decode cX0_make 61 = .ok (.iconst 0, 1) := dk_3 (dk_at dksX0_make_2 14 rfl rfl)
theorem dX0_make_62 : decode cX0_make 62 = .ok (.istore 9, 2) := dk_54 9 (dk_at dksX0_make_2 15 rfl rfl)
theorem dX0_make_64 : decode cX0_make 64 = .ok (.iload 9, 2) := dk_21 9 (dk_at dksX0_make_2 17 rfl rfl)
theorem dX0_make_66 : decode cX0_make 66 = .ok (.aload_n 0, 1) := dk_42 (dk_at dksX0_make_2 19 rfl rfl)
theorem dX0_make_67 : decode cX0_make 67 = .ok (.getfield 37, 3) := dk_180 0 37 (dk_at dksX0_make_2 20 rfl rfl)
theorem dX0_make_70 : decode cX0_make 70 = .ok (.invokevirtual 102, 3) := dk_182 0 102 (dk_at dksX0_make_3 0 rfl rfl)
theorem dX0_make_73 : decode cX0_make 73 = .ok (.if_icmp .ge 154, 3) := dk_162 0 154 (dk_at dksX0_make_3 3 rfl rfl)
theorem dX0_make_76 : decode cX0_make 76 = .ok (.aload 6, 2) := dk_25 6 (dk_at dksX0_make_3 6 rfl rfl)
theorem dX0_make_78 : decode cX0_make 78 = .ok (.getfield 144, 3) := dk_180 0 144 (dk_at dksX0_make_3 8 rfl rfl)
theorem dX0_make_81 : decode cX0_make 81 = .ok (.aload 6, 2) := dk_25 6 (dk_at dksX0_make_3 11 rfl rfl)
theorem dX0_make_83 : decode cX0_make 83 = .ok (.aload_n 0, 1) := dk_42 (dk_at dksX0_make_3 13 rfl rfl)
theorem dX0_make_84 : decode cX0_make 84 = .ok (.getfield 37, 3) := dk_180 0 37 (dk_at dksX0_make_3 14 rfl rfl)
theorem dX0_make_87 : decode cX0_make 87 = .ok (.iload 9, 2) := dk_21 9 (dk_at dksX0_make_3 17 rfl rfl)
theorem dX0_make_89 : decode cX0_make 89 = .ok (.invokevirtual 106, 3) := dk_182 0 106 (dk_at dksX0_make_3 19 rfl rfl)
theorem dX0_make_92 : decode cX0_make 92 = .ok (.checkcast 112, 3) := dk_192 0 112 (dk_at dksX0_make_4 0 rfl rfl)
theorem dX0_make_95 : decode cX0_make 95 = .ok (.getfield 175, 3) := dk_180 0 175 (dk_at dksX0_make_4 3 rfl rfl)
theorem dX0_make_98 : decode cX0_make 98 = .ok (.aload_n 0, 1) := dk_42 (dk_at dksX0_make_4 6 rfl rfl)
theorem dX0_make_99 : decode cX0_make 99 = .ok (.getfield 37, 3) := dk_180 0 37 (dk_at dksX0_make_4 7 rfl rfl)
theorem dX0_make_102 : decode cX0_make 102 = .ok (.iload 9, 2) := dk_21 9 (dk_at dksX0_make_4 10 rfl rfl)
theorem dX0_make_104 : decode cX0_make 104 = .ok (.invokevirtual 106, 3) := dk_182 0 106 (dk_at dksX0_make_4 12 rfl rfl)
theorem dX0_make_107 : decode cX0_make 107 = .ok (.checkcast 112, 3) := dk_192 0 112 (dk_at dksX0_make_4 15 rfl rfl)
theorem dX0_make_110 : decode cX0_make 110 = .ok (.getfield 176, 3) := dk_180 0 176 (dk_at dksX0_make_4 18 rfl rfl)
theorem dX0_make_113 : decode cX0_make 113 = .ok (.invokevirtual 377, 3) := dk_182 1 121 (dk_at dksX0_make_4 21 rfl rfl)
theorem dX0_make_116 : decode cX0_make 116 = .ok (.imul, 1) := dk_104 (dk_at dksX0_make_5 0 rfl rfl)
theorem dX0_make_117 : decode cX0_make 117 = .ok (.istore 10, 2) := dk_54 10 (dk_at dksX0_make_5 1 rfl rfl)
theorem dX0_make_119 : decode cX0_make 119 = .ok (.iload_n 2, 1) := dk_28 (dk_at dksX0_make_5 3 rfl rfl)
theorem dX0_make_120 : decode cX0_make 120 = .ok (.iconst (-1), 1) := dk_2 (dk_at dksX0_make_5 4 rfl rfl)
theorem dX0_make_121 : decode cX0_make 121 = .ok (.if_icmp .eq 13, 3) := dk_159 0 13 (dk_at dksX0_make_5 5 rfl rfl)
theorem dX0_make_124 : decode cX0_make 124 = .ok (.iload 10, 2) := dk_21 10 (dk_at dksX0_make_5 8 rfl rfl)
theorem dX0_make_126 : decode cX0_make 126 = .ok (.iload 4, 2) := dk_21 4 (dk_at dksX0_make_5 10 rfl rfl)
theorem dX0_make_128 : decode cX0_make 128 = .ok (.if_icmp .lt 6, 3) := dk_161 0 6 (dk_at dksX0_make_5 12 rfl rfl)
theorem dX0_make_131 : decode cX0_make 131 = .ok (.goto 90, 3) := dk_167 0 90 (dk_at dksX0_make_5 15 rfl rfl)
theorem dX0_make_134 : decode cX0_make 134 = .ok (.aload 6, 2) := dk_25 6 (dk_at dksX0_make_5 18 rfl rfl)
theorem dX0_make_136 : decode cX0_make 136 = .ok (.aload_n 0, 1) := dk_42 (dk_at dksX0_make_5 20 rfl rfl)
theorem dX0_make_137 : decode cX0_make 137 = .ok (.getfield 37, 3) := dk_180 0 37 (dk_at dksX0_make_5 21 rfl rfl)
theorem dX0_make_140 : decode cX0_make 140 = .ok (.iload 9, 2) := dk_21 9 (dk_at dksX0_make_6 0 rfl rfl)
theorem dX0_make_142 : decode cX0_make 142 = .ok (.invokevirtual 106, 3) := dk_182 0 106 (dk_at dksX0_make_6 2 rfl rfl)
theorem dX0_make_145 : decode cX0_make 145 = .ok (.checkcast 112, 3) := dk_192 0 112 (dk_at dksX0_make_6 5 rfl rfl)
theorem dX0_make_148 : decode cX0_make 148 = .ok (.getfield 175, 3) := dk_180 0 175 (dk_at dksX0_make_6 8 rfl rfl)
theorem dX0_make_151 : decode cX0_make 151 = .ok (.putfield 156, 3) := dk_181 0 156 (dk_at dksX0_make_6 11 rfl rfl)
theorem dX0_make_154 : decode cX0_make 154 = .ok (.aload 6, 2) := dk_25 6 (dk_at dksX0_make_6 14 rfl rfl)
theorem dX0_make_156 : decode cX0_make 156 = .ok (.aload_n 0, 1) := dk_42 (dk_at dksX0_make_6 16 rfl rfl)
theorem dX0_make_157 : decode cX0_make 157 = .ok (.getfield 37, 3) := dk_180 0 37 (dk_at dksX0_make_6 17 rfl rfl)
theorem dX0_make_160 : decode cX0_make 160 = .ok (.iload 9, 2) := dk_21 9 (dk_at dksX0_make_6 20 rfl rfl)
theorem dX0_make_162 : decode cX0_make 162 = .ok (.invokevirtual 106, 3) := dk_182 0 106 (dk_at dksX0_make_7 0 rfl rfl)
theorem dX0_make_165 : decode cX0_make 165 = .ok (.checkcast 112, 3) := dk_192 0 112 (dk_at dksX0_make_7 3 rfl rfl)
theorem dX0_make_168 : decode cX0_make 168 = .ok (.getfield 176, 3) := dk_180 0 176 (dk_at dksX0_make_7 6 rfl rfl)
theorem dX0_make_171 : decode cX0_make 171 = .ok (.putfield 159, 3) := dk_181 0 159 (dk_at dksX0_make_7 9 rfl rfl)
theorem dX0_make_174 : decode cX0_make 174 = .ok (.aload_n 0, 1) := dk_42 (dk_at dksX0_make_7 12 rfl rfl)
theorem dX0_make_175 : decode cX0_make 175 = .ok (.invokevirtual 380, 3) := dk_182 1 124 (dk_at dksX0_make_7 13 rfl rfl)
theorem dX0_make_178 : decode cX0_make 178 = .ok (.iconst (-1), 1) := dk_2 (dk_at dksX0_make_7 16 rfl rfl)
theorem dX0_make_179 : decode cX0_make 179 = .ok (.if_icmp .eq 7, 3) := dk_159 0 7 (dk_at dksX0_make_7 17 rfl rfl)
theorem dX0_make_182 : decode cX0_make 182 = .ok (.iconst 1, 1) := dk_4 (dk_at dksX0_make_7 20 rfl rfl)
theorem dX0_make_183 : decode cX0_make 183 = .ok (.goto 4, 3) := dk_167 0 4 (dk_at dksX0_make_7 21 rfl rfl)
theorem dX0_make_186 : decode cX0_make 186 = .ok (.iconst 0, 1) := dk_3 (dk_at dksX0_make_8 0 rfl rfl)
theorem dX0_make_187 : decode cX0_make 187 = .ok (.istore 11, 2) := dk_54 11 (dk_at dksX0_make_8 1 rfl rfl)
theorem dX0_make_189 : decode cX0_make 189 = .ok (.aload 6, 2) := dk_25 6 (dk_at dksX0_make_8 3 rfl rfl)
theorem dX0_make_191 : decode cX0_make 191 = .ok (.iload 7, 2) := dk_21 7 (dk_at dksX0_make_8 5 rfl rfl)
theorem dX0_make_193 : decode cX0_make 193 = .ok (.putfield 156, 3) := dk_181 0 156 (dk_at dksX0_make_8 7 rfl rfl)
theorem dX0_make_196 : decode cX0_make 196 = .ok (.aload 6, 2) := dk_25 6 (dk_at dksX0_make_8 10 rfl rfl)
theorem dX0_make_198 : decode cX0_make 198 = .ok (.iload 8, 2) := dk_21 8 (dk_at dksX0_make_8 12 rfl rfl)
theorem dX0_make_200 : decode cX0_make 200 = .ok (.putfield 159, 3) := dk_181 0 159 (dk_at dksX0_make_8 14 rfl rfl)
theorem dX0_make_203 : decode cX0_make 203 = .ok (.iload 11, 2) := dk_21 11 (dk_at dksX0_make_8 17 rfl rfl)
theorem dX0_make_205 : decode cX0_make 205 = .ok (.ifCond .ne 6, 3) := dk_154 0 6 (dk_at dksX0_make_8 19 rfl rfl)
theorem dX0_make_208 : decode cX0_make 208 = .ok (.goto 13, 3) := dk_167 0 13 (dk_at dksX0_make_9 0 rfl rfl)
theorem dX0_make_211 : decode cX0_make 211 = .ok (.iload 5, 2) := dk_21 5 (dk_at dksX0_make_9 3 rfl rfl)
theorem dX0_make_213 : decode cX0_make 213 = .ok (.istore_n 2, 1) := dk_61 (dk_at dksX0_make_9 5 rfl rfl)
theorem dX0_make_214 : decode cX0_make 214 = .ok (.iload 9, 2) := dk_21 9 (dk_at dksX0_make_9 6 rfl rfl)
theorem dX0_make_216 : decode cX0_make 216 = .ok (.istore_n 3, 1) := dk_62 (dk_at dksX0_make_9 8 rfl rfl)
theorem dX0_make_217 : decode cX0_make 217 = .ok (.iload 10, 2) := dk_21 10 (dk_at dksX0_make_9 9 rfl rfl)
theorem dX0_make_219 : decode cX0_make 219 = .ok (.istore 4, 2) := dk_54 4 (dk_at dksX0_make_9 11 rfl rfl)
theorem dX0_make_221 : decode cX0_make 221 = .ok (.iinc 9 1, 3) := dk_132 9 1 (dk_at dksX0_make_9 13 rfl rfl)
theorem dX0_make_224 : decode cX0_make 224 = .ok (.goto (-160), 3) := dk_167 255 96 (dk_at dksX0_make_9 16 rfl rfl)
theorem dX0_make_227 : decode cX0_make 227 = .ok (.iinc 5 1, 3) := dk_132 5 1 (dk_at dksX0_make_9 19 rfl rfl)
theorem dX0_make_230 : decode cX0_make 230 = .ok (.goto (-209), 3) := dk_167 255 47 (dk_at dksX0_make_10 0 rfl rfl)
theorem dX0_make_233 : decode cX0_make 233 = .ok (.iload_n 2, 1) := dk_28 (dk_at dksX0_make_10 3 rfl rfl)
theorem dX0_make_234 : decode cX0_make 234 = .ok (.iconst (-1), 1) := dk_2 (dk_at dksX0_make_10 4 rfl rfl)
theorem dX0_make_235 : decode cX0_make 235 = .ok (.if_icmp .ne 7, 3) := dk_160 0 7 (dk_at dksX0_make_10 5 rfl rfl)
theorem dX0_make_238 : decode cX0_make 238 = .ok (.iconst (-1), 1) := dk_2 (dk_at dksX0_make_10 8 rfl rfl)
theorem dX0_make_239 : decode cX0_make 239 = .ok (.goto 22, 3) := dk_167 0 22 (dk_at dksX0_make_10 9 rfl rfl)
theorem dX0_make_242 : decode cX0_make 242 = .ok (.iload_n 1, 1) := dk_27 (dk_at dksX0_make_10 12 rfl rfl)
theorem dX0_make_243 : decode cX0_make 243 = .ok (.ifCond .ne 7, 3) := dk_154 0 7 (dk_at dksX0_make_10 13 rfl rfl)
theorem dX0_make_246 : decode cX0_make 246 = .ok (.iload_n 2, 1) := dk_28 (dk_at dksX0_make_10 16 rfl rfl)
theorem dX0_make_247 : decode cX0_make 247 = .ok (.goto 14, 3) := dk_167 0 14 (dk_at dksX0_make_10 17 rfl rfl)
theorem dX0_make_250 : decode cX0_make 250 = .ok (.iload_n 1, 1) := dk_27 (dk_at dksX0_make_10 20 rfl rfl)
theorem dX0_make_251 : decode cX0_make 251 = .ok (.iconst 1, 1) := dk_4 (dk_at dksX0_make_10 21 rfl rfl)
theorem dX0_make_252 : decode cX0_make 252 = .ok (.if_icmp .ne 7, 3) := dk_160 0 7 (dk_at dksX0_make_11 0 rfl rfl)
theorem dX0_make_255 : decode cX0_make 255 = .ok (.iload_n 3, 1) := dk_29 (dk_at dksX0_make_11 3 rfl rfl)
theorem dX0_make_256 : decode cX0_make 256 = .ok (.goto 5, 3) := dk_167 0 5 (dk_at dksX0_make_11 4 rfl rfl)
theorem dX0_make_259 : decode cX0_make 259 = .ok (.iload 4, 2) := dk_21 4 (dk_at dksX0_make_11 7 rfl rfl)
theorem dX0_make_261 : decode cX0_make 261 = .ok (.ireturn, 1) := dk_172 (dk_at dksX0_make_11 9 rfl rfl)
def dkwX0_join_12 : List UInt8 := [46, 181, 0, 159, 132, 7, 1, 167, 255, 207, 21, 6, 172]
abbrev dktX0_join_12 : List UInt8 := dkwX0_join_12 ++ []
def dkwX0_join_11 : List UInt8 := [25, 4, 21, 7, 46, 181, 0, 156, 42, 180, 0, 33, 21, 7, 182, 0, 106, 192, 0, 110, 25, 5, 21, 7]
abbrev dktX0_join_11 : List UInt8 := dkwX0_join_11 ++ dktX0_join_12
def dkwX0_join_10 : List UInt8 := [167, 255, 114, 3, 54, 7, 21, 7, 29, 162, 0, 49, 42, 180, 0, 33, 21, 7, 182, 0, 106, 192, 0, 110]
abbrev dktX0_join_10 : List UInt8 := dkwX0_join_10 ++ dktX0_join_11
def dkwX0_join_9 : List UInt8 := [181, 0, 159, 132, 8, 1, 167, 255, 165, 42, 27, 182, 1, 118, 153, 0, 7, 21, 7, 54, 6, 132, 7, 1]
abbrev dktX0_join_9 : List UInt8 := dkwX0_join_9 ++ dktX0_join_10
def dkwX0_join_8 : List UInt8 := [182, 0, 106, 192, 0, 110, 21, 9, 153, 0, 10, 44, 180, 0, 176, 167, 0, 8, 25, 5, 21, 8, 46]
abbrev dktX0_join_8 : List UInt8 := dkwX0_join_8 ++ dktX0_join_9
def dkwX0_join_7 : List UInt8 := [153, 0, 10, 44, 180, 0, 175, 167, 0, 8, 25, 4, 21, 8, 46, 181, 0, 156, 42, 180, 0, 33, 21, 8]
abbrev dktX0_join_7 : List UInt8 := dkwX0_join_7 ++ dktX0_join_8
def dkwX0_join_6 : List UInt8 := [160, 0, 7, 4, 167, 0, 4, 3, 54, 9, 42, 180, 0, 33, 21, 8, 182, 0, 106, 192, 0, 110, 21, 9]
abbrev dktX0_join_6 : List UInt8 := dkwX0_join_6 ++ dktX0_join_7
def dkwX0_join_5 : List UInt8 := [161, 0, 6, 167, 0, 112, 3, 54, 8, 21, 8, 29, 162, 0, 91, 21, 7, 21, 8, 122, 4, 126, 4]
abbrev dktX0_join_5 : List UInt8 := dkwX0_join_5 ++ dktX0_join_6
def dkwX0_join_4 : List UInt8 := [21, 7, 4, 29, 120, 162, 0, 140, 21, 6, 2, 159, 0, 19, 21, 7, 184, 1, 103, 21, 6, 184, 1, 103]
abbrev dktX0_join_4 : List UInt8 := dkwX0_join_4 ++ dktX0_join_5
def dkwX0_join_3 : List UInt8 := [21, 6, 182, 0, 106, 192, 0, 110, 180, 0, 159, 79, 132, 6, 1, 167, 255, 207, 2, 54, 6, 3, 54, 7]
abbrev dktX0_join_3 : List UInt8 := dkwX0_join_3 ++ dktX0_join_4
def dkwX0_join_2 : List UInt8 := [42, 180, 0, 33, 21, 6, 182, 0, 106, 192, 0, 110, 180, 0, 156, 79, 25, 5, 21, 6, 42, 180, 0, 33]
abbrev dktX0_join_2 : List UInt8 := dkwX0_join_2 ++ dktX0_join_3
def dkwX0_join_1 : List UInt8 := [62, 29, 188, 10, 58, 4, 29, 188, 10, 58, 5, 3, 54, 6, 21, 6, 29, 162, 0, 49, 25, 4, 21, 6]
abbrev dktX0_join_1 : List UInt8 := dkwX0_join_1 ++ dktX0_join_2
def dkwX0_join_0 : List UInt8 := [42, 27, 182, 0, 171, 77, 44, 199, 0, 5, 2, 172, 16, 9, 42, 180, 0, 33, 182, 0, 102, 184, 1, 87]
abbrev dktX0_join_0 : List UInt8 := dkwX0_join_0 ++ dktX0_join_1
theorem dksX0_join_0 : cX0_join.data.toList.drop 0 = dktX0_join_0 := by decide +kernel
theorem dksX0_join_1 : cX0_join.data.toList.drop 24 = dktX0_join_1 := dk_seg dksX0_join_0 24 rfl rfl
theorem dksX0_join_2 : cX0_join.data.toList.drop 48 = dktX0_join_2 := dk_seg dksX0_join_1 24 rfl rfl
theorem dksX0_join_3 : cX0_join.data.toList.drop 72 = dktX0_join_3 := dk_seg dksX0_join_2 24 rfl rfl
theorem dksX0_join_4 : cX0_join.data.toList.drop 96 = dktX0_join_4 := dk_seg dksX0_join_3 24 rfl rfl
theorem dksX0_join_5 : cX0_join.data.toList.drop 120 = dktX0_join_5 := dk_seg dksX0_join_4 24 rfl rfl
theorem dksX0_join_6 : cX0_join.data.toList.drop 143 = dktX0_join_6 := dk_seg dksX0_join_5 23 rfl rfl
theorem dksX0_join_7 : cX0_join.data.toList.drop 167 = dktX0_join_7 := dk_seg dksX0_join_6 24 rfl rfl
theorem dksX0_join_8 : cX0_join.data.toList.drop 191 = dktX0_join_8 := dk_seg dksX0_join_7 24 rfl rfl
theorem dksX0_join_9 : cX0_join.data.toList.drop 214 = dktX0_join_9 := dk_seg dksX0_join_8 23 rfl rfl
theorem dksX0_join_10 : cX0_join.data.toList.drop 238 = dktX0_join_10 := dk_seg dksX0_join_9 24 rfl rfl
theorem dksX0_join_11 : cX0_join.data.toList.drop 262 = dktX0_join_11 := dk_seg dksX0_join_10 24 rfl rfl
theorem dksX0_join_12 : cX0_join.data.toList.drop 286 = dktX0_join_12 := dk_seg dksX0_join_11 24 rfl rfl
theorem dX0_join_0 : decode cX0_join 0 = .ok (.aload_n 0, 1) := dk_42 (dk_at dksX0_join_0 0 rfl rfl)
theorem dX0_join_1 : decode cX0_join 1 = .ok (.iload_n 1, 1) := dk_27 (dk_at dksX0_join_0 1 rfl rfl)
theorem dX0_join_2 : decode cX0_join 2 = .ok (.invokevirtual 171, 3) := dk_182 0 171 (dk_at dksX0_join_0 2 rfl rfl)
theorem dX0_join_5 : decode cX0_join 5 = .ok (.astore_n 2, 1) := dk_77 (dk_at dksX0_join_0 5 rfl rfl)
theorem dX0_join_6 : decode cX0_join 6 = .ok (.aload_n 2, 1) := dk_44 (dk_at dksX0_join_0 6 rfl rfl)
theorem dX0_join_7 : decode cX0_join 7 = .ok (.ifnonnull 5, 3) := dk_199 0 5 (dk_at dksX0_join_0 7 rfl rfl)
theorem dX0_join_10 : decode cX0_join 10 = .ok (.iconst (-1), 1) := dk_2 (dk_at dksX0_join_0 10 rfl rfl)
theorem dX0_join_11 : decode cX0_join 11 = .ok (.ireturn, 1) := dk_172 (dk_at dksX0_join_0 11 rfl rfl)
theorem dX0_join_12 : decode cX0_join 12 = .ok (.bipush 9, 2) := dk_16 9 (dk_at dksX0_join_0 12 rfl rfl)
theorem dX0_join_14 : decode cX0_join 14 = .ok (.aload_n 0, 1) := dk_42 (dk_at dksX0_join_0 14 rfl rfl)
theorem dX0_join_15 : decode cX0_join 15 = .ok (.getfield 33, 3) := dk_180 0 33 (dk_at dksX0_join_0 15 rfl rfl)
theorem dX0_join_18 : decode cX0_join 18 = .ok (.invokevirtual 102, 3) := dk_182 0 102 (dk_at dksX0_join_0 18 rfl rfl)
theorem dX0_join_21 : decode cX0_join 21 = .ok (.invokestatic 343, 3) := dk_184 1 87 (dk_at dksX0_join_0 21 rfl rfl)
theorem dX0_join_24 : decode cX0_join 24 = .ok (.istore_n 3, 1) := dk_62 (dk_at dksX0_join_1 0 rfl rfl)
theorem dX0_join_25 : decode cX0_join 25 = .ok (.iload_n 3, 1) := dk_29 (dk_at dksX0_join_1 1 rfl rfl)
theorem dX0_join_26 : decode cX0_join 26 = .ok (.newarray .int, 2) := dk_188_10 (dk_at dksX0_join_1 2 rfl rfl)
theorem dX0_join_28 : decode cX0_join 28 = .ok (.astore 4, 2) := dk_58 4 (dk_at dksX0_join_1 4 rfl rfl)
theorem dX0_join_30 : decode cX0_join 30 = .ok (.iload_n 3, 1) := dk_29 (dk_at dksX0_join_1 6 rfl rfl)
theorem dX0_join_31 : decode cX0_join 31 = .ok (.newarray .int, 2) := dk_188_10 (dk_at dksX0_join_1 7 rfl rfl)
theorem dX0_join_33 : decode cX0_join 33 = .ok (.astore 5, 2) := dk_58 5 (dk_at dksX0_join_1 9 rfl rfl)
theorem dX0_join_35 : decode cX0_join 35 = .ok (.iconst 0, 1) := dk_3 (dk_at dksX0_join_1 11 rfl rfl)
theorem dX0_join_36 : decode cX0_join 36 = .ok (.istore 6, 2) := dk_54 6 (dk_at dksX0_join_1 12 rfl rfl)
theorem dX0_join_38 : decode cX0_join 38 = .ok (.iload 6, 2) := dk_21 6 (dk_at dksX0_join_1 14 rfl rfl)
theorem dX0_join_40 : decode cX0_join 40 = .ok (.iload_n 3, 1) := dk_29 (dk_at dksX0_join_1 16 rfl rfl)
theorem dX0_join_41 : decode cX0_join 41 = .ok (.if_icmp .ge 49, 3) := dk_162 0 49 (dk_at dksX0_join_1 17 rfl rfl)
theorem dX0_join_44 : decode cX0_join 44 = .ok (.aload 4, 2) := dk_25 4 (dk_at dksX0_join_1 20 rfl rfl)
theorem dX0_join_46 : decode cX0_join 46 = .ok (.iload 6, 2) := dk_21 6 (dk_at dksX0_join_1 22 rfl rfl)
theorem dX0_join_48 : decode cX0_join 48 = .ok (.aload_n 0, 1) := dk_42 (dk_at dksX0_join_2 0 rfl rfl)
theorem dX0_join_49 : decode cX0_join 49 = .ok (.getfield 33, 3) := dk_180 0 33 (dk_at dksX0_join_2 1 rfl rfl)
theorem dX0_join_52 : decode cX0_join 52 = .ok (.iload 6, 2) := dk_21 6 (dk_at dksX0_join_2 4 rfl rfl)
theorem dX0_join_54 : decode cX0_join 54 = .ok (.invokevirtual 106, 3) := dk_182 0 106 (dk_at dksX0_join_2 6 rfl rfl)
theorem dX0_join_57 : decode cX0_join 57 = .ok (.checkcast 110, 3) := dk_192 0 110 (dk_at dksX0_join_2 9 rfl rfl)
theorem dX0_join_60 : decode cX0_join 60 = .ok (.getfield 156, 3) := dk_180 0 156 (dk_at dksX0_join_2 12 rfl rfl)
theorem dX0_join_63 : decode cX0_join 63 = .ok (.iastore, 1) := dk_79 (dk_at dksX0_join_2 15 rfl rfl)
theorem dX0_join_64 : decode cX0_join 64 = .ok (.aload 5, 2) := dk_25 5 (dk_at dksX0_join_2 16 rfl rfl)
theorem dX0_join_66 : decode cX0_join 66 = .ok (.iload 6, 2) := dk_21 6 (dk_at dksX0_join_2 18 rfl rfl)
theorem dX0_join_68 : decode cX0_join 68 = .ok (.aload_n 0, 1) := dk_42 (dk_at dksX0_join_2 20 rfl rfl)
theorem dX0_join_69 : decode cX0_join 69 = .ok (.getfield 33, 3) := dk_180 0 33 (dk_at dksX0_join_2 21 rfl rfl)
theorem dX0_join_72 : decode cX0_join 72 = .ok (.iload 6, 2) := dk_21 6 (dk_at dksX0_join_3 0 rfl rfl)
theorem dX0_join_74 : decode cX0_join 74 = .ok (.invokevirtual 106, 3) := dk_182 0 106 (dk_at dksX0_join_3 2 rfl rfl)
theorem dX0_join_77 : decode cX0_join 77 = .ok (.checkcast 110, 3) := dk_192 0 110 (dk_at dksX0_join_3 5 rfl rfl)
theorem dX0_join_80 : decode cX0_join 80 = .ok (.getfield 159, 3) := dk_180 0 159 (dk_at dksX0_join_3 8 rfl rfl)
theorem dX0_join_83 : decode cX0_join 83 = .ok (.iastore, 1) := dk_79 (dk_at dksX0_join_3 11 rfl rfl)
theorem dX0_join_84 : decode cX0_join 84 = .ok (.iinc 6 1, 3) := dk_132 6 1 (dk_at dksX0_join_3 12 rfl rfl)
theorem dX0_join_87 : decode cX0_join 87 = .ok (.goto (-49), 3) := dk_167 255 207 (dk_at dksX0_join_3 15 rfl rfl)
theorem dX0_join_90 : decode cX0_join 90 = .ok (.iconst (-1), 1) := dk_2 (dk_at dksX0_join_3 18 rfl rfl)
theorem dX0_join_91 : decode cX0_join 91 = .ok (.istore 6, 2) := dk_54 6 (dk_at dksX0_join_3 19 rfl rfl)
theorem dX0_join_93 : decode cX0_join 93 = .ok (.iconst 0, 1) := dk_3 (dk_at dksX0_join_3 21 rfl rfl)
theorem dX0_join_94 : decode cX0_join 94 = .ok (.istore 7, 2) := dk_54 7 (dk_at dksX0_join_3 22 rfl rfl)
theorem dX0_join_96 : decode cX0_join 96 = .ok (.iload 7, 2) := dk_21 7 (dk_at dksX0_join_4 0 rfl rfl)
theorem dX0_join_98 : decode cX0_join 98 = .ok (.iconst 1, 1) := dk_4 (dk_at dksX0_join_4 2 rfl rfl)
theorem dX0_join_99 : decode cX0_join 99 = .ok (.iload_n 3, 1) := dk_29 (dk_at dksX0_join_4 3 rfl rfl)
theorem dX0_join_100 : decode cX0_join 100 = .ok (.ishl, 1) := dk_120 (dk_at dksX0_join_4 4 rfl rfl)
theorem dX0_join_101 : decode cX0_join 101 = .ok (.if_icmp .ge 140, 3) := dk_162 0 140 (dk_at dksX0_join_4 5 rfl rfl)
theorem dX0_join_104 : decode cX0_join 104 = .ok (.iload 6, 2) := dk_21 6 (dk_at dksX0_join_4 8 rfl rfl)
theorem dX0_join_106 : decode cX0_join 106 = .ok (.iconst (-1), 1) := dk_2 (dk_at dksX0_join_4 10 rfl rfl)
theorem dX0_join_107 : decode cX0_join 107 = .ok (.if_icmp .eq 19, 3) := dk_159 0 19 (dk_at dksX0_join_4 11 rfl rfl)
theorem dX0_join_110 : decode cX0_join 110 = .ok (.iload 7, 2) := dk_21 7 (dk_at dksX0_join_4 14 rfl rfl)
theorem dX0_join_112 : decode cX0_join 112 = .ok (.invokestatic 359, 3) := dk_184 1 103 (dk_at dksX0_join_4 16 rfl rfl)
theorem dX0_join_115 : decode cX0_join 115 = .ok (.iload 6, 2) := dk_21 6 (dk_at dksX0_join_4 19 rfl rfl)
theorem dX0_join_117 : decode cX0_join 117 = .ok (.invokestatic 359, 3) := dk_184 1 103 (dk_at dksX0_join_4 21 rfl rfl)
theorem dX0_join_120 : decode cX0_join 120 = .ok (.if_icmp .lt 6, 3) := dk_161 0 6 (dk_at dksX0_join_5 0 rfl rfl)
theorem dX0_join_123 : decode cX0_join 123 = .ok (.goto 112, 3) := dk_167 0 112 (dk_at dksX0_join_5 3 rfl rfl)
theorem dX0_join_126 : decode cX0_join 126 = .ok (.iconst 0, 1) := dk_3 (dk_at dksX0_join_5 6 rfl rfl)
theorem dX0_join_127 : decode cX0_join 127 = .ok (.istore 8, 2) := dk_54 8 (dk_at dksX0_join_5 7 rfl rfl)
theorem dX0_join_129 : decode cX0_join 129 = .ok (.iload 8, 2) := dk_21 8 (dk_at dksX0_join_5 9 rfl rfl)
theorem dX0_join_131 : decode cX0_join 131 = .ok (.iload_n 3, 1) := dk_29 (dk_at dksX0_join_5 11 rfl rfl)
theorem dX0_join_132 : decode cX0_join 132 = .ok (.if_icmp .ge 91, 3) := dk_162 0 91 (dk_at dksX0_join_5 12 rfl rfl)
theorem dX0_join_135 : decode cX0_join 135 = .ok (.iload 7, 2) := dk_21 7 (dk_at dksX0_join_5 15 rfl rfl)
theorem dX0_join_137 : decode cX0_join 137 = .ok (.iload 8, 2) := dk_21 8 (dk_at dksX0_join_5 17 rfl rfl)
theorem dX0_join_139 : decode cX0_join 139 = .ok (.ishr, 1) := dk_122 (dk_at dksX0_join_5 19 rfl rfl)
theorem dX0_join_140 : decode cX0_join 140 = .ok (.iconst 1, 1) := dk_4 (dk_at dksX0_join_5 20 rfl rfl)
theorem dX0_join_141 : decode cX0_join 141 = .ok (.iand, 1) := dk_126 (dk_at dksX0_join_5 21 rfl rfl)
theorem dX0_join_142 : decode cX0_join 142 = .ok (.iconst 1, 1) := dk_4 (dk_at dksX0_join_5 22 rfl rfl)
theorem dX0_join_143 : decode cX0_join 143 = .ok (.if_icmp .ne 7, 3) := dk_160 0 7 (dk_at dksX0_join_6 0 rfl rfl)
theorem dX0_join_146 : decode cX0_join 146 = .ok (.iconst 1, 1) := dk_4 (dk_at dksX0_join_6 3 rfl rfl)
theorem dX0_join_147 : decode cX0_join 147 = .ok (.goto 4, 3) := dk_167 0 4 (dk_at dksX0_join_6 4 rfl rfl)
theorem dX0_join_150 : decode cX0_join 150 = .ok (.iconst 0, 1) := dk_3 (dk_at dksX0_join_6 7 rfl rfl)
theorem dX0_join_151 : decode cX0_join 151 = .ok (.istore 9, 2) := dk_54 9 (dk_at dksX0_join_6 8 rfl rfl)
theorem dX0_join_153 : decode cX0_join 153 = .ok (.aload_n 0, 1) := dk_42 (dk_at dksX0_join_6 10 rfl rfl)
theorem dX0_join_154 : decode cX0_join 154 = .ok (.getfield 33, 3) := dk_180 0 33 (dk_at dksX0_join_6 11 rfl rfl)
theorem dX0_join_157 : decode cX0_join 157 = .ok (.iload 8, 2) := dk_21 8 (dk_at dksX0_join_6 14 rfl rfl)
theorem dX0_join_159 : decode cX0_join 159 = .ok (.invokevirtual 106, 3) := dk_182 0 106 (dk_at dksX0_join_6 16 rfl rfl)
theorem dX0_join_162 : decode cX0_join 162 = .ok (.checkcast 110, 3) := dk_192 0 110 (dk_at dksX0_join_6 19 rfl rfl)
theorem dX0_join_165 : decode cX0_join 165 = .ok (.iload 9, 2) := dk_21 9 (dk_at dksX0_join_6 22 rfl rfl)
theorem dX0_join_167 : decode cX0_join 167 = .ok (.ifCond .eq 10, 3) := dk_153 0 10 (dk_at dksX0_join_7 0 rfl rfl)
theorem dX0_join_170 : decode cX0_join 170 = .ok (.aload_n 2, 1) := dk_44 (dk_at dksX0_join_7 3 rfl rfl)
theorem dX0_join_171 : decode cX0_join 171 = .ok (.getfield 175, 3) := dk_180 0 175 (dk_at dksX0_join_7 4 rfl rfl)
theorem dX0_join_174 : decode cX0_join 174 = .ok (.goto 8, 3) := dk_167 0 8 (dk_at dksX0_join_7 7 rfl rfl)
theorem dX0_join_177 : decode cX0_join 177 = .ok (.aload 4, 2) := dk_25 4 (dk_at dksX0_join_7 10 rfl rfl)
theorem dX0_join_179 : decode cX0_join 179 = .ok (.iload 8, 2) := dk_21 8 (dk_at dksX0_join_7 12 rfl rfl)
theorem dX0_join_181 : decode cX0_join 181 = .ok (.iaload, 1) := dk_46 (dk_at dksX0_join_7 14 rfl rfl)
theorem dX0_join_182 : decode cX0_join 182 = .ok (.putfield 156, 3) := dk_181 0 156 (dk_at dksX0_join_7 15 rfl rfl)
theorem dX0_join_185 : decode cX0_join 185 = .ok (.aload_n 0, 1) := dk_42 (dk_at dksX0_join_7 18 rfl rfl)
theorem dX0_join_186 : decode cX0_join 186 = .ok (.getfield 33, 3) := dk_180 0 33 (dk_at dksX0_join_7 19 rfl rfl)
theorem dX0_join_189 : decode cX0_join 189 = .ok (.iload 8, 2) := dk_21 8 (dk_at dksX0_join_7 22 rfl rfl)
theorem dX0_join_191 : decode cX0_join 191 = .ok (.invokevirtual 106, 3) := dk_182 0 106 (dk_at dksX0_join_8 0 rfl rfl)
theorem dX0_join_194 : decode cX0_join 194 = .ok (.checkcast 110, 3) := dk_192 0 110 (dk_at dksX0_join_8 3 rfl rfl)
theorem dX0_join_197 : decode cX0_join 197 = .ok (.iload 9, 2) := dk_21 9 (dk_at dksX0_join_8 6 rfl rfl)
theorem dX0_join_199 : decode cX0_join 199 = .ok (.ifCond .eq 10, 3) := dk_153 0 10 (dk_at dksX0_join_8 8 rfl rfl)
theorem dX0_join_202 : decode cX0_join 202 = .ok (.aload_n 2, 1) := dk_44 (dk_at dksX0_join_8 11 rfl rfl)
theorem dX0_join_203 : decode cX0_join 203 = .ok (.getfield 176, 3) := dk_180 0 176 (dk_at dksX0_join_8 12 rfl rfl)
theorem dX0_join_206 : decode cX0_join 206 = .ok (.goto 8, 3) := dk_167 0 8 (dk_at dksX0_join_8 15 rfl rfl)
theorem dX0_join_209 : decode cX0_join 209 = .ok (.aload 5, 2) := dk_25 5 (dk_at dksX0_join_8 18 rfl rfl)
theorem dX0_join_211 : decode cX0_join 211 = .ok (.iload 8, 2) := dk_21 8 (dk_at dksX0_join_8 20 rfl rfl)
theorem dX0_join_213 : decode cX0_join 213 = .ok (.iaload, 1) := dk_46 (dk_at dksX0_join_8 22 rfl rfl)
theorem dX0_join_214 : decode cX0_join 214 = .ok (.putfield 159, 3) := dk_181 0 159 (dk_at dksX0_join_9 0 rfl rfl)
theorem dX0_join_217 : decode cX0_join 217 = .ok (.iinc 8 1, 3) := dk_132 8 1 (dk_at dksX0_join_9 3 rfl rfl)
theorem dX0_join_220 : decode cX0_join 220 = .ok (.goto (-91), 3) := dk_167 255 165 (dk_at dksX0_join_9 6 rfl rfl)
theorem dX0_join_223 : decode cX0_join 223 = .ok (.aload_n 0, 1) := dk_42 (dk_at dksX0_join_9 9 rfl rfl)
theorem dX0_join_224 : decode cX0_join 224 = .ok (.iload_n 1, 1) := dk_27 (dk_at dksX0_join_9 10 rfl rfl)
theorem dX0_join_225 : decode cX0_join 225 = .ok (.invokevirtual 374, 3) := dk_182 1 118 (dk_at dksX0_join_9 11 rfl rfl)
theorem dX0_join_228 : decode cX0_join 228 = .ok (.ifCond .eq 7, 3) := dk_153 0 7 (dk_at dksX0_join_9 14 rfl rfl)
theorem dX0_join_231 : decode cX0_join 231 = .ok (.iload 7, 2) := dk_21 7 (dk_at dksX0_join_9 17 rfl rfl)
theorem dX0_join_233 : decode cX0_join 233 = .ok (.istore 6, 2) := dk_54 6 (dk_at dksX0_join_9 19 rfl rfl)
theorem dX0_join_235 : decode cX0_join 235 = .ok (.iinc 7 1, 3) := dk_132 7 1 (dk_at dksX0_join_9 21 rfl rfl)
theorem dX0_join_238 : decode cX0_join 238 = .ok (.goto (-142), 3) := dk_167 255 114 (dk_at dksX0_join_10 0 rfl rfl)
theorem dX0_join_241 : decode cX0_join 241 = .ok (.iconst 0, 1) := dk_3 (dk_at dksX0_join_10 3 rfl rfl)
theorem dX0_join_242 : decode cX0_join 242 = .ok (.istore 7, 2) := dk_54 7 (dk_at dksX0_join_10 4 rfl rfl)
theorem dX0_join_244 : decode cX0_join 244 = .ok (.iload 7, 2) := dk_21 7 (dk_at dksX0_join_10 6 rfl rfl)
theorem dX0_join_246 : decode cX0_join 246 = .ok (.iload_n 3, 1) := dk_29 (dk_at dksX0_join_10 8 rfl rfl)
theorem dX0_join_247 : decode cX0_join 247 = .ok (.if_icmp .ge 49, 3) := dk_162 0 49 (dk_at dksX0_join_10 9 rfl rfl)
theorem dX0_join_250 : decode cX0_join 250 = .ok (.aload_n 0, 1) := dk_42 (dk_at dksX0_join_10 12 rfl rfl)
theorem dX0_join_251 : decode cX0_join 251 = .ok (.getfield 33, 3) := dk_180 0 33 (dk_at dksX0_join_10 13 rfl rfl)
theorem dX0_join_254 : decode cX0_join 254 = .ok (.iload 7, 2) := dk_21 7 (dk_at dksX0_join_10 16 rfl rfl)
theorem dX0_join_256 : decode cX0_join 256 = .ok (.invokevirtual 106, 3) := dk_182 0 106 (dk_at dksX0_join_10 18 rfl rfl)
theorem dX0_join_259 : decode cX0_join 259 = .ok (.checkcast 110, 3) := dk_192 0 110 (dk_at dksX0_join_10 21 rfl rfl)
theorem dX0_join_262 : decode cX0_join 262 = .ok (.aload 4, 2) := dk_25 4 (dk_at dksX0_join_11 0 rfl rfl)
theorem dX0_join_264 : decode cX0_join 264 = .ok (.iload 7, 2) := dk_21 7 (dk_at dksX0_join_11 2 rfl rfl)
theorem dX0_join_266 : decode cX0_join 266 = .ok (.iaload, 1) := dk_46 (dk_at dksX0_join_11 4 rfl rfl)
theorem dX0_join_267 : decode cX0_join 267 = .ok (.putfield 156, 3) := dk_181 0 156 (dk_at dksX0_join_11 5 rfl rfl)
theorem dX0_join_270 : decode cX0_join 270 = .ok (.aload_n 0, 1) := dk_42 (dk_at dksX0_join_11 8 rfl rfl)
theorem dX0_join_271 : decode cX0_join 271 = .ok (.getfield 33, 3) := dk_180 0 33 (dk_at dksX0_join_11 9 rfl rfl)
theorem dX0_join_274 : decode cX0_join 274 = .ok (.iload 7, 2) := dk_21 7 (dk_at dksX0_join_11 12 rfl rfl)
theorem dX0_join_276 : decode cX0_join 276 = .ok (.invokevirtual 106, 3) := dk_182 0 106 (dk_at dksX0_join_11 14 rfl rfl)
theorem dX0_join_279 : decode cX0_join 279 = .ok (.checkcast 110, 3) := dk_192 0 110 (dk_at dksX0_join_11 17 rfl rfl)
theorem dX0_join_282 : decode cX0_join 282 = .ok (.aload 5, 2) := dk_25 5 (dk_at dksX0_join_11 20 rfl rfl)
theorem dX0_join_284 : decode cX0_join 284 = .ok (.iload 7, 2) := dk_21 7 (dk_at dksX0_join_11 22 rfl rfl)
theorem dX0_join_286 : decode cX0_join 286 = .ok (.iaload, 1) := dk_46 (dk_at dksX0_join_12 0 rfl rfl)
theorem dX0_join_287 : decode cX0_join 287 = .ok (.putfield 159, 3) := dk_181 0 159 (dk_at dksX0_join_12 1 rfl rfl)
theorem dX0_join_290 : decode cX0_join 290 = .ok (.iinc 7 1, 3) := dk_132 7 1 (dk_at dksX0_join_12 4 rfl rfl)
theorem dX0_join_293 : decode cX0_join 293 = .ok (.goto (-49), 3) := dk_167 255 207 (dk_at dksX0_join_12 7 rfl rfl)
theorem dX0_join_296 : decode cX0_join 296 = .ok (.iload 6, 2) := dk_21 6 (dk_at dksX0_join_12 10 rfl rfl)
theorem dX0_join_298 : decode cX0_join 298 = .ok (.ireturn, 1) := dk_172 (dk_at dksX0_join_12 12 rfl rfl)
def dkwX0_doubt_10 : List UInt8 := [167, 255, 49, 21, 4, 153, 0, 7, 5, 167, 0, 4, 4, 172]
abbrev dktX0_doubt_10 : List UInt8 := dkwX0_doubt_10 ++ []
def dkwX0_doubt_9 : List UInt8 := [96, 21, 8, 42, 180, 0, 136, 182, 0, 199, 154, 0, 7, 4, 167, 0, 4, 3, 54, 4, 132, 5, 1]
abbrev dktX0_doubt_9 : List UInt8 := dkwX0_doubt_9 ++ dktX0_doubt_10
def dkwX0_doubt_8 : List UInt8 := [180, 0, 136, 182, 0, 199, 153, 0, 5, 3, 172, 21, 4, 153, 0, 28, 42, 180, 0, 48, 21, 6, 21, 7]
abbrev dktX0_doubt_8 : List UInt8 := dkwX0_doubt_8 ++ dktX0_doubt_9
def dkwX0_doubt_7 : List UInt8 := [3, 96, 54, 8, 132, 9, 1, 167, 255, 144, 42, 180, 0, 48, 21, 6, 21, 8, 21, 7, 96, 42]
abbrev dktX0_doubt_7 : List UInt8 := dkwX0_doubt_7 ++ dktX0_doubt_8
def dkwX0_doubt_6 : List UInt8 := [167, 0, 4, 3, 96, 54, 7, 21, 8, 21, 11, 16, 254, 160, 0, 11, 25, 10, 180, 0, 144, 167, 0, 4]
abbrev dktX0_doubt_6 : List UInt8 := dkwX0_doubt_6 ++ dktX0_doubt_7
def dkwX0_doubt_5 : List UInt8 := [180, 0, 144, 167, 0, 4, 3, 96, 54, 6, 21, 7, 21, 11, 4, 160, 0, 11, 25, 10, 180, 0, 144]
abbrev dktX0_doubt_5 : List UInt8 := dkwX0_doubt_5 ++ dktX0_doubt_6
def dkwX0_doubt_4 : List UInt8 := [182, 0, 106, 192, 0, 112, 45, 182, 1, 130, 54, 11, 21, 6, 21, 11, 5, 160, 0, 11, 25, 10]
abbrev dktX0_doubt_4 : List UInt8 := dkwX0_doubt_4 ++ dktX0_doubt_5
def dkwX0_doubt_3 : List UInt8 := [42, 180, 0, 33, 21, 9, 182, 0, 106, 192, 0, 110, 58, 10, 42, 25, 10, 28, 42, 180, 0, 37, 21, 5]
abbrev dktX0_doubt_3 : List UInt8 := dkwX0_doubt_3 ++ dktX0_doubt_4
def dkwX0_doubt_2 : List UInt8 := [3, 54, 6, 3, 54, 7, 3, 54, 8, 3, 54, 9, 21, 9, 42, 180, 0, 33, 182, 0, 102, 162, 0, 106]
abbrev dktX0_doubt_2 : List UInt8 := dkwX0_doubt_2 ++ dktX0_doubt_3
def dkwX0_doubt_1 : List UInt8 := [3, 54, 5, 21, 5, 42, 180, 0, 37, 182, 0, 102, 162, 0, 201, 21, 5, 27, 160, 0, 6, 167, 0, 186]
abbrev dktX0_doubt_1 : List UInt8 := dkwX0_doubt_1 ++ dktX0_doubt_2
def dkwX0_doubt_0 : List UInt8 := [42, 27, 182, 0, 171, 78, 45, 198, 0, 12, 28, 3, 8, 184, 0, 3, 154, 0, 5, 2, 172, 4, 54, 4]
abbrev dktX0_doubt_0 : List UInt8 := dkwX0_doubt_0 ++ dktX0_doubt_1
theorem dksX0_doubt_0 : cX0_doubt.data.toList.drop 0 = dktX0_doubt_0 := by decide +kernel
theorem dksX0_doubt_1 : cX0_doubt.data.toList.drop 24 = dktX0_doubt_1 := dk_seg dksX0_doubt_0 24 rfl rfl
theorem dksX0_doubt_2 : cX0_doubt.data.toList.drop 48 = dktX0_doubt_2 := dk_seg dksX0_doubt_1 24 rfl rfl
theorem dksX0_doubt_3 : cX0_doubt.data.toList.drop 72 = dktX0_doubt_3 := dk_seg dksX0_doubt_2 24 rfl rfl
theorem dksX0_doubt_4 : cX0_doubt.data.toList.drop 96 = dktX0_doubt_4 := dk_seg dksX0_doubt_3 24 rfl rfl
theorem dksX0_doubt_5 : cX0_doubt.data.toList.drop 118 = dktX0_doubt_5 := dk_seg dksX0_doubt_4 22 rfl rfl
theorem dksX0_doubt_6 : cX0_doubt.data.toList.drop 141 = dktX0_doubt_6 := dk_seg dksX0_doubt_5 23 rfl rfl
theorem dksX0_doubt_7 : cX0_doubt.data.toList.drop 165 = dktX0_doubt_7 := dk_seg dksX0_doubt_6 24 rfl rfl
theorem dksX0_doubt_8 : cX0_doubt.data.toList.drop 187 = dktX0_doubt_8 := dk_seg dksX0_doubt_7 22 rfl rfl
theorem dksX0_doubt_9 : cX0_doubt.data.toList.drop 211 = dktX0_doubt_9 := dk_seg dksX0_doubt_8 24 rfl rfl
theorem dksX0_doubt_10 : cX0_doubt.data.toList.drop 234 = dktX0_doubt_10 := dk_seg dksX0_doubt_9 23 rfl rfl
theorem dX0_doubt_0 : decode cX0_doubt 0 = .ok (.aload_n 0, 1) := dk_42 (dk_at dksX0_doubt_0 0 rfl rfl)
theorem dX0_doubt_1 : decode cX0_doubt 1 = .ok (.iload_n 1, 1) := dk_27 (dk_at dksX0_doubt_0 1 rfl rfl)
theorem dX0_doubt_2 : decode cX0_doubt 2 = .ok (.invokevirtual 171, 3) := dk_182 0 171 (dk_at dksX0_doubt_0 2 rfl rfl)
theorem dX0_doubt_5 : decode cX0_doubt 5 = .ok (.astore_n 3, 1) := dk_78 (dk_at dksX0_doubt_0 5 rfl rfl)
theorem dX0_doubt_6 : decode cX0_doubt 6 = .ok (.aload_n 3, 1) := dk_45 (dk_at dksX0_doubt_0 6 rfl rfl)
theorem dX0_doubt_7 : decode cX0_doubt 7 = .ok (.ifnull 12, 3) := dk_198 0 12 (dk_at dksX0_doubt_0 7 rfl rfl)
theorem dX0_doubt_10 : decode cX0_doubt 10 = .ok (.iload_n 2, 1) := dk_28 (dk_at dksX0_doubt_0 10 rfl rfl)
theorem dX0_doubt_11 : decode cX0_doubt 11 = .ok (.iconst 0, 1) := dk_3 (dk_at dksX0_doubt_0 11 rfl rfl)
theorem dX0_doubt_12 : decode cX0_doubt 12 = .ok (.iconst 5, 1) := dk_8 (dk_at dksX0_doubt_0 12 rfl rfl)
theorem dX0_doubt_13 : decode cX0_doubt 13 = .ok (.invokestatic 3, 3) := dk_184 0 3 (dk_at dksX0_doubt_0 13 rfl rfl)
theorem dX0_doubt_16 : decode cX0_doubt 16 = .ok (.ifCond .ne 5, 3) := dk_154 0 5 (dk_at dksX0_doubt_0 16 rfl rfl)
theorem dX0_doubt_19 : decode cX0_doubt 19 = .ok (.iconst (-1), 1) := dk_2 (dk_at dksX0_doubt_0 19 rfl rfl)
theorem dX0_doubt_20 : decode cX0_doubt 20 = .ok (.ireturn, 1) := dk_172 (dk_at dksX0_doubt_0 20 rfl rfl)
theorem dX0_doubt_21 : decode cX0_doubt 21 = .ok (.iconst 1, 1) := dk_4 (dk_at dksX0_doubt_0 21 rfl rfl)
theorem dX0_doubt_22 : decode cX0_doubt 22 = .ok (.istore 4, 2) := dk_54 4 (dk_at dksX0_doubt_0 22 rfl rfl)
theorem dX0_doubt_24 : decode cX0_doubt 24 = .ok (.iconst 0, 1) := dk_3 (dk_at dksX0_doubt_1 0 rfl rfl)
theorem dX0_doubt_25 : decode cX0_doubt 25 = .ok (.istore 5, 2) := dk_54 5 (dk_at dksX0_doubt_1 1 rfl rfl)
theorem dX0_doubt_27 : decode cX0_doubt 27 = .ok (.iload 5, 2) := dk_21 5 (dk_at dksX0_doubt_1 3 rfl rfl)
theorem dX0_doubt_29 : decode cX0_doubt 29 = .ok (.aload_n 0, 1) := dk_42 (dk_at dksX0_doubt_1 5 rfl rfl)
theorem dX0_doubt_30 : decode cX0_doubt 30 = .ok (.getfield 37, 3) := dk_180 0 37 (dk_at dksX0_doubt_1 6 rfl rfl)
theorem dX0_doubt_33 : decode cX0_doubt 33 = .ok (.invokevirtual 102, 3) := dk_182 0 102 (dk_at dksX0_doubt_1 9 rfl rfl)
theorem dX0_doubt_36 : decode cX0_doubt 36 = .ok (.if_icmp .ge 201, 3) := dk_162 0 201 (dk_at dksX0_doubt_1 12 rfl rfl)
theorem dX0_doubt_39 : decode cX0_doubt 39 = .ok (.iload 5, 2) := dk_21 5 (dk_at dksX0_doubt_1 15 rfl rfl)
theorem dX0_doubt_41 : decode cX0_doubt 41 = .ok (.iload_n 1, 1) := dk_27 (dk_at dksX0_doubt_1 17 rfl rfl)
theorem dX0_doubt_42 : decode cX0_doubt 42 = .ok (.if_icmp .ne 6, 3) := dk_160 0 6 (dk_at dksX0_doubt_1 18 rfl rfl)
theorem dX0_doubt_45 : decode cX0_doubt 45 = .ok (.goto 186, 3) := dk_167 0 186 (dk_at dksX0_doubt_1 21 rfl rfl)
theorem dX0_doubt_48 : decode cX0_doubt 48 = .ok (.iconst 0, 1) := dk_3 (dk_at dksX0_doubt_2 0 rfl rfl)
theorem dX0_doubt_49 : decode cX0_doubt 49 = .ok (.istore 6, 2) := dk_54 6 (dk_at dksX0_doubt_2 1 rfl rfl)
theorem dX0_doubt_51 : decode cX0_doubt 51 = .ok (.iconst 0, 1) := dk_3 (dk_at dksX0_doubt_2 3 rfl rfl)
theorem dX0_doubt_52 : decode cX0_doubt 52 = .ok (.istore 7, 2) := dk_54 7 (dk_at dksX0_doubt_2 4 rfl rfl)
theorem dX0_doubt_54 : decode cX0_doubt 54 = .ok (.iconst 0, 1) := dk_3 (dk_at dksX0_doubt_2 6 rfl rfl)
theorem dX0_doubt_55 : decode cX0_doubt 55 = .ok (.istore 8, 2) := dk_54 8 (dk_at dksX0_doubt_2 7 rfl rfl)
theorem dX0_doubt_57 : decode cX0_doubt 57 = .ok (.iconst 0, 1) := dk_3 (dk_at dksX0_doubt_2 9 rfl rfl)
theorem dX0_doubt_58 : decode cX0_doubt 58 = .ok (.istore 9, 2) := dk_54 9 (dk_at dksX0_doubt_2 10 rfl rfl)
theorem dX0_doubt_60 : decode cX0_doubt 60 = .ok (.iload 9, 2) := dk_21 9 (dk_at dksX0_doubt_2 12 rfl rfl)
theorem dX0_doubt_62 : decode cX0_doubt 62 = .ok (.aload_n 0, 1) := dk_42 (dk_at dksX0_doubt_2 14 rfl rfl)
theorem dX0_doubt_63 : decode cX0_doubt 63 = .ok (.getfield 33, 3) := dk_180 0 33 (dk_at dksX0_doubt_2 15 rfl rfl)
theorem dX0_doubt_66 : decode cX0_doubt 66 = .ok (.invokevirtual 102, 3) := dk_182 0 102 (dk_at dksX0_doubt_2 18 rfl rfl)
theorem dX0_doubt_69 : decode cX0_doubt 69 = .ok (.if_icmp .ge 106, 3) := dk_162 0 106 (dk_at dksX0_doubt_2 21 rfl rfl)
theorem dX0_doubt_72 : decode cX0_doubt 72 = .ok (.aload_n 0, 1) := dk_42 (dk_at dksX0_doubt_3 0 rfl rfl)
theorem dX0_doubt_73 : decode cX0_doubt 73 = .ok (.getfield 33, 3) := dk_180 0 33 (dk_at dksX0_doubt_3 1 rfl rfl)
theorem dX0_doubt_76 : decode cX0_doubt 76 = .ok (.iload 9, 2) := dk_21 9 (dk_at dksX0_doubt_3 4 rfl rfl)
theorem dX0_doubt_78 : decode cX0_doubt 78 = .ok (.invokevirtual 106, 3) := dk_182 0 106 (dk_at dksX0_doubt_3 6 rfl rfl)
theorem dX0_doubt_81 : decode cX0_doubt 81 = .ok (.checkcast 110, 3) := dk_192 0 110 (dk_at dksX0_doubt_3 9 rfl rfl)
theorem dX0_doubt_84 : decode cX0_doubt 84 = .ok (.astore 10, 2) := dk_58 10 (dk_at dksX0_doubt_3 12 rfl rfl)
theorem dX0_doubt_86 : decode cX0_doubt 86 = .ok (.aload_n 0, 1) := dk_42 (dk_at dksX0_doubt_3 14 rfl rfl)
theorem dX0_doubt_87 : decode cX0_doubt 87 = .ok (.aload 10, 2) := dk_25 10 (dk_at dksX0_doubt_3 15 rfl rfl)
theorem dX0_doubt_89 : decode cX0_doubt 89 = .ok (.iload_n 2, 1) := dk_28 (dk_at dksX0_doubt_3 17 rfl rfl)
theorem dX0_doubt_90 : decode cX0_doubt 90 = .ok (.aload_n 0, 1) := dk_42 (dk_at dksX0_doubt_3 18 rfl rfl)
theorem dX0_doubt_91 : decode cX0_doubt 91 = .ok (.getfield 37, 3) := dk_180 0 37 (dk_at dksX0_doubt_3 19 rfl rfl)
theorem dX0_doubt_94 : decode cX0_doubt 94 = .ok (.iload 5, 2) := dk_21 5 (dk_at dksX0_doubt_3 22 rfl rfl)
theorem dX0_doubt_96 : decode cX0_doubt 96 = .ok (.invokevirtual 106, 3) := dk_182 0 106 (dk_at dksX0_doubt_4 0 rfl rfl)
theorem dX0_doubt_99 : decode cX0_doubt 99 = .ok (.checkcast 112, 3) := dk_192 0 112 (dk_at dksX0_doubt_4 3 rfl rfl)
theorem dX0_doubt_102 : decode cX0_doubt 102 = .ok (.aload_n 3, 1) := dk_45 (dk_at dksX0_doubt_4 6 rfl rfl)
theorem dX0_doubt_103 : decode cX0_doubt 103 = .ok (.invokevirtual 386, 3) := dk_182 1 130 (dk_at dksX0_doubt_4 7 rfl rfl)
theorem dX0_doubt_106 : decode cX0_doubt 106 = .ok (.istore 11, 2) := dk_54 11 (dk_at dksX0_doubt_4 10 rfl rfl)
theorem dX0_doubt_108 : decode cX0_doubt 108 = .ok (.iload 6, 2) := dk_21 6 (dk_at dksX0_doubt_4 12 rfl rfl)
theorem dX0_doubt_110 : decode cX0_doubt 110 = .ok (.iload 11, 2) := dk_21 11 (dk_at dksX0_doubt_4 14 rfl rfl)
theorem dX0_doubt_112 : decode cX0_doubt 112 = .ok (.iconst 2, 1) := dk_5 (dk_at dksX0_doubt_4 16 rfl rfl)
theorem dX0_doubt_113 : decode cX0_doubt 113 = .ok (.if_icmp .ne 11, 3) := dk_160 0 11 (dk_at dksX0_doubt_4 17 rfl rfl)
theorem dX0_doubt_116 : decode cX0_doubt 116 = .ok (.aload 10, 2) := dk_25 10 (dk_at dksX0_doubt_4 20 rfl rfl)
theorem dX0_doubt_118 : decode cX0_doubt 118 = .ok (.getfield 144, 3) := dk_180 0 144 (dk_at dksX0_doubt_5 0 rfl rfl)
theorem dX0_doubt_121 : decode cX0_doubt 121 = .ok (.goto 4, 3) := dk_167 0 4 (dk_at dksX0_doubt_5 3 rfl rfl)
theorem dX0_doubt_124 : decode cX0_doubt 124 = .ok (.iconst 0, 1) := dk_3 (dk_at dksX0_doubt_5 6 rfl rfl)
theorem dX0_doubt_125 : decode cX0_doubt 125 = .ok (.iadd, 1) := dk_96 (dk_at dksX0_doubt_5 7 rfl rfl)
theorem dX0_doubt_126 : decode cX0_doubt 126 = .ok (.istore 6, 2) := dk_54 6 (dk_at dksX0_doubt_5 8 rfl rfl)
theorem dX0_doubt_128 : decode cX0_doubt 128 = .ok (.iload 7, 2) := dk_21 7 (dk_at dksX0_doubt_5 10 rfl rfl)
theorem dX0_doubt_130 : decode cX0_doubt 130 = .ok (.iload 11, 2) := dk_21 11 (dk_at dksX0_doubt_5 12 rfl rfl)
theorem dX0_doubt_132 : decode cX0_doubt 132 = .ok (.iconst 1, 1) := dk_4 (dk_at dksX0_doubt_5 14 rfl rfl)
theorem dX0_doubt_133 : decode cX0_doubt 133 = .ok (.if_icmp .ne 11, 3) := dk_160 0 11 (dk_at dksX0_doubt_5 15 rfl rfl)
theorem dX0_doubt_136 : decode cX0_doubt 136 = .ok (.aload 10, 2) := dk_25 10 (dk_at dksX0_doubt_5 18 rfl rfl)
theorem dX0_doubt_138 : decode cX0_doubt 138 = .ok (.getfield 144, 3) := dk_180 0 144 (dk_at dksX0_doubt_5 20 rfl rfl)
theorem dX0_doubt_141 : decode cX0_doubt 141 = .ok (.goto 4, 3) := dk_167 0 4 (dk_at dksX0_doubt_6 0 rfl rfl)
theorem dX0_doubt_144 : decode cX0_doubt 144 = .ok (.iconst 0, 1) := dk_3 (dk_at dksX0_doubt_6 3 rfl rfl)
theorem dX0_doubt_145 : decode cX0_doubt 145 = .ok (.iadd, 1) := dk_96 (dk_at dksX0_doubt_6 4 rfl rfl)
theorem dX0_doubt_146 : decode cX0_doubt 146 = .ok (.istore 7, 2) := dk_54 7 (dk_at dksX0_doubt_6 5 rfl rfl)
theorem dX0_doubt_148 : decode cX0_doubt 148 = .ok (.iload 8, 2) := dk_21 8 (dk_at dksX0_doubt_6 7 rfl rfl)
theorem dX0_doubt_150 : decode cX0_doubt 150 = .ok (.iload 11, 2) := dk_21 11 (dk_at dksX0_doubt_6 9 rfl rfl)
theorem dX0_doubt_152 : decode cX0_doubt 152 = .ok (.bipush (-2), 2) := dk_16 254 (dk_at dksX0_doubt_6 11 rfl rfl)
theorem dX0_doubt_154 : decode cX0_doubt 154 = .ok (.if_icmp .ne 11, 3) := dk_160 0 11 (dk_at dksX0_doubt_6 13 rfl rfl)
theorem dX0_doubt_157 : decode cX0_doubt 157 = .ok (.aload 10, 2) := dk_25 10 (dk_at dksX0_doubt_6 16 rfl rfl)
theorem dX0_doubt_159 : decode cX0_doubt 159 = .ok (.getfield 144, 3) := dk_180 0 144 (dk_at dksX0_doubt_6 18 rfl rfl)
theorem dX0_doubt_162 : decode cX0_doubt 162 = .ok (.goto 4, 3) := dk_167 0 4 (dk_at dksX0_doubt_6 21 rfl rfl)
theorem dX0_doubt_165 : decode cX0_doubt 165 = .ok (.iconst 0, 1) := dk_3 (dk_at dksX0_doubt_7 0 rfl rfl)
theorem dX0_doubt_166 : decode cX0_doubt 166 = .ok (.iadd, 1) := dk_96 (dk_at dksX0_doubt_7 1 rfl rfl)
theorem dX0_doubt_167 : decode cX0_doubt 167 = .ok (.istore 8, 2) := dk_54 8 (dk_at dksX0_doubt_7 2 rfl rfl)
theorem dX0_doubt_169 : decode cX0_doubt 169 = .ok (.iinc 9 1, 3) := dk_132 9 1 (dk_at dksX0_doubt_7 4 rfl rfl)
theorem dX0_doubt_172 : decode cX0_doubt 172 = .ok (.goto (-112), 3) := dk_167 255 144 (dk_at dksX0_doubt_7 7 rfl rfl)
theorem dX0_doubt_175 : decode cX0_doubt 175 = .ok (.aload_n 0, 1) := dk_42 (dk_at dksX0_doubt_7 10 rfl rfl)
theorem dX0_doubt_176 : decode cX0_doubt 176 = .ok (.getfield 48, 3) := dk_180 0 48 (dk_at dksX0_doubt_7 11 rfl rfl)
theorem dX0_doubt_179 : decode cX0_doubt 179 = .ok (.iload 6, 2) := dk_21 6 (dk_at dksX0_doubt_7 14 rfl rfl)
theorem dX0_doubt_181 : decode cX0_doubt 181 = .ok (.iload 8, 2) := dk_21 8 (dk_at dksX0_doubt_7 16 rfl rfl)
theorem dX0_doubt_183 : decode cX0_doubt 183 = .ok (.iload 7, 2) := dk_21 7 (dk_at dksX0_doubt_7 18 rfl rfl)
theorem dX0_doubt_185 : decode cX0_doubt 185 = .ok (.iadd, 1) := dk_96 (dk_at dksX0_doubt_7 20 rfl rfl)
theorem dX0_doubt_186 : decode cX0_doubt 186 = .ok (.aload_n 0, 1) := dk_42 (dk_at dksX0_doubt_7 21 rfl rfl)
theorem dX0_doubt_187 : decode cX0_doubt 187 = .ok (.getfield 136, 3) := dk_180 0 136 (dk_at dksX0_doubt_8 0 rfl rfl)
theorem dX0_doubt_190 : decode cX0_doubt 190 = .ok (.invokevirtual 199, 3) := dk_182 0 199 (dk_at dksX0_doubt_8 3 rfl rfl)
theorem dX0_doubt_193 : decode cX0_doubt 193 = .ok (.ifCond .eq 5, 3) := dk_153 0 5 (dk_at dksX0_doubt_8 6 rfl rfl)
theorem dX0_doubt_196 : decode cX0_doubt 196 = .ok (.iconst 0, 1) := dk_3 (dk_at dksX0_doubt_8 9 rfl rfl)
theorem dX0_doubt_197 : decode cX0_doubt 197 = .ok (.ireturn, 1) := dk_172 (dk_at dksX0_doubt_8 10 rfl rfl)
theorem dX0_doubt_198 : decode cX0_doubt 198 = .ok (.iload 4, 2) := dk_21 4 (dk_at dksX0_doubt_8 11 rfl rfl)
theorem dX0_doubt_200 : decode cX0_doubt 200 = .ok (.ifCond .eq 28, 3) := dk_153 0 28 (dk_at dksX0_doubt_8 13 rfl rfl)
theorem dX0_doubt_203 : decode cX0_doubt 203 = .ok (.aload_n 0, 1) := dk_42 (dk_at dksX0_doubt_8 16 rfl rfl)
theorem dX0_doubt_204 : decode cX0_doubt 204 = .ok (.getfield 48, 3) := dk_180 0 48 (dk_at dksX0_doubt_8 17 rfl rfl)
theorem dX0_doubt_207 : decode cX0_doubt 207 = .ok (.iload 6, 2) := dk_21 6 (dk_at dksX0_doubt_8 20 rfl rfl)
theorem dX0_doubt_209 : decode cX0_doubt 209 = .ok (.iload 7, 2) := dk_21 7 (dk_at dksX0_doubt_8 22 rfl rfl)
theorem dX0_doubt_211 : decode cX0_doubt 211 = .ok (.iadd, 1) := dk_96 (dk_at dksX0_doubt_9 0 rfl rfl)
theorem dX0_doubt_212 : decode cX0_doubt 212 = .ok (.iload 8, 2) := dk_21 8 (dk_at dksX0_doubt_9 1 rfl rfl)
theorem dX0_doubt_214 : decode cX0_doubt 214 = .ok (.aload_n 0, 1) := dk_42 (dk_at dksX0_doubt_9 3 rfl rfl)
theorem dX0_doubt_215 : decode cX0_doubt 215 = .ok (.getfield 136, 3) := dk_180 0 136 (dk_at dksX0_doubt_9 4 rfl rfl)
theorem dX0_doubt_218 : decode cX0_doubt 218 = .ok (.invokevirtual 199, 3) := dk_182 0 199 (dk_at dksX0_doubt_9 7 rfl rfl)
theorem dX0_doubt_221 : decode cX0_doubt 221 = .ok (.ifCond .ne 7, 3) := dk_154 0 7 (dk_at dksX0_doubt_9 10 rfl rfl)
theorem dX0_doubt_224 : decode cX0_doubt 224 = .ok (.iconst 1, 1) := dk_4 (dk_at dksX0_doubt_9 13 rfl rfl)
theorem dX0_doubt_225 : decode cX0_doubt 225 = .ok (.goto 4, 3) := dk_167 0 4 (dk_at dksX0_doubt_9 14 rfl rfl)
theorem dX0_doubt_228 : decode cX0_doubt 228 = .ok (.iconst 0, 1) := dk_3 (dk_at dksX0_doubt_9 17 rfl rfl)
theorem dX0_doubt_229 : decode cX0_doubt 229 = .ok (.istore 4, 2) := dk_54 4 (dk_at dksX0_doubt_9 18 rfl rfl)
theorem dX0_doubt_231 : decode cX0_doubt 231 = .ok (.iinc 5 1, 3) := dk_132 5 1 (dk_at dksX0_doubt_9 20 rfl rfl)
theorem dX0_doubt_234 : decode cX0_doubt 234 = .ok (.goto (-207), 3) := dk_167 255 49 (dk_at dksX0_doubt_10 0 rfl rfl)
theorem dX0_doubt_237 : decode cX0_doubt 237 = .ok (.iload 4, 2) := dk_21 4 (dk_at dksX0_doubt_10 3 rfl rfl)
theorem dX0_doubt_239 : decode cX0_doubt 239 = .ok (.ifCond .eq 7, 3) := dk_153 0 7 (dk_at dksX0_doubt_10 5 rfl rfl)
theorem dX0_doubt_242 : decode cX0_doubt 242 = .ok (.iconst 2, 1) := dk_5 (dk_at dksX0_doubt_10 8 rfl rfl)
theorem dX0_doubt_243 : decode cX0_doubt 243 = .ok (.goto 4, 3) := dk_167 0 4 (dk_at dksX0_doubt_10 9 rfl rfl)
theorem dX0_doubt_246 : decode cX0_doubt 246 = .ok (.iconst 1, 1) := dk_4 (dk_at dksX0_doubt_10 12 rfl rfl)
theorem dX0_doubt_247 : decode cX0_doubt 247 = .ok (.ireturn, 1) := dk_172 (dk_at dksX0_doubt_10 13 rfl rfl)
def dkwX0_surely_7 : List UInt8 := [16, 254, 167, 0, 16, 21, 5, 21, 6, 96, 154, 0, 7, 3, 167, 0, 4, 4, 172]
abbrev dktX0_surely_7 : List UInt8 := dkwX0_surely_7 ++ []
def dkwX0_surely_6 : List UInt8 := [132, 8, 1, 167, 255, 133, 21, 5, 21, 7, 160, 0, 7, 5, 167, 0, 28, 21, 6, 21, 7, 160, 0, 8]
abbrev dktX0_surely_6 : List UInt8 := dkwX0_surely_6 ++ dktX0_surely_7
def dkwX0_surely_5 : List UInt8 := [96, 54, 5, 21, 6, 21, 10, 156, 0, 7, 4, 167, 0, 4, 3, 96, 54, 6, 132, 9, 1, 167, 255, 167]
abbrev dktX0_surely_5 : List UInt8 := dkwX0_surely_5 ++ dktX0_surely_6
def dkwX0_surely_4 : List UInt8 := [180, 0, 176, 182, 1, 127, 100, 54, 10, 132, 7, 1, 21, 5, 21, 10, 158, 0, 7, 4, 167, 0, 4, 3]
abbrev dktX0_surely_4 : List UInt8 := dkwX0_surely_4 ++ dktX0_surely_5
def dkwX0_surely_3 : List UInt8 := [25, 4, 180, 0, 175, 25, 4, 180, 0, 176, 182, 1, 127, 43, 21, 8, 21, 9, 45, 180, 0, 175, 45]
abbrev dktX0_surely_3 : List UInt8 := dkwX0_surely_3 ++ dktX0_surely_4
def dkwX0_surely_2 : List UInt8 := [54, 9, 21, 9, 16, 99, 43, 180, 0, 159, 28, 96, 184, 1, 87, 163, 0, 79, 43, 21, 8, 21, 9]
abbrev dktX0_surely_2 : List UInt8 := dkwX0_surely_2 ++ dktX0_surely_3
def dkwX0_surely_1 : List UInt8 := [16, 99, 43, 180, 0, 156, 28, 96, 184, 1, 87, 163, 0, 113, 3, 43, 180, 0, 159, 28, 100, 184, 1, 3]
abbrev dktX0_surely_1 : List UInt8 := dkwX0_surely_1 ++ dktX0_surely_2
def dkwX0_surely_0 : List UInt8 := [3, 54, 5, 3, 54, 6, 3, 54, 7, 3, 43, 180, 0, 156, 28, 100, 184, 1, 3, 54, 8, 21, 8]
abbrev dktX0_surely_0 : List UInt8 := dkwX0_surely_0 ++ dktX0_surely_1
theorem dksX0_surely_0 : cX0_surely.data.toList.drop 0 = dktX0_surely_0 := by decide +kernel
theorem dksX0_surely_1 : cX0_surely.data.toList.drop 23 = dktX0_surely_1 := dk_seg dksX0_surely_0 23 rfl rfl
theorem dksX0_surely_2 : cX0_surely.data.toList.drop 47 = dktX0_surely_2 := dk_seg dksX0_surely_1 24 rfl rfl
theorem dksX0_surely_3 : cX0_surely.data.toList.drop 70 = dktX0_surely_3 := dk_seg dksX0_surely_2 23 rfl rfl
theorem dksX0_surely_4 : cX0_surely.data.toList.drop 93 = dktX0_surely_4 := dk_seg dksX0_surely_3 23 rfl rfl
theorem dksX0_surely_5 : cX0_surely.data.toList.drop 117 = dktX0_surely_5 := dk_seg dksX0_surely_4 24 rfl rfl
theorem dksX0_surely_6 : cX0_surely.data.toList.drop 141 = dktX0_surely_6 := dk_seg dksX0_surely_5 24 rfl rfl
theorem dksX0_surely_7 : cX0_surely.data.toList.drop 165 = dktX0_surely_7 := dk_seg dksX0_surely_6 24 rfl rfl
theorem dX0_surely_0 : decode cX0_surely 0 = .ok (.iconst 0, 1) := dk_3 (dk_at dksX0_surely_0 0 rfl rfl)
theorem dX0_surely_1 : decode cX0_surely 1 = .ok (.istore 5, 2) := dk_54 5 (dk_at dksX0_surely_0 1 rfl rfl)
theorem dX0_surely_3 : decode cX0_surely 3 = .ok (.iconst 0, 1) := dk_3 (dk_at dksX0_surely_0 3 rfl rfl)
theorem dX0_surely_4 : decode cX0_surely 4 = .ok (.istore 6, 2) := dk_54 6 (dk_at dksX0_surely_0 4 rfl rfl)
theorem dX0_surely_6 : decode cX0_surely 6 = .ok (.iconst 0, 1) := dk_3 (dk_at dksX0_surely_0 6 rfl rfl)
theorem dX0_surely_7 : decode cX0_surely 7 = .ok (.istore 7, 2) := dk_54 7 (dk_at dksX0_surely_0 7 rfl rfl)
theorem dX0_surely_9 : decode cX0_surely 9 = .ok (.iconst 0, 1) := dk_3 (dk_at dksX0_surely_0 9 rfl rfl)
theorem dX0_surely_10 : decode cX0_surely 10 = .ok (.aload_n 1, 1) := dk_43 (dk_at dksX0_surely_0 10 rfl rfl)
theorem dX0_surely_11 : decode cX0_surely 11 = .ok (.getfield 156, 3) := dk_180 0 156 (dk_at dksX0_surely_0 11 rfl rfl)
theorem dX0_surely_14 : decode cX0_surely 14 = .ok (.iload_n 2, 1) := dk_28 (dk_at dksX0_surely_0 14 rfl rfl)
theorem dX0_surely_15 : decode cX0_surely 15 = .ok (.isub, 1) := dk_100 (dk_at dksX0_surely_0 15 rfl rfl)
theorem dX0_surely_16 : decode cX0_surely 16 = .ok (.invokestatic 259, 3) := dk_184 1 3 (dk_at dksX0_surely_0 16 rfl rfl)
theorem dX0_surely_19 : decode cX0_surely 19 = .ok (.istore 8, 2) := dk_54 8 (dk_at dksX0_surely_0 19 rfl rfl)
theorem dX0_surely_21 : decode cX0_surely 21 = .ok (.iload 8, 2) := dk_21 8 (dk_at dksX0_surely_0 21 rfl rfl)
theorem dX0_surely_23 : decode cX0_surely 23 = .ok (.bipush 99, 2) := dk_16 99 (dk_at dksX0_surely_1 0 rfl rfl)
theorem dX0_surely_25 : decode cX0_surely 25 = .ok (.aload_n 1, 1) := dk_43 (dk_at dksX0_surely_1 2 rfl rfl)
theorem dX0_surely_26 : decode cX0_surely 26 = .ok (.getfield 156, 3) := dk_180 0 156 (dk_at dksX0_surely_1 3 rfl rfl)
theorem dX0_surely_29 : decode cX0_surely 29 = .ok (.iload_n 2, 1) := dk_28 (dk_at dksX0_surely_1 6 rfl rfl)
theorem dX0_surely_30 : decode cX0_surely 30 = .ok (.iadd, 1) := dk_96 (dk_at dksX0_surely_1 7 rfl rfl)
theorem dX0_surely_31 : decode cX0_surely 31 = .ok (.invokestatic 343, 3) := dk_184 1 87 (dk_at dksX0_surely_1 8 rfl rfl)
theorem dX0_surely_34 : decode cX0_surely 34 = .ok (.if_icmp .gt 113, 3) := dk_163 0 113 (dk_at dksX0_surely_1 11 rfl rfl)
theorem dX0_surely_37 : decode cX0_surely 37 = .ok (.iconst 0, 1) := dk_3 (dk_at dksX0_surely_1 14 rfl rfl)
theorem dX0_surely_38 : decode cX0_surely 38 = .ok (.aload_n 1, 1) := dk_43 (dk_at dksX0_surely_1 15 rfl rfl)
theorem dX0_surely_39 : decode cX0_surely 39 = .ok (.getfield 159, 3) := dk_180 0 159 (dk_at dksX0_surely_1 16 rfl rfl)
theorem dX0_surely_42 : decode cX0_surely 42 = .ok (.iload_n 2, 1) := dk_28 (dk_at dksX0_surely_1 19 rfl rfl)
theorem dX0_surely_43 : decode cX0_surely 43 = .ok (.isub, 1) := dk_100 (dk_at dksX0_surely_1 20 rfl rfl)
theorem dX0_surely_44 : decode cX0_surely 44 = .ok (.invokestatic 259, 3) := dk_184 1 3 (dk_at dksX0_surely_1 21 rfl rfl)
theorem dX0_surely_47 : decode cX0_surely 47 = .ok (.istore 9, 2) := dk_54 9 (dk_at dksX0_surely_2 0 rfl rfl)
theorem dX0_surely_49 : decode cX0_surely 49 = .ok (.iload 9, 2) := dk_21 9 (dk_at dksX0_surely_2 2 rfl rfl)
theorem dX0_surely_51 : decode cX0_surely 51 = .ok (.bipush 99, 2) := dk_16 99 (dk_at dksX0_surely_2 4 rfl rfl)
theorem dX0_surely_53 : decode cX0_surely 53 = .ok (.aload_n 1, 1) := dk_43 (dk_at dksX0_surely_2 6 rfl rfl)
theorem dX0_surely_54 : decode cX0_surely 54 = .ok (.getfield 159, 3) := dk_180 0 159 (dk_at dksX0_surely_2 7 rfl rfl)
theorem dX0_surely_57 : decode cX0_surely 57 = .ok (.iload_n 2, 1) := dk_28 (dk_at dksX0_surely_2 10 rfl rfl)
theorem dX0_surely_58 : decode cX0_surely 58 = .ok (.iadd, 1) := dk_96 (dk_at dksX0_surely_2 11 rfl rfl)
theorem dX0_surely_59 : decode cX0_surely 59 = .ok (.invokestatic 343, 3) := dk_184 1 87 (dk_at dksX0_surely_2 12 rfl rfl)
theorem dX0_surely_62 : decode cX0_surely 62 = .ok (.if_icmp .gt 79, 3) := dk_163 0 79 (dk_at dksX0_surely_2 15 rfl rfl)
theorem dX0_surely_65 : decode cX0_surely 65 = .ok (.aload_n 1, 1) := dk_43 (dk_at dksX0_surely_2 18 rfl rfl)
theorem dX0_surely_66 : decode cX0_surely 66 = .ok (.iload 8, 2) := dk_21 8 (dk_at dksX0_surely_2 19 rfl rfl)
theorem dX0_surely_68 : decode cX0_surely 68 = .ok (.iload 9, 2) := dk_21 9 (dk_at dksX0_surely_2 21 rfl rfl)
theorem dX0_surely_70 : decode cX0_surely 70 = .ok (.aload 4, 2) := dk_25 4 (dk_at dksX0_surely_3 0 rfl rfl)
theorem dX0_surely_72 : decode cX0_surely 72 = .ok (.getfield 175, 3) := dk_180 0 175 (dk_at dksX0_surely_3 2 rfl rfl)
theorem dX0_surely_75 : decode cX0_surely 75 = .ok (.aload 4, 2) := dk_25 4 (dk_at dksX0_surely_3 5 rfl rfl)
theorem dX0_surely_77 : decode cX0_surely 77 = .ok (.getfield 176, 3) := dk_180 0 176 (dk_at dksX0_surely_3 7 rfl rfl)
theorem dX0_surely_80 : decode cX0_surely 80 = .ok (.invokevirtual 383, 3) := dk_182 1 127 (dk_at dksX0_surely_3 10 rfl rfl)
theorem dX0_surely_83 : decode cX0_surely 83 = .ok (.aload_n 1, 1) := dk_43 (dk_at dksX0_surely_3 13 rfl rfl)
theorem dX0_surely_84 : decode cX0_surely 84 = .ok (.iload 8, 2) := dk_21 8 (dk_at dksX0_surely_3 14 rfl rfl)
theorem dX0_surely_86 : decode cX0_surely 86 = .ok (.iload 9, 2) := dk_21 9 (dk_at dksX0_surely_3 16 rfl rfl)
theorem dX0_surely_88 : decode cX0_surely 88 = .ok (.aload_n 3, 1) := dk_45 (dk_at dksX0_surely_3 18 rfl rfl)
theorem dX0_surely_89 : decode cX0_surely 89 = .ok (.getfield 175, 3) := dk_180 0 175 (dk_at dksX0_surely_3 19 rfl rfl)
theorem dX0_surely_92 : decode cX0_surely 92 = .ok (.aload_n 3, 1) := dk_45 (dk_at dksX0_surely_3 22 rfl rfl)
theorem dX0_surely_93 : decode cX0_surely 93 = .ok (.getfield 176, 3) := dk_180 0 176 (dk_at dksX0_surely_4 0 rfl rfl)
theorem dX0_surely_96 : decode cX0_surely 96 = .ok (.invokevirtual 383, 3) := dk_182 1 127 (dk_at dksX0_surely_4 3 rfl rfl)
theorem dX0_surely_99 : decode cX0_surely 99 = .ok (.isub, 1) := dk_100 (dk_at dksX0_surely_4 6 rfl rfl)
theorem dX0_surely_100 : decode cX0_surely 100 = .ok (.istore 10, 2) := dk_54 10 (dk_at dksX0_surely_4 7 rfl rfl)
theorem dX0_surely_102 : decode cX0_surely 102 = .ok (.iinc 7 1, 3) := dk_132 7 1 (dk_at dksX0_surely_4 9 rfl rfl)
theorem dX0_surely_105 : decode cX0_surely 105 = .ok (.iload 5, 2) := dk_21 5 (dk_at dksX0_surely_4 12 rfl rfl)
theorem dX0_surely_107 : decode cX0_surely 107 = .ok (.iload 10, 2) := dk_21 10 (dk_at dksX0_surely_4 14 rfl rfl)
theorem dX0_surely_109 : decode cX0_surely 109 = .ok (.ifCond .le 7, 3) := dk_158 0 7 (dk_at dksX0_surely_4 16 rfl rfl)
theorem dX0_surely_112 : decode cX0_surely 112 = .ok (.iconst 1, 1) := dk_4 (dk_at dksX0_surely_4 19 rfl rfl)
theorem dX0_surely_113 : decode cX0_surely 113 = .ok (.goto 4, 3) := dk_167 0 4 (dk_at dksX0_surely_4 20 rfl rfl)
theorem dX0_surely_116 : decode cX0_surely 116 = .ok (.iconst 0, 1) := dk_3 (dk_at dksX0_surely_4 23 rfl rfl)
theorem dX0_surely_117 : decode cX0_surely 117 = .ok (.iadd, 1) := dk_96 (dk_at dksX0_surely_5 0 rfl rfl)
theorem dX0_surely_118 : decode cX0_surely 118 = .ok (.istore 5, 2) := dk_54 5 (dk_at dksX0_surely_5 1 rfl rfl)
theorem dX0_surely_120 : decode cX0_surely 120 = .ok (.iload 6, 2) := dk_21 6 (dk_at dksX0_surely_5 3 rfl rfl)
theorem dX0_surely_122 : decode cX0_surely 122 = .ok (.iload 10, 2) := dk_21 10 (dk_at dksX0_surely_5 5 rfl rfl)
theorem dX0_surely_124 : decode cX0_surely 124 = .ok (.ifCond .ge 7, 3) := dk_156 0 7 (dk_at dksX0_surely_5 7 rfl rfl)
theorem dX0_surely_127 : decode cX0_surely 127 = .ok (.iconst 1, 1) := dk_4 (dk_at dksX0_surely_5 10 rfl rfl)
theorem dX0_surely_128 : decode cX0_surely 128 = .ok (.goto 4, 3) := dk_167 0 4 (dk_at dksX0_surely_5 11 rfl rfl)
theorem dX0_surely_131 : decode cX0_surely 131 = .ok (.iconst 0, 1) := dk_3 (dk_at dksX0_surely_5 14 rfl rfl)
theorem dX0_surely_132 : decode cX0_surely 132 = .ok (.iadd, 1) := dk_96 (dk_at dksX0_surely_5 15 rfl rfl)
theorem dX0_surely_133 : decode cX0_surely 133 = .ok (.istore 6, 2) := dk_54 6 (dk_at dksX0_surely_5 16 rfl rfl)
theorem dX0_surely_135 : decode cX0_surely 135 = .ok (.iinc 9 1, 3) := dk_132 9 1 (dk_at dksX0_surely_5 18 rfl rfl)
theorem dX0_surely_138 : decode cX0_surely 138 = .ok (.goto (-89), 3) := dk_167 255 167 (dk_at dksX0_surely_5 21 rfl rfl)
theorem dX0_surely_141 : decode cX0_surely 141 = .ok (.iinc 8 1, 3) := dk_132 8 1 (dk_at dksX0_surely_6 0 rfl rfl)
theorem dX0_surely_144 : decode cX0_surely 144 = .ok (.goto (-123), 3) := dk_167 255 133 (dk_at dksX0_surely_6 3 rfl rfl)
theorem dX0_surely_147 : decode cX0_surely 147 = .ok (.iload 5, 2) := dk_21 5 (dk_at dksX0_surely_6 6 rfl rfl)
theorem dX0_surely_149 : decode cX0_surely 149 = .ok (.iload 7, 2) := dk_21 7 (dk_at dksX0_surely_6 8 rfl rfl)
theorem dX0_surely_151 : decode cX0_surely 151 = .ok (.if_icmp .ne 7, 3) := dk_160 0 7 (dk_at dksX0_surely_6 10 rfl rfl)
theorem dX0_surely_154 : decode cX0_surely 154 = .ok (.iconst 2, 1) := dk_5 (dk_at dksX0_surely_6 13 rfl rfl)
theorem dX0_surely_155 : decode cX0_surely 155 = .ok (.goto 28, 3) := dk_167 0 28 (dk_at dksX0_surely_6 14 rfl rfl)
theorem dX0_surely_158 : decode cX0_surely 158 = .ok (.iload 6, 2) := dk_21 6 (dk_at dksX0_surely_6 17 rfl rfl)
theorem dX0_surely_160 : decode cX0_surely 160 = .ok (.iload 7, 2) := dk_21 7 (dk_at dksX0_surely_6 19 rfl rfl)
theorem dX0_surely_162 : decode cX0_surely 162 = .ok (.if_icmp .ne 8, 3) := dk_160 0 8 (dk_at dksX0_surely_6 21 rfl rfl)
theorem dX0_surely_165 : decode cX0_surely 165 = .ok (.bipush (-2), 2) := dk_16 254 (dk_at dksX0_surely_7 0 rfl rfl)
theorem dX0_surely_167 : decode cX0_surely 167 = .ok (.goto 16, 3) := dk_167 0 16 (dk_at dksX0_surely_7 2 rfl rfl)
theorem dX0_surely_170 : decode cX0_surely 170 = .ok (.iload 5, 2) := dk_21 5 (dk_at dksX0_surely_7 5 rfl rfl)
theorem dX0_surely_172 : decode cX0_surely 172 = .ok (.iload 6, 2) := dk_21 6 (dk_at dksX0_surely_7 7 rfl rfl)
theorem dX0_surely_174 : decode cX0_surely 174 = .ok (.iadd, 1) := dk_96 (dk_at dksX0_surely_7 9 rfl rfl)
theorem dX0_surely_175 : decode cX0_surely 175 = .ok (.ifCond .ne 7, 3) := dk_154 0 7 (dk_at dksX0_surely_7 10 rfl rfl)
theorem dX0_surely_178 : decode cX0_surely 178 = .ok (.iconst 0, 1) := dk_3 (dk_at dksX0_surely_7 13 rfl rfl)
theorem dX0_surely_179 : decode cX0_surely 179 = .ok (.goto 4, 3) := dk_167 0 4 (dk_at dksX0_surely_7 14 rfl rfl)
theorem dX0_surely_182 : decode cX0_surely 182 = .ok (.iconst 1, 1) := dk_4 (dk_at dksX0_surely_7 17 rfl rfl)
theorem dX0_surely_183 : decode cX0_surely 183 = .ok (.ireturn, 1) := dk_172 (dk_at dksX0_surely_7 18 rfl rfl)
def dkwX0_move_5 : List UInt8 := [87, 42, 180, 0, 40, 182, 0, 102, 172]
abbrev dktX0_move_5 : List UInt8 := dkwX0_move_5 ++ []
def dkwX0_move_4 : List UInt8 := [182, 1, 136, 181, 1, 145, 25, 5, 42, 182, 1, 124, 181, 1, 148, 42, 180, 0, 40, 25, 5, 182, 0, 140]
abbrev dktX0_move_4 : List UInt8 := dkwX0_move_4 ++ dktX0_move_5
def dkwX0_move_3 : List UInt8 := [42, 182, 1, 136, 42, 182, 1, 124, 183, 1, 139, 58, 5, 42, 27, 28, 29, 182, 1, 142, 25, 5, 42]
abbrev dktX0_move_3 : List UInt8 := dkwX0_move_3 ++ dktX0_move_4
def dkwX0_move_2 : List UInt8 := [16, 40, 160, 0, 5, 2, 172, 187, 1, 134, 89, 27, 25, 4, 180, 0, 156, 25, 4, 180, 0, 159, 28, 29]
abbrev dktX0_move_2 : List UInt8 := dkwX0_move_2 ++ dktX0_move_3
def dkwX0_move_1 : List UInt8 := [180, 0, 156, 28, 160, 0, 12, 25, 4, 180, 0, 159, 29, 159, 0, 15, 42, 180, 0, 40, 182, 0, 102]
abbrev dktX0_move_1 : List UInt8 := dkwX0_move_1 ++ dktX0_move_2
def dkwX0_move_0 : List UInt8 := [42, 27, 182, 0, 152, 58, 4, 25, 4, 198, 0, 41, 28, 29, 184, 0, 181, 153, 0, 33, 25, 4]
abbrev dktX0_move_0 : List UInt8 := dkwX0_move_0 ++ dktX0_move_1
theorem dksX0_move_0 : cX0_move.data.toList.drop 0 = dktX0_move_0 := by decide +kernel
theorem dksX0_move_1 : cX0_move.data.toList.drop 22 = dktX0_move_1 := dk_seg dksX0_move_0 22 rfl rfl
theorem dksX0_move_2 : cX0_move.data.toList.drop 45 = dktX0_move_2 := dk_seg dksX0_move_1 23 rfl rfl
theorem dksX0_move_3 : cX0_move.data.toList.drop 69 = dktX0_move_3 := dk_seg dksX0_move_2 24 rfl rfl
theorem dksX0_move_4 : cX0_move.data.toList.drop 92 = dktX0_move_4 := dk_seg dksX0_move_3 23 rfl rfl
theorem dksX0_move_5 : cX0_move.data.toList.drop 116 = dktX0_move_5 := dk_seg dksX0_move_4 24 rfl rfl
theorem dX0_move_0 : decode cX0_move 0 = .ok (.aload_n 0, 1) := dk_42 (dk_at dksX0_move_0 0 rfl rfl)
theorem dX0_move_1 : decode cX0_move 1 = .ok (.iload_n 1, 1) := dk_27 (dk_at dksX0_move_0 1 rfl rfl)
theorem dX0_move_2 : decode cX0_move 2 = .ok (.invokevirtual 152, 3) := dk_182 0 152 (dk_at dksX0_move_0 2 rfl rfl)
theorem dX0_move_5 : decode cX0_move 5 = .ok (.astore 4, 2) := dk_58 4 (dk_at dksX0_move_0 5 rfl rfl)
theorem dX0_move_7 : decode cX0_move 7 = .ok (.aload 4, 2) := dk_25 4 (dk_at dksX0_move_0 7 rfl rfl)
theorem dX0_move_9 : decode cX0_move 9 = .ok (.ifnull 41, 3) := dk_198 0 41 (dk_at dksX0_move_0 9 rfl rfl)
theorem dX0_move_12 : decode cX0_move 12 = .ok (.iload_n 2, 1) := dk_28 (dk_at dksX0_move_0 12 rfl rfl)
theorem dX0_move_13 : decode cX0_move 13 = .ok (.iload_n 3, 1) := dk_29 (dk_at dksX0_move_0 13 rfl rfl)
theorem dX0_move_14 : decode cX0_move 14 = .ok (.invokestatic 181, 3) := dk_184 0 181 (dk_at dksX0_move_0 14 rfl rfl)
theorem dX0_move_17 : decode cX0_move 17 = .ok (.ifCond .eq 33, 3) := dk_153 0 33 (dk_at dksX0_move_0 17 rfl rfl)
theorem dX0_move_20 : decode cX0_move 20 = .ok (.aload 4, 2) := dk_25 4 (dk_at dksX0_move_0 20 rfl rfl)
theorem dX0_move_22 : decode cX0_move 22 = .ok (.getfield 156, 3) := dk_180 0 156 (dk_at dksX0_move_1 0 rfl rfl)
theorem dX0_move_25 : decode cX0_move 25 = .ok (.iload_n 2, 1) := dk_28 (dk_at dksX0_move_1 3 rfl rfl)
theorem dX0_move_26 : decode cX0_move 26 = .ok (.if_icmp .ne 12, 3) := dk_160 0 12 (dk_at dksX0_move_1 4 rfl rfl)
theorem dX0_move_29 : decode cX0_move 29 = .ok (.aload 4, 2) := dk_25 4 (dk_at dksX0_move_1 7 rfl rfl)
theorem dX0_move_31 : decode cX0_move 31 = .ok (.getfield 159, 3) := dk_180 0 159 (dk_at dksX0_move_1 9 rfl rfl)
theorem dX0_move_34 : decode cX0_move 34 = .ok (.iload_n 3, 1) := dk_29 (dk_at dksX0_move_1 12 rfl rfl)
theorem dX0_move_35 : decode cX0_move 35 = .ok (.if_icmp .eq 15, 3) := dk_159 0 15 (dk_at dksX0_move_1 13 rfl rfl)
theorem dX0_move_38 : decode cX0_move 38 = .ok (.aload_n 0, 1) := dk_42 (dk_at dksX0_move_1 16 rfl rfl)
theorem dX0_move_39 : decode cX0_move 39 = .ok (.getfield 40, 3) := dk_180 0 40 (dk_at dksX0_move_1 17 rfl rfl)
theorem dX0_move_42 : decode cX0_move 42 = .ok (.invokevirtual 102, 3) := dk_182 0 102 (dk_at dksX0_move_1 20 rfl rfl)
theorem dX0_move_45 : decode cX0_move 45 = .ok (.bipush 40, 2) := dk_16 40 (dk_at dksX0_move_2 0 rfl rfl)
theorem dX0_move_47 : decode cX0_move 47 = .ok (.if_icmp .ne 5, 3) := dk_160 0 5 (dk_at dksX0_move_2 2 rfl rfl)
theorem dX0_move_50 : decode cX0_move 50 = .ok (.iconst (-1), 1) := dk_2 (dk_at dksX0_move_2 5 rfl rfl)
theorem dX0_move_51 : decode cX0_move 51 = .ok (.ireturn, 1) := dk_172 (dk_at dksX0_move_2 6 rfl rfl)
theorem dX0_move_52 : decode cX0_move 52 = .ok (.new 390, 3) := dk_187 1 134 (dk_at dksX0_move_2 7 rfl rfl)
theorem dX0_move_55 : decode cX0_move 55 = .ok (.dup, 1) := dk_89 (dk_at dksX0_move_2 10 rfl rfl)
theorem dX0_move_56 : decode cX0_move 56 = .ok (.iload_n 1, 1) := dk_27 (dk_at dksX0_move_2 11 rfl rfl)
theorem dX0_move_57 : decode cX0_move 57 = .ok (.aload 4, 2) := dk_25 4 (dk_at dksX0_move_2 12 rfl rfl)
theorem dX0_move_59 : decode cX0_move 59 = .ok (.getfield 156, 3) := dk_180 0 156 (dk_at dksX0_move_2 14 rfl rfl)
theorem dX0_move_62 : decode cX0_move 62 = .ok (.aload 4, 2) := dk_25 4 (dk_at dksX0_move_2 17 rfl rfl)
theorem dX0_move_64 : decode cX0_move 64 = .ok (.getfield 159, 3) := dk_180 0 159 (dk_at dksX0_move_2 19 rfl rfl)
theorem dX0_move_67 : decode cX0_move 67 = .ok (.iload_n 2, 1) := dk_28 (dk_at dksX0_move_2 22 rfl rfl)
theorem dX0_move_68 : decode cX0_move 68 = .ok (.iload_n 3, 1) := dk_29 (dk_at dksX0_move_2 23 rfl rfl)
theorem dX0_move_69 : decode cX0_move 69 = .ok (.aload_n 0, 1) := dk_42 (dk_at dksX0_move_3 0 rfl rfl)
theorem dX0_move_70 : decode cX0_move 70 = .ok (.invokevirtual 392, 3) := dk_182 1 136 (dk_at dksX0_move_3 1 rfl rfl)
theorem dX0_move_73 : decode cX0_move 73 = .ok (.aload_n 0, 1) := dk_42 (dk_at dksX0_move_3 4 rfl rfl)
theorem dX0_move_74 : decode cX0_move 74 = .ok (.invokevirtual 380, 3) := dk_182 1 124 (dk_at dksX0_move_3 5 rfl rfl)
theorem dX0_move_77 : decode cX0_move 77 = .ok (.invokespecial 395, 3) := dk_183 1 139 (dk_at dksX0_move_3 8 rfl rfl)
theorem dX0_move_80 : decode cX0_move 80 = .ok (.astore 5, 2) := dk_58 5 (dk_at dksX0_move_3 11 rfl rfl)
theorem dX0_move_82 : decode cX0_move 82 = .ok (.aload_n 0, 1) := dk_42 (dk_at dksX0_move_3 13 rfl rfl)
theorem dX0_move_83 : decode cX0_move 83 = .ok (.iload_n 1, 1) := dk_27 (dk_at dksX0_move_3 14 rfl rfl)
theorem dX0_move_84 : decode cX0_move 84 = .ok (.iload_n 2, 1) := dk_28 (dk_at dksX0_move_3 15 rfl rfl)
theorem dX0_move_85 : decode cX0_move 85 = .ok (.iload_n 3, 1) := dk_29 (dk_at dksX0_move_3 16 rfl rfl)
theorem dX0_move_86 : decode cX0_move 86 = .ok (.invokevirtual 398, 3) := dk_182 1 142 (dk_at dksX0_move_3 17 rfl rfl)
theorem dX0_move_89 : decode cX0_move 89 = .ok (.aload 5, 2) := dk_25 5 (dk_at dksX0_move_3 20 rfl rfl)
theorem dX0_move_91 : decode cX0_move 91 = .ok (.aload_n 0, 1) := dk_42 (dk_at dksX0_move_3 22 rfl rfl)
theorem dX0_move_92 : decode cX0_move 92 = .ok (.invokevirtual 392, 3) := dk_182 1 136 (dk_at dksX0_move_4 0 rfl rfl)
theorem dX0_move_95 : decode cX0_move 95 = .ok (.putfield 401, 3) := dk_181 1 145 (dk_at dksX0_move_4 3 rfl rfl)
theorem dX0_move_98 : decode cX0_move 98 = .ok (.aload 5, 2) := dk_25 5 (dk_at dksX0_move_4 6 rfl rfl)
theorem dX0_move_100 : decode cX0_move 100 = .ok (.aload_n 0, 1) := dk_42 (dk_at dksX0_move_4 8 rfl rfl)
theorem dX0_move_101 : decode cX0_move 101 = .ok (.invokevirtual 380, 3) := dk_182 1 124 (dk_at dksX0_move_4 9 rfl rfl)
theorem dX0_move_104 : decode cX0_move 104 = .ok (.putfield 404, 3) := dk_181 1 148 (dk_at dksX0_move_4 12 rfl rfl)
theorem dX0_move_107 : decode cX0_move 107 = .ok (.aload_n 0, 1) := dk_42 (dk_at dksX0_move_4 15 rfl rfl)
theorem dX0_move_108 : decode cX0_move 108 = .ok (.getfield 40, 3) := dk_180 0 40 (dk_at dksX0_move_4 16 rfl rfl)
theorem dX0_move_111 : decode cX0_move 111 = .ok (.aload 5, 2) := dk_25 5 (dk_at dksX0_move_4 19 rfl rfl)
theorem dX0_move_113 : decode cX0_move 113 = .ok (.invokevirtual 140, 3) := dk_182 0 140 (dk_at dksX0_move_4 21 rfl rfl)
theorem dX0_move_116 : decode cX0_move 116 = .ok (.pop, 1) := dk_87 (dk_at dksX0_move_5 0 rfl rfl)
theorem dX0_move_117 : decode cX0_move 117 = .ok (.aload_n 0, 1) := dk_42 (dk_at dksX0_move_5 1 rfl rfl)
theorem dX0_move_118 : decode cX0_move 118 = .ok (.getfield 40, 3) := dk_180 0 40 (dk_at dksX0_move_5 2 rfl rfl)
theorem dX0_move_121 : decode cX0_move 121 = .ok (.invokevirtual 102, 3) := dk_182 0 102 (dk_at dksX0_move_5 5 rfl rfl)
theorem dX0_move_124 : decode cX0_move 124 = .ok (.ireturn, 1) := dk_172 (dk_at dksX0_move_5 8 rfl rfl)
def dkwX0_pairMany_3 : List UInt8 := [132, 3, 1, 167, 255, 200, 132, 2, 1, 167, 255, 181, 27, 172]
abbrev dktX0_pairMany_3 : List UInt8 := dkwX0_pairMany_3 ++ []
def dkwX0_pairMany_2 : List UInt8 := [42, 180, 0, 37, 29, 182, 0, 106, 192, 0, 112, 182, 0, 210, 153, 0, 7, 4, 167, 0, 4, 3, 96, 60]
abbrev dktX0_pairMany_2 : List UInt8 := dkwX0_pairMany_2 ++ dktX0_pairMany_3
def dkwX0_pairMany_1 : List UInt8 := [182, 0, 102, 162, 0, 51, 27, 28, 29, 159, 0, 36, 42, 42, 180, 0, 37, 28, 182, 0, 106, 192, 0, 112]
abbrev dktX0_pairMany_1 : List UInt8 := dkwX0_pairMany_1 ++ dktX0_pairMany_2
def dkwX0_pairMany_0 : List UInt8 := [3, 60, 3, 61, 28, 42, 180, 0, 37, 182, 0, 102, 162, 0, 70, 3, 62, 29, 42, 180, 0, 37]
abbrev dktX0_pairMany_0 : List UInt8 := dkwX0_pairMany_0 ++ dktX0_pairMany_1
theorem dksX0_pairMany_0 : cX0_pairMany.data.toList.drop 0 = dktX0_pairMany_0 := by decide +kernel
theorem dksX0_pairMany_1 : cX0_pairMany.data.toList.drop 22 = dktX0_pairMany_1 := dk_seg dksX0_pairMany_0 22 rfl rfl
theorem dksX0_pairMany_2 : cX0_pairMany.data.toList.drop 46 = dktX0_pairMany_2 := dk_seg dksX0_pairMany_1 24 rfl rfl
theorem dksX0_pairMany_3 : cX0_pairMany.data.toList.drop 70 = dktX0_pairMany_3 := dk_seg dksX0_pairMany_2 24 rfl rfl
theorem dX0_pairMany_0 : decode cX0_pairMany 0 = .ok (.iconst 0, 1) := dk_3 (dk_at dksX0_pairMany_0 0 rfl rfl)
theorem dX0_pairMany_1 : decode cX0_pairMany 1 = .ok (.istore_n 1, 1) := dk_60 (dk_at dksX0_pairMany_0 1 rfl rfl)
theorem dX0_pairMany_2 : decode cX0_pairMany 2 = .ok (.iconst 0, 1) := dk_3 (dk_at dksX0_pairMany_0 2 rfl rfl)
theorem dX0_pairMany_3 : decode cX0_pairMany 3 = .ok (.istore_n 2, 1) := dk_61 (dk_at dksX0_pairMany_0 3 rfl rfl)
theorem dX0_pairMany_4 : decode cX0_pairMany 4 = .ok (.iload_n 2, 1) := dk_28 (dk_at dksX0_pairMany_0 4 rfl rfl)
theorem dX0_pairMany_5 : decode cX0_pairMany 5 = .ok (.aload_n 0, 1) := dk_42 (dk_at dksX0_pairMany_0 5 rfl rfl)
theorem dX0_pairMany_6 : decode cX0_pairMany 6 = .ok (.getfield 37, 3) := dk_180 0 37 (dk_at dksX0_pairMany_0 6 rfl rfl)
theorem dX0_pairMany_9 : decode cX0_pairMany 9 = .ok (.invokevirtual 102, 3) := dk_182 0 102 (dk_at dksX0_pairMany_0 9 rfl rfl)
theorem dX0_pairMany_12 : decode cX0_pairMany 12 = .ok (.if_icmp .ge 70, 3) := dk_162 0 70 (dk_at dksX0_pairMany_0 12 rfl rfl)
theorem dX0_pairMany_15 : decode cX0_pairMany 15 = .ok (.iconst 0, 1) := dk_3 (dk_at dksX0_pairMany_0 15 rfl rfl)
theorem dX0_pairMany_16 : decode cX0_pairMany 16 = .ok (.istore_n 3, 1) := dk_62 (dk_at dksX0_pairMany_0 16 rfl rfl)
theorem dX0_pairMany_17 : decode cX0_pairMany 17 = .ok (.iload_n 3, 1) := dk_29 (dk_at dksX0_pairMany_0 17 rfl rfl)
theorem dX0_pairMany_18 : decode cX0_pairMany 18 = .ok (.aload_n 0, 1) := dk_42 (dk_at dksX0_pairMany_0 18 rfl rfl)
theorem dX0_pairMany_19 : decode cX0_pairMany 19 = .ok (.getfield 37, 3) := dk_180 0 37 (dk_at dksX0_pairMany_0 19 rfl rfl)
theorem dX0_pairMany_22 : decode cX0_pairMany 22 = .ok (.invokevirtual 102, 3) := dk_182 0 102 (dk_at dksX0_pairMany_1 0 rfl rfl)
theorem dX0_pairMany_25 : decode cX0_pairMany 25 = .ok (.if_icmp .ge 51, 3) := dk_162 0 51 (dk_at dksX0_pairMany_1 3 rfl rfl)
theorem dX0_pairMany_28 : decode cX0_pairMany 28 = .ok (.iload_n 1, 1) := dk_27 (dk_at dksX0_pairMany_1 6 rfl rfl)
theorem dX0_pairMany_29 : decode cX0_pairMany 29 = .ok (.iload_n 2, 1) := dk_28 (dk_at dksX0_pairMany_1 7 rfl rfl)
theorem dX0_pairMany_30 : decode cX0_pairMany 30 = .ok (.iload_n 3, 1) := dk_29 (dk_at dksX0_pairMany_1 8 rfl rfl)
theorem dX0_pairMany_31 : decode cX0_pairMany 31 = .ok (.if_icmp .eq 36, 3) := dk_159 0 36 (dk_at dksX0_pairMany_1 9 rfl rfl)
theorem dX0_pairMany_34 : decode cX0_pairMany 34 = .ok (.aload_n 0, 1) := dk_42 (dk_at dksX0_pairMany_1 12 rfl rfl)
theorem dX0_pairMany_35 : decode cX0_pairMany 35 = .ok (.aload_n 0, 1) := dk_42 (dk_at dksX0_pairMany_1 13 rfl rfl)
theorem dX0_pairMany_36 : decode cX0_pairMany 36 = .ok (.getfield 37, 3) := dk_180 0 37 (dk_at dksX0_pairMany_1 14 rfl rfl)
theorem dX0_pairMany_39 : decode cX0_pairMany 39 = .ok (.iload_n 2, 1) := dk_28 (dk_at dksX0_pairMany_1 17 rfl rfl)
theorem dX0_pairMany_40 : decode cX0_pairMany 40 = .ok (.invokevirtual 106, 3) := dk_182 0 106 (dk_at dksX0_pairMany_1 18 rfl rfl)
theorem dX0_pairMany_43 : decode cX0_pairMany 43 = .ok (.checkcast 112, 3) := dk_192 0 112 (dk_at dksX0_pairMany_1 21 rfl rfl)
theorem dX0_pairMany_46 : decode cX0_pairMany 46 = .ok (.aload_n 0, 1) := dk_42 (dk_at dksX0_pairMany_2 0 rfl rfl)
theorem dX0_pairMany_47 : decode cX0_pairMany 47 = .ok (.getfield 37, 3) := dk_180 0 37 (dk_at dksX0_pairMany_2 1 rfl rfl)
theorem dX0_pairMany_50 : decode cX0_pairMany 50 = .ok (.iload_n 3, 1) := dk_29 (dk_at dksX0_pairMany_2 4 rfl rfl)
theorem dX0_pairMany_51 : decode cX0_pairMany 51 = .ok (.invokevirtual 106, 3) := dk_182 0 106 (dk_at dksX0_pairMany_2 5 rfl rfl)
theorem dX0_pairMany_54 : decode cX0_pairMany 54 = .ok (.checkcast 112, 3) := dk_192 0 112 (dk_at dksX0_pairMany_2 8 rfl rfl)
theorem dX0_pairMany_57 : decode cX0_pairMany 57 = .ok (.invokevirtual 210, 3) := dk_182 0 210 (dk_at dksX0_pairMany_2 11 rfl rfl)
theorem dX0_pairMany_60 : decode cX0_pairMany 60 = .ok (.ifCond .eq 7, 3) := dk_153 0 7 (dk_at dksX0_pairMany_2 14 rfl rfl)
theorem dX0_pairMany_63 : decode cX0_pairMany 63 = .ok (.iconst 1, 1) := dk_4 (dk_at dksX0_pairMany_2 17 rfl rfl)
theorem dX0_pairMany_64 : decode cX0_pairMany 64 = .ok (.goto 4, 3) := dk_167 0 4 (dk_at dksX0_pairMany_2 18 rfl rfl)
theorem dX0_pairMany_67 : decode cX0_pairMany 67 = .ok (.iconst 0, 1) := dk_3 (dk_at dksX0_pairMany_2 21 rfl rfl)
theorem dX0_pairMany_68 : decode cX0_pairMany 68 = .ok (.iadd, 1) := dk_96 (dk_at dksX0_pairMany_2 22 rfl rfl)
theorem dX0_pairMany_69 : decode cX0_pairMany 69 = .ok (.istore_n 1, 1) := dk_60 (dk_at dksX0_pairMany_2 23 rfl rfl)
theorem dX0_pairMany_70 : decode cX0_pairMany 70 = .ok (.iinc 3 1, 3) := dk_132 3 1 (dk_at dksX0_pairMany_3 0 rfl rfl)
theorem dX0_pairMany_73 : decode cX0_pairMany 73 = .ok (.goto (-56), 3) := dk_167 255 200 (dk_at dksX0_pairMany_3 3 rfl rfl)
theorem dX0_pairMany_76 : decode cX0_pairMany 76 = .ok (.iinc 2 1, 3) := dk_132 2 1 (dk_at dksX0_pairMany_3 6 rfl rfl)
theorem dX0_pairMany_79 : decode cX0_pairMany 79 = .ok (.goto (-75), 3) := dk_167 255 181 (dk_at dksX0_pairMany_3 9 rfl rfl)
theorem dX0_pairMany_82 : decode cX0_pairMany 82 = .ok (.iload_n 1, 1) := dk_27 (dk_at dksX0_pairMany_3 12 rfl rfl)
theorem dX0_pairMany_83 : decode cX0_pairMany 83 = .ok (.ireturn, 1) := dk_172 (dk_at dksX0_pairMany_3 13 rfl rfl)
def dkwX0_puts_1 : List UInt8 := [192, 0, 110, 29, 181, 0, 159, 42, 182, 0, 149, 177]
abbrev dktX0_puts_1 : List UInt8 := dkwX0_puts_1 ++ []
def dkwX0_puts_0 : List UInt8 := [42, 180, 0, 33, 27, 182, 0, 106, 192, 0, 110, 28, 181, 0, 156, 42, 180, 0, 33, 27, 182, 0, 106]
abbrev dktX0_puts_0 : List UInt8 := dkwX0_puts_0 ++ dktX0_puts_1
theorem dksX0_puts_0 : cX0_puts.data.toList.drop 0 = dktX0_puts_0 := by decide +kernel
theorem dksX0_puts_1 : cX0_puts.data.toList.drop 23 = dktX0_puts_1 := dk_seg dksX0_puts_0 23 rfl rfl
theorem dX0_puts_0 : decode cX0_puts 0 = .ok (.aload_n 0, 1) := dk_42 (dk_at dksX0_puts_0 0 rfl rfl)
theorem dX0_puts_1 : decode cX0_puts 1 = .ok (.getfield 33, 3) := dk_180 0 33 (dk_at dksX0_puts_0 1 rfl rfl)
theorem dX0_puts_4 : decode cX0_puts 4 = .ok (.iload_n 1, 1) := dk_27 (dk_at dksX0_puts_0 4 rfl rfl)
theorem dX0_puts_5 : decode cX0_puts 5 = .ok (.invokevirtual 106, 3) := dk_182 0 106 (dk_at dksX0_puts_0 5 rfl rfl)
theorem dX0_puts_8 : decode cX0_puts 8 = .ok (.checkcast 110, 3) := dk_192 0 110 (dk_at dksX0_puts_0 8 rfl rfl)
theorem dX0_puts_11 : decode cX0_puts 11 = .ok (.iload_n 2, 1) := dk_28 (dk_at dksX0_puts_0 11 rfl rfl)
theorem dX0_puts_12 : decode cX0_puts 12 = .ok (.putfield 156, 3) := dk_181 0 156 (dk_at dksX0_puts_0 12 rfl rfl)
theorem dX0_puts_15 : decode cX0_puts 15 = .ok (.aload_n 0, 1) := dk_42 (dk_at dksX0_puts_0 15 rfl rfl)
theorem dX0_puts_16 : decode cX0_puts 16 = .ok (.getfield 33, 3) := dk_180 0 33 (dk_at dksX0_puts_0 16 rfl rfl)
theorem dX0_puts_19 : decode cX0_puts 19 = .ok (.iload_n 1, 1) := dk_27 (dk_at dksX0_puts_0 19 rfl rfl)
theorem dX0_puts_20 : decode cX0_puts 20 = .ok (.invokevirtual 106, 3) := dk_182 0 106 (dk_at dksX0_puts_0 20 rfl rfl)
theorem dX0_puts_23 : decode cX0_puts 23 = .ok (.checkcast 110, 3) := dk_192 0 110 (dk_at dksX0_puts_1 0 rfl rfl)
theorem dX0_puts_26 : decode cX0_puts 26 = .ok (.iload_n 3, 1) := dk_29 (dk_at dksX0_puts_1 3 rfl rfl)
theorem dX0_puts_27 : decode cX0_puts 27 = .ok (.putfield 159, 3) := dk_181 0 159 (dk_at dksX0_puts_1 4 rfl rfl)
theorem dX0_puts_30 : decode cX0_puts 30 = .ok (.aload_n 0, 1) := dk_42 (dk_at dksX0_puts_1 7 rfl rfl)
theorem dX0_puts_31 : decode cX0_puts 31 = .ok (.invokevirtual 149, 3) := dk_182 0 149 (dk_at dksX0_puts_1 8 rfl rfl)
theorem dX0_puts_34 : decode cX0_puts 34 = .ok (.return_, 1) := dk_177 (dk_at dksX0_puts_1 11 rfl rfl)
def dkwX0_undo_2 : List UInt8 := [43, 180, 1, 154, 172]
abbrev dktX0_undo_2 : List UInt8 := dkwX0_undo_2 ++ []
def dkwX0_undo_1 : List UInt8 := [100, 182, 1, 151, 192, 1, 134, 76, 42, 43, 180, 1, 154, 43, 180, 1, 157, 43, 180, 1, 160, 182, 1, 142]
abbrev dktX0_undo_1 : List UInt8 := dkwX0_undo_1 ++ dktX0_undo_2
def dkwX0_undo_0 : List UInt8 := [42, 180, 0, 40, 182, 0, 177, 153, 0, 5, 2, 172, 42, 180, 0, 40, 42, 180, 0, 40, 182, 0, 102, 4]
abbrev dktX0_undo_0 : List UInt8 := dkwX0_undo_0 ++ dktX0_undo_1
theorem dksX0_undo_0 : cX0_undo.data.toList.drop 0 = dktX0_undo_0 := by decide +kernel
theorem dksX0_undo_1 : cX0_undo.data.toList.drop 24 = dktX0_undo_1 := dk_seg dksX0_undo_0 24 rfl rfl
theorem dksX0_undo_2 : cX0_undo.data.toList.drop 48 = dktX0_undo_2 := dk_seg dksX0_undo_1 24 rfl rfl
theorem dX0_undo_0 : decode cX0_undo 0 = .ok (.aload_n 0, 1) := dk_42 (dk_at dksX0_undo_0 0 rfl rfl)
theorem dX0_undo_1 : decode cX0_undo 1 = .ok (.getfield 40, 3) := dk_180 0 40 (dk_at dksX0_undo_0 1 rfl rfl)
theorem dX0_undo_4 : decode cX0_undo 4 = .ok (.invokevirtual 177, 3) := dk_182 0 177 (dk_at dksX0_undo_0 4 rfl rfl)
theorem dX0_undo_7 : decode cX0_undo 7 = .ok (.ifCond .eq 5, 3) := dk_153 0 5 (dk_at dksX0_undo_0 7 rfl rfl)
theorem dX0_undo_10 : decode cX0_undo 10 = .ok (.iconst (-1), 1) := dk_2 (dk_at dksX0_undo_0 10 rfl rfl)
theorem dX0_undo_11 : decode cX0_undo 11 = .ok (.ireturn, 1) := dk_172 (dk_at dksX0_undo_0 11 rfl rfl)
theorem dX0_undo_12 : decode cX0_undo 12 = .ok (.aload_n 0, 1) := dk_42 (dk_at dksX0_undo_0 12 rfl rfl)
theorem dX0_undo_13 : decode cX0_undo 13 = .ok (.getfield 40, 3) := dk_180 0 40 (dk_at dksX0_undo_0 13 rfl rfl)
theorem dX0_undo_16 : decode cX0_undo 16 = .ok (.aload_n 0, 1) := dk_42 (dk_at dksX0_undo_0 16 rfl rfl)
theorem dX0_undo_17 : decode cX0_undo 17 = .ok (.getfield 40, 3) := dk_180 0 40 (dk_at dksX0_undo_0 17 rfl rfl)
theorem dX0_undo_20 : decode cX0_undo 20 = .ok (.invokevirtual 102, 3) := dk_182 0 102 (dk_at dksX0_undo_0 20 rfl rfl)
theorem dX0_undo_23 : decode cX0_undo 23 = .ok (.iconst 1, 1) := dk_4 (dk_at dksX0_undo_0 23 rfl rfl)
theorem dX0_undo_24 : decode cX0_undo 24 = .ok (.isub, 1) := dk_100 (dk_at dksX0_undo_1 0 rfl rfl)
theorem dX0_undo_25 : decode cX0_undo 25 = .ok (.invokevirtual 407, 3) := dk_182 1 151 (dk_at dksX0_undo_1 1 rfl rfl)
theorem dX0_undo_28 : decode cX0_undo 28 = .ok (.checkcast 390, 3) := dk_192 1 134 (dk_at dksX0_undo_1 4 rfl rfl)
theorem dX0_undo_31 : decode cX0_undo 31 = .ok (.astore_n 1, 1) := dk_76 (dk_at dksX0_undo_1 7 rfl rfl)
theorem dX0_undo_32 : decode cX0_undo 32 = .ok (.aload_n 0, 1) := dk_42 (dk_at dksX0_undo_1 8 rfl rfl)
theorem dX0_undo_33 : decode cX0_undo 33 = .ok (.aload_n 1, 1) := dk_43 (dk_at dksX0_undo_1 9 rfl rfl)
theorem dX0_undo_34 : decode cX0_undo 34 = .ok (.getfield 410, 3) := dk_180 1 154 (dk_at dksX0_undo_1 10 rfl rfl)
theorem dX0_undo_37 : decode cX0_undo 37 = .ok (.aload_n 1, 1) := dk_43 (dk_at dksX0_undo_1 13 rfl rfl)
theorem dX0_undo_38 : decode cX0_undo 38 = .ok (.getfield 413, 3) := dk_180 1 157 (dk_at dksX0_undo_1 14 rfl rfl)
theorem dX0_undo_41 : decode cX0_undo 41 = .ok (.aload_n 1, 1) := dk_43 (dk_at dksX0_undo_1 17 rfl rfl)
theorem dX0_undo_42 : decode cX0_undo 42 = .ok (.getfield 416, 3) := dk_180 1 160 (dk_at dksX0_undo_1 18 rfl rfl)
theorem dX0_undo_45 : decode cX0_undo 45 = .ok (.invokevirtual 398, 3) := dk_182 1 142 (dk_at dksX0_undo_1 21 rfl rfl)
theorem dX0_undo_48 : decode cX0_undo 48 = .ok (.aload_n 1, 1) := dk_43 (dk_at dksX0_undo_2 0 rfl rfl)
theorem dX0_undo_49 : decode cX0_undo 49 = .ok (.getfield 410, 3) := dk_180 1 154 (dk_at dksX0_undo_2 1 rfl rfl)
theorem dX0_undo_52 : decode cX0_undo 52 = .ok (.ireturn, 1) := dk_172 (dk_at dksX0_undo_2 4 rfl rfl)
def dkwX0_moved_4 : List UInt8 := [172, 45, 180, 1, 169, 172, 45, 180, 1, 145, 172, 45, 180, 1, 172, 172, 45, 180, 1, 148, 172, 2, 172]
abbrev dktX0_moved_4 : List UInt8 := dkwX0_moved_4 ++ []
def dkwX0_moved_3 : List UInt8 := [45, 180, 1, 154, 172, 45, 180, 1, 157, 172, 45, 180, 1, 160, 172, 45, 180, 1, 163, 172, 45, 180, 1, 166]
abbrev dktX0_moved_3 : List UInt8 := dkwX0_moved_3 ++ dktX0_moved_4
def dkwX0_moved_2 : List UInt8 := [170, 0, 0, 0, 0, 0, 0, 97, 0, 0, 0, 0, 0, 0, 0, 8, 0, 0, 0, 52, 0, 0, 0, 57, 0, 0, 0, 62, 0, 0, 0, 67, 0, 0, 0, 72, 0, 0, 0, 77, 0, 0, 0, 82, 0, 0, 0, 87, 0, 0, 0, 92]
abbrev dktX0_moved_2 : List UInt8 := dkwX0_moved_2 ++ dktX0_moved_3
def dkwX0_moved_1 : List UInt8 := [182, 0, 106, 192, 1, 134, 78, 28]
abbrev dktX0_moved_1 : List UInt8 := dkwX0_moved_1 ++ dktX0_moved_2
def dkwX0_moved_0 : List UInt8 := [27, 3, 42, 180, 0, 40, 182, 0, 102, 4, 100, 184, 0, 3, 154, 0, 5, 2, 172, 42, 180, 0, 40, 27]
abbrev dktX0_moved_0 : List UInt8 := dkwX0_moved_0 ++ dktX0_moved_1
theorem dksX0_moved_0 : cX0_moved.data.toList.drop 0 = dktX0_moved_0 := by decide +kernel
theorem dksX0_moved_1 : cX0_moved.data.toList.drop 24 = dktX0_moved_1 := dk_seg dksX0_moved_0 24 rfl rfl
theorem dksX0_moved_2 : cX0_moved.data.toList.drop 32 = dktX0_moved_2 := dk_seg dksX0_moved_1 8 rfl rfl
theorem dksX0_moved_3 : cX0_moved.data.toList.drop 84 = dktX0_moved_3 := dk_seg dksX0_moved_2 52 rfl rfl
theorem dksX0_moved_4 : cX0_moved.data.toList.drop 108 = dktX0_moved_4 := dk_seg dksX0_moved_3 24 rfl rfl
theorem dX0_moved_0 : decode cX0_moved 0 = .ok (.iload_n 1, 1) := dk_27 (dk_at dksX0_moved_0 0 rfl rfl)
theorem dX0_moved_1 : decode cX0_moved 1 = .ok (.iconst 0, 1) := dk_3 (dk_at dksX0_moved_0 1 rfl rfl)
theorem dX0_moved_2 : decode cX0_moved 2 = .ok (.aload_n 0, 1) := dk_42 (dk_at dksX0_moved_0 2 rfl rfl)
theorem dX0_moved_3 : decode cX0_moved 3 = .ok (.getfield 40, 3) := dk_180 0 40 (dk_at dksX0_moved_0 3 rfl rfl)
theorem dX0_moved_6 : decode cX0_moved 6 = .ok (.invokevirtual 102, 3) := dk_182 0 102 (dk_at dksX0_moved_0 6 rfl rfl)
theorem dX0_moved_9 : decode cX0_moved 9 = .ok (.iconst 1, 1) := dk_4 (dk_at dksX0_moved_0 9 rfl rfl)
theorem dX0_moved_10 : decode cX0_moved 10 = .ok (.isub, 1) := dk_100 (dk_at dksX0_moved_0 10 rfl rfl)
theorem dX0_moved_11 : decode cX0_moved 11 = .ok (.invokestatic 3, 3) := dk_184 0 3 (dk_at dksX0_moved_0 11 rfl rfl)
theorem dX0_moved_14 : decode cX0_moved 14 = .ok (.ifCond .ne 5, 3) := dk_154 0 5 (dk_at dksX0_moved_0 14 rfl rfl)
theorem dX0_moved_17 : decode cX0_moved 17 = .ok (.iconst (-1), 1) := dk_2 (dk_at dksX0_moved_0 17 rfl rfl)
theorem dX0_moved_18 : decode cX0_moved 18 = .ok (.ireturn, 1) := dk_172 (dk_at dksX0_moved_0 18 rfl rfl)
theorem dX0_moved_19 : decode cX0_moved 19 = .ok (.aload_n 0, 1) := dk_42 (dk_at dksX0_moved_0 19 rfl rfl)
theorem dX0_moved_20 : decode cX0_moved 20 = .ok (.getfield 40, 3) := dk_180 0 40 (dk_at dksX0_moved_0 20 rfl rfl)
theorem dX0_moved_23 : decode cX0_moved 23 = .ok (.iload_n 1, 1) := dk_27 (dk_at dksX0_moved_0 23 rfl rfl)
theorem dX0_moved_24 : decode cX0_moved 24 = .ok (.invokevirtual 106, 3) := dk_182 0 106 (dk_at dksX0_moved_1 0 rfl rfl)
theorem dX0_moved_27 : decode cX0_moved 27 = .ok (.checkcast 390, 3) := dk_192 1 134 (dk_at dksX0_moved_1 3 rfl rfl)
theorem dX0_moved_30 : decode cX0_moved 30 = .ok (.astore_n 3, 1) := dk_78 (dk_at dksX0_moved_1 6 rfl rfl)
theorem dX0_moved_31 : decode cX0_moved 31 = .ok (.iload_n 2, 1) := dk_28 (dk_at dksX0_moved_1 7 rfl rfl)
theorem dX0_moved_32 : decode cX0_moved 32 = .ok (.tableswitch 97 0 8 #[52, 57, 62, 67, 72, 77, 82, 87, 92], 52) := by decide +kernel
theorem dX0_moved_84 : decode cX0_moved 84 = .ok (.aload_n 3, 1) := dk_45 (dk_at dksX0_moved_3 0 rfl rfl)
theorem dX0_moved_85 : decode cX0_moved 85 = .ok (.getfield 410, 3) := dk_180 1 154 (dk_at dksX0_moved_3 1 rfl rfl)
theorem dX0_moved_88 : decode cX0_moved 88 = .ok (.ireturn, 1) := dk_172 (dk_at dksX0_moved_3 4 rfl rfl)
theorem dX0_moved_89 : decode cX0_moved 89 = .ok (.aload_n 3, 1) := dk_45 (dk_at dksX0_moved_3 5 rfl rfl)
theorem dX0_moved_90 : decode cX0_moved 90 = .ok (.getfield 413, 3) := dk_180 1 157 (dk_at dksX0_moved_3 6 rfl rfl)
theorem dX0_moved_93 : decode cX0_moved 93 = .ok (.ireturn, 1) := dk_172 (dk_at dksX0_moved_3 9 rfl rfl)
theorem dX0_moved_94 : decode cX0_moved 94 = .ok (.aload_n 3, 1) := dk_45 (dk_at dksX0_moved_3 10 rfl rfl)
theorem dX0_moved_95 : decode cX0_moved 95 = .ok (.getfield 416, 3) := dk_180 1 160 (dk_at dksX0_moved_3 11 rfl rfl)
theorem dX0_moved_98 : decode cX0_moved 98 = .ok (.ireturn, 1) := dk_172 (dk_at dksX0_moved_3 14 rfl rfl)
theorem dX0_moved_99 : decode cX0_moved 99 = .ok (.aload_n 3, 1) := dk_45 (dk_at dksX0_moved_3 15 rfl rfl)
theorem dX0_moved_100 : decode cX0_moved 100 = .ok (.getfield 419, 3) := dk_180 1 163 (dk_at dksX0_moved_3 16 rfl rfl)
theorem dX0_moved_103 : decode cX0_moved 103 = .ok (.ireturn, 1) := dk_172 (dk_at dksX0_moved_3 19 rfl rfl)
theorem dX0_moved_104 : decode cX0_moved 104 = .ok (.aload_n 3, 1) := dk_45 (dk_at dksX0_moved_3 20 rfl rfl)
theorem dX0_moved_105 : decode cX0_moved 105 = .ok (.getfield 422, 3) := dk_180 1 166 (dk_at dksX0_moved_3 21 rfl rfl)
theorem dX0_moved_108 : decode cX0_moved 108 = .ok (.ireturn, 1) := dk_172 (dk_at dksX0_moved_4 0 rfl rfl)
theorem dX0_moved_109 : decode cX0_moved 109 = .ok (.aload_n 3, 1) := dk_45 (dk_at dksX0_moved_4 1 rfl rfl)
theorem dX0_moved_110 : decode cX0_moved 110 = .ok (.getfield 425, 3) := dk_180 1 169 (dk_at dksX0_moved_4 2 rfl rfl)
theorem dX0_moved_113 : decode cX0_moved 113 = .ok (.ireturn, 1) := dk_172 (dk_at dksX0_moved_4 5 rfl rfl)
theorem dX0_moved_114 : decode cX0_moved 114 = .ok (.aload_n 3, 1) := dk_45 (dk_at dksX0_moved_4 6 rfl rfl)
theorem dX0_moved_115 : decode cX0_moved 115 = .ok (.getfield 401, 3) := dk_180 1 145 (dk_at dksX0_moved_4 7 rfl rfl)
theorem dX0_moved_118 : decode cX0_moved 118 = .ok (.ireturn, 1) := dk_172 (dk_at dksX0_moved_4 10 rfl rfl)
theorem dX0_moved_119 : decode cX0_moved 119 = .ok (.aload_n 3, 1) := dk_45 (dk_at dksX0_moved_4 11 rfl rfl)
theorem dX0_moved_120 : decode cX0_moved 120 = .ok (.getfield 428, 3) := dk_180 1 172 (dk_at dksX0_moved_4 12 rfl rfl)
theorem dX0_moved_123 : decode cX0_moved 123 = .ok (.ireturn, 1) := dk_172 (dk_at dksX0_moved_4 15 rfl rfl)
theorem dX0_moved_124 : decode cX0_moved 124 = .ok (.aload_n 3, 1) := dk_45 (dk_at dksX0_moved_4 16 rfl rfl)
theorem dX0_moved_125 : decode cX0_moved 125 = .ok (.getfield 404, 3) := dk_180 1 148 (dk_at dksX0_moved_4 17 rfl rfl)
theorem dX0_moved_128 : decode cX0_moved 128 = .ok (.ireturn, 1) := dk_172 (dk_at dksX0_moved_4 20 rfl rfl)
theorem dX0_moved_129 : decode cX0_moved 129 = .ok (.iconst (-1), 1) := dk_2 (dk_at dksX0_moved_4 21 rfl rfl)
theorem dX0_moved_130 : decode cX0_moved 130 = .ok (.ireturn, 1) := dk_172 (dk_at dksX0_moved_4 22 rfl rfl)
def dkwX0_count_3 : List UInt8 := [180, 0, 40, 182, 0, 102, 172, 42, 180, 0, 114, 172, 42, 182, 1, 136, 172, 2, 172]
abbrev dktX0_count_3 : List UInt8 := dkwX0_count_3 ++ []
def dkwX0_count_2 : List UInt8 := [42, 180, 0, 33, 182, 0, 102, 172, 42, 180, 0, 37, 182, 0, 102, 172, 42, 180, 0, 136, 172, 42]
abbrev dktX0_count_2 : List UInt8 := dkwX0_count_2 ++ dktX0_count_3
def dkwX0_count_1 : List UInt8 := [170, 0, 0, 0, 0, 0, 78, 0, 0, 0, 0, 0, 0, 0, 5, 0, 0, 0, 39, 0, 0, 0, 47, 0, 0, 0, 55, 0, 0, 0, 60, 0, 0, 0, 68, 0, 0, 0, 73]
abbrev dktX0_count_1 : List UInt8 := dkwX0_count_1 ++ dktX0_count_2
def dkwX0_count_0 : List UInt8 := [27]
abbrev dktX0_count_0 : List UInt8 := dkwX0_count_0 ++ dktX0_count_1
theorem dksX0_count_0 : cX0_count.data.toList.drop 0 = dktX0_count_0 := by decide +kernel
theorem dksX0_count_1 : cX0_count.data.toList.drop 1 = dktX0_count_1 := dk_seg dksX0_count_0 1 rfl rfl
theorem dksX0_count_2 : cX0_count.data.toList.drop 40 = dktX0_count_2 := dk_seg dksX0_count_1 39 rfl rfl
theorem dksX0_count_3 : cX0_count.data.toList.drop 62 = dktX0_count_3 := dk_seg dksX0_count_2 22 rfl rfl
theorem dX0_count_0 : decode cX0_count 0 = .ok (.iload_n 1, 1) := dk_27 (dk_at dksX0_count_0 0 rfl rfl)
theorem dX0_count_1 : decode cX0_count 1 = .ok (.tableswitch 78 0 5 #[39, 47, 55, 60, 68, 73], 39) := by decide +kernel
theorem dX0_count_40 : decode cX0_count 40 = .ok (.aload_n 0, 1) := dk_42 (dk_at dksX0_count_2 0 rfl rfl)
theorem dX0_count_41 : decode cX0_count 41 = .ok (.getfield 33, 3) := dk_180 0 33 (dk_at dksX0_count_2 1 rfl rfl)
theorem dX0_count_44 : decode cX0_count 44 = .ok (.invokevirtual 102, 3) := dk_182 0 102 (dk_at dksX0_count_2 4 rfl rfl)
theorem dX0_count_47 : decode cX0_count 47 = .ok (.ireturn, 1) := dk_172 (dk_at dksX0_count_2 7 rfl rfl)
theorem dX0_count_48 : decode cX0_count 48 = .ok (.aload_n 0, 1) := dk_42 (dk_at dksX0_count_2 8 rfl rfl)
theorem dX0_count_49 : decode cX0_count 49 = .ok (.getfield 37, 3) := dk_180 0 37 (dk_at dksX0_count_2 9 rfl rfl)
theorem dX0_count_52 : decode cX0_count 52 = .ok (.invokevirtual 102, 3) := dk_182 0 102 (dk_at dksX0_count_2 12 rfl rfl)
theorem dX0_count_55 : decode cX0_count 55 = .ok (.ireturn, 1) := dk_172 (dk_at dksX0_count_2 15 rfl rfl)
theorem dX0_count_56 : decode cX0_count 56 = .ok (.aload_n 0, 1) := dk_42 (dk_at dksX0_count_2 16 rfl rfl)
theorem dX0_count_57 : decode cX0_count 57 = .ok (.getfield 136, 3) := dk_180 0 136 (dk_at dksX0_count_2 17 rfl rfl)
theorem dX0_count_60 : decode cX0_count 60 = .ok (.ireturn, 1) := dk_172 (dk_at dksX0_count_2 20 rfl rfl)
theorem dX0_count_61 : decode cX0_count 61 = .ok (.aload_n 0, 1) := dk_42 (dk_at dksX0_count_2 21 rfl rfl)
theorem dX0_count_62 : decode cX0_count 62 = .ok (.getfield 40, 3) := dk_180 0 40 (dk_at dksX0_count_3 0 rfl rfl)
theorem dX0_count_65 : decode cX0_count 65 = .ok (.invokevirtual 102, 3) := dk_182 0 102 (dk_at dksX0_count_3 3 rfl rfl)
theorem dX0_count_68 : decode cX0_count 68 = .ok (.ireturn, 1) := dk_172 (dk_at dksX0_count_3 6 rfl rfl)
theorem dX0_count_69 : decode cX0_count 69 = .ok (.aload_n 0, 1) := dk_42 (dk_at dksX0_count_3 7 rfl rfl)
theorem dX0_count_70 : decode cX0_count 70 = .ok (.getfield 114, 3) := dk_180 0 114 (dk_at dksX0_count_3 8 rfl rfl)
theorem dX0_count_73 : decode cX0_count 73 = .ok (.ireturn, 1) := dk_172 (dk_at dksX0_count_3 11 rfl rfl)
theorem dX0_count_74 : decode cX0_count 74 = .ok (.aload_n 0, 1) := dk_42 (dk_at dksX0_count_3 12 rfl rfl)
theorem dX0_count_75 : decode cX0_count 75 = .ok (.invokevirtual 392, 3) := dk_182 1 136 (dk_at dksX0_count_3 13 rfl rfl)
theorem dX0_count_78 : decode cX0_count 78 = .ok (.ireturn, 1) := dk_172 (dk_at dksX0_count_3 16 rfl rfl)
theorem dX0_count_79 : decode cX0_count 79 = .ok (.iconst (-1), 1) := dk_2 (dk_at dksX0_count_3 17 rfl rfl)
theorem dX0_count_80 : decode cX0_count 80 = .ok (.ireturn, 1) := dk_172 (dk_at dksX0_count_3 18 rfl rfl)
