set_option maxRecDepth 100000
theorem hyX3_findsMiddles : yX3_findsMiddles.cls ≠ "java/lang/invoke/MethodHandle" ∧ yX3_findsMiddles.cls ≠ "java/lang/invoke/VarHandle" ∧ (parseMethodDescriptor yX3_findsMiddles.desc).map (fun d => d.parameters.length) = some 0 := by decide +kernel
theorem sX3_findsMiddles_L7 (G : Gl) (n : Nat) (K : Nat → Nat) (hK : K = G.ad) (y6 : Nat) : ∀ (f : Nat) (x5 : Int32) (h : AH) (k : AH → Option (Unit × AH)) (hk : ∀ (h : AH), Sim G yX3_findsMiddles.cls yX3_findsMiddles.name cX3_findsMiddles 5 none 5 cvV 44 [(0, .ref y6)] [] h (k h)), Sim G yX3_findsMiddles.cls yX3_findsMiddles.name cX3_findsMiddles 5 none 5 cvV 7 [(1, .int x5), (0, .ref y6)] [] h (F_X3_findsMiddles_L7 n K y6 f x5 h k) := by
  intro f
  induction f with
  | zero =>
    intro x5 h k hk
    exact s_none
  | succ f ih =>
    intro x5 h k hk
    unfold F_X3_findsMiddles_L7
    refine s_iload_n dX3_findsMiddles_7 0 rfl ?_
    refine s_aload_n dX3_findsMiddles_8 1 rfl ?_
    refine s_chk (fun hk9 => ?_)
    refine s_callV_I 4 (kX3_voters G n K hK y6 h) (by decide) (by decide) dX3_findsMiddles_9 hk9 rfl rfl q1475 q1477 qs62 q109 q1478 hyX3_voters rfl rfl (Nat.le_of_ble_eq_true rfl) (fun r7 h8 => ?_)
    refine s_icmp_ge 44 dX3_findsMiddles_12 (by decide) (fun c10 => ?_) (fun c10 => ?_)
    · refine s_sub [1] rfl ?_
      exact hk h8
    · refine s_aload_n dX3_findsMiddles_15 1 rfl ?_
      refine s_aload_n dX3_findsMiddles_16 1 rfl ?_
      refine s_chk (fun hk11 => ?_)
      refine s_get (j := 6) 4 (va_rf (h8.R y6 6)) dX3_findsMiddles_17 hk11 rfl (by decide) q1243 (Or.inl rfl) rfl ?_
      refine s_iconst (0 : Int32) dX3_findsMiddles_20 (by decide) ?_
      refine s_ob (r := h8.R y6 6) (fun z => [(1, .int x5), (0, .ref y6)]) (fun z => [.int (0 : Int32), z, .ref y6]) (fun a12 => ?_)
      refine s_chk (fun hk13 => ?_)
      refine s_chk (fun hi14 => ?_)
      refine s_aald dX3_findsMiddles_21 hk13 rfl rfl rfl hi14 ?_
      refine s_iload_n dX3_findsMiddles_22 0 rfl ?_
      refine s_ob (r := h8.R a12 (ix (0 : Int32))) (fun z => [(1, .int x5), (0, .ref y6)]) (fun z => [.int x5, z, .ref y6]) (fun a15 => ?_)
      refine s_chk (fun hk16 => ?_)
      refine s_chk (fun hi17 => ?_)
      refine s_iald dX3_findsMiddles_23 hk16 rfl hi17 ?_
      refine s_i2l dX3_findsMiddles_24 ?_
      refine s_aload_n dX3_findsMiddles_25 1 rfl ?_
      refine s_get (j := 7) 4 (va_rf (h8.R y6 7)) dX3_findsMiddles_26 hk11 rfl (by decide) q1244 (Or.inl rfl) rfl ?_
      refine s_iconst (0 : Int32) dX3_findsMiddles_29 (by decide) ?_
      refine s_ob (r := h8.R y6 7) (fun z => [(1, .int x5), (0, .ref y6)]) (fun z => [.int (0 : Int32), z, .long ((h8.I a15 (ix x5)).toInt64), .ref y6]) (fun a18 => ?_)
      refine s_chk (fun hk19 => ?_)
      refine s_chk (fun hi20 => ?_)
      refine s_aald dX3_findsMiddles_30 hk19 rfl rfl rfl hi20 ?_
      refine s_iload_n dX3_findsMiddles_31 0 rfl ?_
      refine s_ob (r := h8.R a18 (ix (0 : Int32))) (fun z => [(1, .int x5), (0, .ref y6)]) (fun z => [.int x5, z, .long ((h8.I a15 (ix x5)).toInt64), .ref y6]) (fun a21 => ?_)
      refine s_chk (fun hk22 => ?_)
      refine s_chk (fun hi23 => ?_)
      refine s_iald dX3_findsMiddles_32 hk22 rfl hi23 ?_
      refine s_i2l dX3_findsMiddles_33 ?_
      refine s_lconst (1 : Int64) dX3_findsMiddles_34 (by decide) ?_
      refine s_callV_V 4 (kX3_addsMiddle G n K hK y6 ((h8.I a15 (ix x5)).toInt64) ((h8.I a21 (ix x5)).toInt64) (1 : Int64) h8) (by decide) (by decide) dX3_findsMiddles_35 hk11 rfl rfl q1588 q1590 qs80 q109 q1591 hyX3_addsMiddle rfl rfl (Nat.le_of_ble_eq_true rfl) (fun r24 h25 => ?_)
      refine s_iinc (1 : Int32) [(1, .int (x5 + (1 : Int32))), (0, .ref y6)] dX3_findsMiddles_38 0 rfl (by decide) (by decide) (by decide) rfl ?_
      refine s_goto 7 dX3_findsMiddles_41 (by decide) ?_
      exact ih (x5 + (1 : Int32)) h25 k hk
theorem sX3_findsMiddles_L56 (G : Gl) (n : Nat) (K : Nat → Nat) (hK : K = G.ad) (y34 : Int32) (y35 : Nat) : ∀ (f : Nat) (x33 : Int32) (h : AH) (k : AH → Option (Unit × AH)) (hk : ∀ (h : AH), Sim G yX3_findsMiddles.cls yX3_findsMiddles.name cX3_findsMiddles 5 none 5 cvV 175 [(1, .int y34), (0, .ref y35)] [] h (k h)), Sim G yX3_findsMiddles.cls yX3_findsMiddles.name cX3_findsMiddles 5 none 5 cvV 56 [(2, .int x33), (1, .int y34), (0, .ref y35)] [] h (F_X3_findsMiddles_L56 n K y34 y35 f x33 h k) := by
  intro f
  induction f with
  | zero =>
    intro x33 h k hk
    exact s_none
  | succ f ih =>
    intro x33 h k hk
    unfold F_X3_findsMiddles_L56
    refine s_iload_n dX3_findsMiddles_56 0 rfl ?_
    refine s_iload_n dX3_findsMiddles_57 1 rfl ?_
    refine s_icmp_ge 175 dX3_findsMiddles_58 (by decide) (fun c36 => ?_) (fun c36 => ?_)
    · refine s_sub [1, 2] rfl ?_
      exact hk h
    · refine s_aload_n dX3_findsMiddles_61 2 rfl ?_
      refine s_chk (fun hk37 => ?_)
      refine s_get (j := 24) 4 (va_rf (h.R y35 24)) dX3_findsMiddles_62 hk37 rfl (by decide) q1261 (Or.inl rfl) rfl ?_
      refine s_iload_n dX3_findsMiddles_65 1 rfl ?_
      refine s_ob (r := h.R y35 24) (fun z => [(2, .int x33), (1, .int y34), (0, .ref y35)]) (fun z => [.int y34, z]) (fun a38 => ?_)
      refine s_chk (fun hk39 => ?_)
      refine s_chk (fun hi40 => ?_)
      refine s_iald dX3_findsMiddles_66 hk39 rfl hi40 ?_
      refine s_i2l dX3_findsMiddles_67 ?_
      refine s_aload_n dX3_findsMiddles_68 2 rfl ?_
      refine s_get (j := 25) 4 (va_rf (h.R y35 25)) dX3_findsMiddles_69 hk37 rfl (by decide) q1262 (Or.inl rfl) rfl ?_
      refine s_iload_n dX3_findsMiddles_72 0 rfl ?_
      refine s_ob (r := h.R y35 25) (fun z => [(2, .int x33), (1, .int y34), (0, .ref y35)]) (fun z => [.int x33, z, .long ((h.I a38 (ix y34)).toInt64)]) (fun a41 => ?_)
      refine s_chk (fun hk42 => ?_)
      refine s_chk (fun hi43 => ?_)
      refine s_iald dX3_findsMiddles_73 hk42 rfl hi43 ?_
      refine s_i2l dX3_findsMiddles_74 ?_
      refine s_lmul dX3_findsMiddles_75 ?_
      refine s_aload_n dX3_findsMiddles_76 2 rfl ?_
      refine s_get (j := 24) 4 (va_rf (h.R y35 24)) dX3_findsMiddles_77 hk37 rfl (by decide) q1261 (Or.inl rfl) rfl ?_
      refine s_iload_n dX3_findsMiddles_80 0 rfl ?_
      refine s_ob (r := h.R y35 24) (fun z => [(2, .int x33), (1, .int y34), (0, .ref y35)]) (fun z => [.int x33, z, .long (((h.I a38 (ix y34)).toInt64) * ((h.I a41 (ix x33)).toInt64))]) (fun a44 => ?_)
      refine s_chk (fun hk45 => ?_)
      refine s_chk (fun hi46 => ?_)
      refine s_iald dX3_findsMiddles_81 hk45 rfl hi46 ?_
      refine s_i2l dX3_findsMiddles_82 ?_
      refine s_aload_n dX3_findsMiddles_83 2 rfl ?_
      refine s_get (j := 25) 4 (va_rf (h.R y35 25)) dX3_findsMiddles_84 hk37 rfl (by decide) q1262 (Or.inl rfl) rfl ?_
      refine s_iload_n dX3_findsMiddles_87 1 rfl ?_
      refine s_ob (r := h.R y35 25) (fun z => [(2, .int x33), (1, .int y34), (0, .ref y35)]) (fun z => [.int y34, z, .long ((h.I a44 (ix x33)).toInt64), .long (((h.I a38 (ix y34)).toInt64) * ((h.I a41 (ix x33)).toInt64))]) (fun a47 => ?_)
      refine s_chk (fun hk48 => ?_)
      refine s_chk (fun hi49 => ?_)
      refine s_iald dX3_findsMiddles_88 hk48 rfl hi49 ?_
      refine s_i2l dX3_findsMiddles_89 ?_
      refine s_lmul dX3_findsMiddles_90 ?_
      refine s_lsub dX3_findsMiddles_91 ?_
      refine s_lstore_n [(1003, .long ((((h.I a38 (ix y34)).toInt64) * ((h.I a41 (ix x33)).toInt64)) - (((h.I a44 (ix x33)).toInt64) * ((h.I a47 (ix y34)).toInt64)))), (2, .int x33), (1, .int y34), (0, .ref y35)] dX3_findsMiddles_92 (by decide) (by decide) rfl ?_
      refine s_lload_n dX3_findsMiddles_93 0 rfl ?_
      refine s_lconst (0 : Int64) dX3_findsMiddles_94 (by decide) ?_
      refine s_lcmp dX3_findsMiddles_95 ?_
      refine s_if_ne 102 dX3_findsMiddles_96 (by decide) (fun c50 => ?_) (fun c50 => ?_)
      · refine s_aload_n dX3_findsMiddles_102 3 rfl ?_
        refine s_aload_n dX3_findsMiddles_103 3 rfl ?_
        refine s_get (j := 26) 4 (va_rf (h.R y35 26)) dX3_findsMiddles_104 hk37 rfl (by decide) q1263 (Or.inl rfl) rfl ?_
        refine s_iload_n dX3_findsMiddles_107 2 rfl ?_
        refine s_ob (r := h.R y35 26) (fun z => [(1003, .long ((((h.I a38 (ix y34)).toInt64) * ((h.I a41 (ix x33)).toInt64)) - (((h.I a44 (ix x33)).toInt64) * ((h.I a47 (ix y34)).toInt64)))), (2, .int x33), (1, .int y34), (0, .ref y35)]) (fun z => [.int y34, z, .ref y35]) (fun a51 => ?_)
        refine s_chk (fun hk52 => ?_)
        refine s_chk (fun hi53 => ?_)
        refine s_iald dX3_findsMiddles_108 hk52 rfl hi53 ?_
        refine s_i2l dX3_findsMiddles_109 ?_
        refine s_aload_n dX3_findsMiddles_110 3 rfl ?_
        refine s_get (j := 25) 4 (va_rf (h.R y35 25)) dX3_findsMiddles_111 hk37 rfl (by decide) q1262 (Or.inl rfl) rfl ?_
        refine s_iload_n dX3_findsMiddles_114 1 rfl ?_
        refine s_ob (r := h.R y35 25) (fun z => [(1003, .long ((((h.I a38 (ix y34)).toInt64) * ((h.I a41 (ix x33)).toInt64)) - (((h.I a44 (ix x33)).toInt64) * ((h.I a47 (ix y34)).toInt64)))), (2, .int x33), (1, .int y34), (0, .ref y35)]) (fun z => [.int x33, z, .long ((h.I a51 (ix y34)).toInt64), .ref y35]) (fun a54 => ?_)
        refine s_chk (fun hk55 => ?_)
        refine s_chk (fun hi56 => ?_)
        refine s_iald dX3_findsMiddles_115 hk55 rfl hi56 ?_
        refine s_i2l dX3_findsMiddles_116 ?_
        refine s_lmul dX3_findsMiddles_117 ?_
        refine s_aload_n dX3_findsMiddles_118 3 rfl ?_
        refine s_get (j := 26) 4 (va_rf (h.R y35 26)) dX3_findsMiddles_119 hk37 rfl (by decide) q1263 (Or.inl rfl) rfl ?_
        refine s_iload_n dX3_findsMiddles_122 1 rfl ?_
        refine s_ob (r := h.R y35 26) (fun z => [(1003, .long ((((h.I a38 (ix y34)).toInt64) * ((h.I a41 (ix x33)).toInt64)) - (((h.I a44 (ix x33)).toInt64) * ((h.I a47 (ix y34)).toInt64)))), (2, .int x33), (1, .int y34), (0, .ref y35)]) (fun z => [.int x33, z, .long (((h.I a51 (ix y34)).toInt64) * ((h.I a54 (ix x33)).toInt64)), .ref y35]) (fun a57 => ?_)
        refine s_chk (fun hk58 => ?_)
        refine s_chk (fun hi59 => ?_)
        refine s_iald dX3_findsMiddles_123 hk58 rfl hi59 ?_
        refine s_i2l dX3_findsMiddles_124 ?_
        refine s_aload_n dX3_findsMiddles_125 3 rfl ?_
        refine s_get (j := 25) 4 (va_rf (h.R y35 25)) dX3_findsMiddles_126 hk37 rfl (by decide) q1262 (Or.inl rfl) rfl ?_
        refine s_iload_n dX3_findsMiddles_129 2 rfl ?_
        refine s_ob (r := h.R y35 25) (fun z => [(1003, .long ((((h.I a38 (ix y34)).toInt64) * ((h.I a41 (ix x33)).toInt64)) - (((h.I a44 (ix x33)).toInt64) * ((h.I a47 (ix y34)).toInt64)))), (2, .int x33), (1, .int y34), (0, .ref y35)]) (fun z => [.int y34, z, .long ((h.I a57 (ix x33)).toInt64), .long (((h.I a51 (ix y34)).toInt64) * ((h.I a54 (ix x33)).toInt64)), .ref y35]) (fun a60 => ?_)
        refine s_chk (fun hk61 => ?_)
        refine s_chk (fun hi62 => ?_)
        refine s_iald dX3_findsMiddles_130 hk61 rfl hi62 ?_
        refine s_i2l dX3_findsMiddles_131 ?_
        refine s_lmul dX3_findsMiddles_132 ?_
        refine s_lsub dX3_findsMiddles_133 ?_
        refine s_aload_n dX3_findsMiddles_134 3 rfl ?_
        refine s_get (j := 24) 4 (va_rf (h.R y35 24)) dX3_findsMiddles_135 hk37 rfl (by decide) q1261 (Or.inl rfl) rfl ?_
        refine s_iload_n dX3_findsMiddles_138 2 rfl ?_
        refine s_ob (r := h.R y35 24) (fun z => [(1003, .long ((((h.I a38 (ix y34)).toInt64) * ((h.I a41 (ix x33)).toInt64)) - (((h.I a44 (ix x33)).toInt64) * ((h.I a47 (ix y34)).toInt64)))), (2, .int x33), (1, .int y34), (0, .ref y35)]) (fun z => [.int y34, z, .long ((((h.I a51 (ix y34)).toInt64) * ((h.I a54 (ix x33)).toInt64)) - (((h.I a57 (ix x33)).toInt64) * ((h.I a60 (ix y34)).toInt64))), .ref y35]) (fun a63 => ?_)
        refine s_chk (fun hk64 => ?_)
        refine s_chk (fun hi65 => ?_)
        refine s_iald dX3_findsMiddles_139 hk64 rfl hi65 ?_
        refine s_i2l dX3_findsMiddles_140 ?_
        refine s_aload_n dX3_findsMiddles_141 3 rfl ?_
        refine s_get (j := 26) 4 (va_rf (h.R y35 26)) dX3_findsMiddles_142 hk37 rfl (by decide) q1263 (Or.inl rfl) rfl ?_
        refine s_iload_n dX3_findsMiddles_145 1 rfl ?_
        refine s_ob (r := h.R y35 26) (fun z => [(1003, .long ((((h.I a38 (ix y34)).toInt64) * ((h.I a41 (ix x33)).toInt64)) - (((h.I a44 (ix x33)).toInt64) * ((h.I a47 (ix y34)).toInt64)))), (2, .int x33), (1, .int y34), (0, .ref y35)]) (fun z => [.int x33, z, .long ((h.I a63 (ix y34)).toInt64), .long ((((h.I a51 (ix y34)).toInt64) * ((h.I a54 (ix x33)).toInt64)) - (((h.I a57 (ix x33)).toInt64) * ((h.I a60 (ix y34)).toInt64))), .ref y35]) (fun a66 => ?_)
        refine s_chk (fun hk67 => ?_)
        refine s_chk (fun hi68 => ?_)
        refine s_iald dX3_findsMiddles_146 hk67 rfl hi68 ?_
        refine s_i2l dX3_findsMiddles_147 ?_
        refine s_lmul dX3_findsMiddles_148 ?_
        refine s_aload_n dX3_findsMiddles_149 3 rfl ?_
        refine s_get (j := 24) 4 (va_rf (h.R y35 24)) dX3_findsMiddles_150 hk37 rfl (by decide) q1261 (Or.inl rfl) rfl ?_
        refine s_iload_n dX3_findsMiddles_153 1 rfl ?_
        refine s_ob (r := h.R y35 24) (fun z => [(1003, .long ((((h.I a38 (ix y34)).toInt64) * ((h.I a41 (ix x33)).toInt64)) - (((h.I a44 (ix x33)).toInt64) * ((h.I a47 (ix y34)).toInt64)))), (2, .int x33), (1, .int y34), (0, .ref y35)]) (fun z => [.int x33, z, .long (((h.I a63 (ix y34)).toInt64) * ((h.I a66 (ix x33)).toInt64)), .long ((((h.I a51 (ix y34)).toInt64) * ((h.I a54 (ix x33)).toInt64)) - (((h.I a57 (ix x33)).toInt64) * ((h.I a60 (ix y34)).toInt64))), .ref y35]) (fun a69 => ?_)
        refine s_chk (fun hk70 => ?_)
        refine s_chk (fun hi71 => ?_)
        refine s_iald dX3_findsMiddles_154 hk70 rfl hi71 ?_
        refine s_i2l dX3_findsMiddles_155 ?_
        refine s_aload_n dX3_findsMiddles_156 3 rfl ?_
        refine s_get (j := 26) 4 (va_rf (h.R y35 26)) dX3_findsMiddles_157 hk37 rfl (by decide) q1263 (Or.inl rfl) rfl ?_
        refine s_iload_n dX3_findsMiddles_160 2 rfl ?_
        refine s_ob (r := h.R y35 26) (fun z => [(1003, .long ((((h.I a38 (ix y34)).toInt64) * ((h.I a41 (ix x33)).toInt64)) - (((h.I a44 (ix x33)).toInt64) * ((h.I a47 (ix y34)).toInt64)))), (2, .int x33), (1, .int y34), (0, .ref y35)]) (fun z => [.int y34, z, .long ((h.I a69 (ix x33)).toInt64), .long (((h.I a63 (ix y34)).toInt64) * ((h.I a66 (ix x33)).toInt64)), .long ((((h.I a51 (ix y34)).toInt64) * ((h.I a54 (ix x33)).toInt64)) - (((h.I a57 (ix x33)).toInt64) * ((h.I a60 (ix y34)).toInt64))), .ref y35]) (fun a72 => ?_)
        refine s_chk (fun hk73 => ?_)
        refine s_chk (fun hi74 => ?_)
        refine s_iald dX3_findsMiddles_161 hk73 rfl hi74 ?_
        refine s_i2l dX3_findsMiddles_162 ?_
        refine s_lmul dX3_findsMiddles_163 ?_
        refine s_lsub dX3_findsMiddles_164 ?_
        refine s_lload_n dX3_findsMiddles_165 0 rfl ?_
        refine s_callV_V 4 (kX3_addsMiddle G n K hK y35 ((((h.I a51 (ix y34)).toInt64) * ((h.I a54 (ix x33)).toInt64)) - (((h.I a57 (ix x33)).toInt64) * ((h.I a60 (ix y34)).toInt64))) ((((h.I a63 (ix y34)).toInt64) * ((h.I a66 (ix x33)).toInt64)) - (((h.I a69 (ix x33)).toInt64) * ((h.I a72 (ix y34)).toInt64))) ((((h.I a38 (ix y34)).toInt64) * ((h.I a41 (ix x33)).toInt64)) - (((h.I a44 (ix x33)).toInt64) * ((h.I a47 (ix y34)).toInt64))) h) (by decide) (by decide) dX3_findsMiddles_166 hk37 rfl rfl q1588 q1590 qs80 q109 q1591 hyX3_addsMiddle rfl rfl (Nat.le_of_ble_eq_true rfl) (fun r75 h76 => ?_)
        refine s_iinc (1 : Int32) [(2, .int (x33 + (1 : Int32))), (1003, .long ((((h.I a38 (ix y34)).toInt64) * ((h.I a41 (ix x33)).toInt64)) - (((h.I a44 (ix x33)).toInt64) * ((h.I a47 (ix y34)).toInt64)))), (1, .int y34), (0, .ref y35)] dX3_findsMiddles_169 1 rfl (by decide) (by decide) (by decide) rfl ?_
        refine s_goto 56 dX3_findsMiddles_172 (by decide) ?_
        refine s_sub [0, 2, 3] rfl ?_
        exact ih (x33 + (1 : Int32)) h76 k hk
      · refine s_goto 169 dX3_findsMiddles_99 (by decide) ?_
        refine s_iinc (1 : Int32) [(2, .int (x33 + (1 : Int32))), (1003, .long ((((h.I a38 (ix y34)).toInt64) * ((h.I a41 (ix x33)).toInt64)) - (((h.I a44 (ix x33)).toInt64) * ((h.I a47 (ix y34)).toInt64)))), (1, .int y34), (0, .ref y35)] dX3_findsMiddles_169 1 rfl (by decide) (by decide) (by decide) rfl ?_
        refine s_goto 56 dX3_findsMiddles_172 (by decide) ?_
        refine s_sub [0, 2, 3] rfl ?_
        exact ih (x33 + (1 : Int32)) h k hk
theorem sX3_findsMiddles_L46 (G : Gl) (n : Nat) (K : Nat → Nat) (hK : K = G.ad) (y29 : Nat) : ∀ (f : Nat) (x28 : Int32) (h : AH), Sim G yX3_findsMiddles.cls yX3_findsMiddles.name cX3_findsMiddles 5 none 5 cvV 46 [(1, .int x28), (0, .ref y29)] [] h (F_X3_findsMiddles_L46 n K y29 f x28 h) := by
  intro f
  induction f with
  | zero =>
    intro x28 h
    exact s_none
  | succ f ih =>
    intro x28 h
    unfold F_X3_findsMiddles_L46
    refine s_iload_n dX3_findsMiddles_46 0 rfl ?_
    refine s_aload_n dX3_findsMiddles_47 1 rfl ?_
    refine s_chk (fun hk30 => ?_)
    refine s_get (j := 27) 4 (.int (h.I y29 27)) dX3_findsMiddles_48 hk30 rfl (by decide) q1264 (Or.inl rfl) rfl ?_
    refine s_icmp_ge 181 dX3_findsMiddles_51 (by decide) (fun c31 => ?_) (fun c31 => ?_)
    · exact s_vret dX3_findsMiddles_181 rfl rfl
    · refine s_iconst (0 : Int32) dX3_findsMiddles_54 (by decide) ?_
      refine s_istore_n [(2, .int (0 : Int32)), (1, .int x28), (0, .ref y29)] dX3_findsMiddles_55 (by decide) (by decide) rfl ?_
      refine sX3_findsMiddles_L56 G n K hK x28 y29 n (0 : Int32) h _ ?_
      intro h77
      refine s_iinc (1 : Int32) [(1, .int (x28 + (1 : Int32))), (0, .ref y29)] dX3_findsMiddles_175 0 rfl (by decide) (by decide) (by decide) rfl ?_
      refine s_goto 46 dX3_findsMiddles_178 (by decide) ?_
      exact ih (x28 + (1 : Int32)) h77
theorem kX3_findsMiddles (G : Gl) (n : Nat) (K : Nat → Nat) (hK : K = G.ad) (p0 : Nat) (h : AH) : OkM G yX3_findsMiddles cX3_findsMiddles 5 none 5 cvV [.ref p0] h (F_X3_findsMiddles n K p0 h) := by
  refine ok_of_sim [(0, .ref p0)] (by decide +kernel) (fun r => ⟨_, rfl⟩) (by simp [uns, lv_args, lg_sl, catI, catL, catA, va_rfc]) (by simp [uns, lv_args, lg_sl, catI, catL, catA, va_rfc]) (by simp [uns, lv_args, lg_sl, catI, catL, catA, va_rfc]) ?_
  unfold F_X3_findsMiddles
  refine s_aload_n dX3_findsMiddles_0 0 rfl ?_
  refine s_iconst (0 : Int32) dX3_findsMiddles_1 (by decide) ?_
  refine s_chk (fun hk1 => ?_)
  refine s_put (j := 28) 4 (v := .int (0 : Int32)) dX3_findsMiddles_2 hk1 rfl (by decide) q1265 (Or.inl rfl) rfl rfl rfl (Upd.i (fun _ => rfl)) ?_
  refine s_hl (fun h2 e3 => ?_)
  refine s_iconst (0 : Int32) dX3_findsMiddles_5 (by decide) ?_
  refine s_istore_n [(1, .int (0 : Int32)), (0, .ref p0)] dX3_findsMiddles_6 (by decide) (by decide) rfl ?_
  refine sX3_findsMiddles_L7 G n K hK p0 n (0 : Int32) h2 _ ?_
  intro h26
  refine s_iconst (0 : Int32) dX3_findsMiddles_44 (by decide) ?_
  refine s_istore_n [(1, .int (0 : Int32)), (0, .ref p0)] dX3_findsMiddles_45 (by decide) (by decide) rfl ?_
  exact sX3_findsMiddles_L46 G n K hK p0 n (0 : Int32) h26
theorem hyX3_knows : yX3_knows.cls ≠ "java/lang/invoke/MethodHandle" ∧ yX3_knows.cls ≠ "java/lang/invoke/VarHandle" ∧ (parseMethodDescriptor yX3_knows.desc).map (fun d => d.parameters.length) = some 0 := by decide +kernel
theorem sX3_knows_L30 (G : Gl) (n : Nat) (K : Nat → Nat) (hK : K = G.ad) (y19 : Int32) (y20 : Nat) : ∀ (f : Nat) (x18 : Int32) (h : AH) (k : AH → Option (Unit × AH)) (hk : ∀ (h : AH), Sim G yX3_knows.cls yX3_knows.name cX3_knows 3 none 6 cvV 47 [(1, .int y19), (0, .ref y20)] [] h (k h)), Sim G yX3_knows.cls yX3_knows.name cX3_knows 3 none 6 cvV 30 [(2, .int x18), (1, .int y19), (0, .ref y20)] [] h (F_X3_knows_L30 n K y19 y20 f x18 h k) := by
  intro f
  induction f with
  | zero =>
    intro x18 h k hk
    exact s_none
  | succ f ih =>
    intro x18 h k hk
    unfold F_X3_knows_L30
    refine s_iload_n dX3_knows_30 0 rfl ?_
    refine s_iload_n dX3_knows_31 1 rfl ?_
    refine s_icmp_ge 47 dX3_knows_32 (by decide) (fun c21 => ?_) (fun c21 => ?_)
    · refine s_sub [1, 2] rfl ?_
      exact hk h
    · refine s_aload_n dX3_knows_35 2 rfl ?_
      refine s_iload_n dX3_knows_36 1 rfl ?_
      refine s_iload_n dX3_knows_37 0 rfl ?_
      refine s_chk (fun hk24 => ?_)
      refine s_callV_V 4 (kX3_through G n K hK y20 y19 x18 h) (by decide) (by decide) dX3_knows_38 hk24 rfl rfl q1565 q1567 qs75 q109 q1568 hyX3_through rfl rfl (Nat.le_of_ble_eq_true rfl) (fun r22 h23 => ?_)
      refine s_iinc (1 : Int32) [(2, .int (x18 + (1 : Int32))), (1, .int y19), (0, .ref y20)] dX3_knows_41 0 rfl (by decide) (by decide) (by decide) rfl ?_
      refine s_goto 30 dX3_knows_44 (by decide) ?_
      exact ih (x18 + (1 : Int32)) h23 k hk
theorem sX3_knows_L20 (G : Gl) (n : Nat) (K : Nat → Nat) (hK : K = G.ad) (y9 : Nat) : ∀ (f : Nat) (x8 : Int32) (h : AH), Sim G yX3_knows.cls yX3_knows.name cX3_knows 3 none 6 cvV 20 [(1, .int x8), (0, .ref y9)] [] h (F_X3_knows_L20 n K y9 f x8 h) := by
  intro f
  induction f with
  | zero =>
    intro x8 h
    exact s_none
  | succ f ih =>
    intro x8 h
    unfold F_X3_knows_L20
    refine s_iload_n dX3_knows_20 0 rfl ?_
    refine s_aload_n dX3_knows_21 1 rfl ?_
    refine s_chk (fun hk12 => ?_)
    refine s_callV_I 4 (kX3_voters G n K hK y9 h) (by decide) (by decide) dX3_knows_22 hk12 rfl rfl q1475 q1477 qs62 q109 q1478 hyX3_voters rfl rfl (Nat.le_of_ble_eq_true rfl) (fun r10 h11 => ?_)
    refine s_icmp_ge 53 dX3_knows_25 (by decide) (fun c13 => ?_) (fun c13 => ?_)
    · refine s_aload_n dX3_knows_53 1 rfl ?_
      refine s_chk (fun hk16 => ?_)
      refine s_callV_V 4 (kX3_findsMiddles G n K hK y9 h11) (by decide) (by decide) dX3_knows_54 hk16 rfl rfl q1584 q1586 qs79 q109 q1587 hyX3_findsMiddles rfl rfl (Nat.le_of_ble_eq_true rfl) (fun r14 h15 => ?_)
      exact s_vret dX3_knows_57 rfl rfl
    · refine s_iconst (0 : Int32) dX3_knows_28 (by decide) ?_
      refine s_istore_n [(2, .int (0 : Int32)), (1, .int x8), (0, .ref y9)] dX3_knows_29 (by decide) (by decide) rfl ?_
      refine sX3_knows_L30 G n K hK x8 y9 n (0 : Int32) h11 _ ?_
      intro h25
      refine s_iinc (1 : Int32) [(1, .int (x8 + (1 : Int32))), (0, .ref y9)] dX3_knows_47 0 rfl (by decide) (by decide) (by decide) rfl ?_
      refine s_goto 20 dX3_knows_50 (by decide) ?_
      exact ih (x8 + (1 : Int32)) h25
theorem kX3_knows (G : Gl) (n : Nat) (K : Nat → Nat) (hK : K = G.ad) (p0 : Nat) (h : AH) : OkM G yX3_knows cX3_knows 3 none 6 cvV [.ref p0] h (F_X3_knows n K p0 h) := by
  refine ok_of_sim [(0, .ref p0)] (by decide +kernel) (fun r => ⟨_, rfl⟩) (by simp [uns, lv_args, lg_sl, catI, catL, catA, va_rfc]) (by simp [uns, lv_args, lg_sl, catI, catL, catA, va_rfc]) (by simp [uns, lv_args, lg_sl, catI, catL, catA, va_rfc]) ?_
  unfold F_X3_knows
  refine s_aload_n dX3_knows_0 0 rfl ?_
  refine s_chk (fun hk1 => ?_)
  refine s_get (j := 29) 4 (.int (h.I p0 29)) dX3_knows_1 hk1 rfl (by decide) q1266 (Or.inl rfl) rfl ?_
  refine s_if_eq 8 dX3_knows_4 (by decide) (fun c2 => ?_) (fun c2 => ?_)
  · refine s_aload_n dX3_knows_8 0 rfl ?_
    refine s_iconst (1 : Int32) dX3_knows_9 (by decide) ?_
    refine s_put (j := 29) 4 (v := .int (1 : Int32)) dX3_knows_10 hk1 rfl (by decide) q1266 (Or.inl rfl) rfl rfl rfl (Upd.i (fun _ => rfl)) ?_
    refine s_hl (fun h3 e4 => ?_)
    refine s_aload_n dX3_knows_13 0 rfl ?_
    refine s_iconst (0 : Int32) dX3_knows_14 (by decide) ?_
    refine s_put (j := 27) 4 (v := .int (0 : Int32)) dX3_knows_15 (show h3.kind p0 = 5 by rw [e4]; exact hk1) rfl (by decide) q1264 (Or.inl rfl) rfl rfl rfl (Upd.i (fun _ => rfl)) ?_
    refine s_hl (fun h5 e6 => ?_)
    refine s_iconst (0 : Int32) dX3_knows_18 (by decide) ?_
    refine s_istore_n [(1, .int (0 : Int32)), (0, .ref p0)] dX3_knows_19 (by decide) (by decide) rfl ?_
    exact sX3_knows_L20 G n K hK p0 n (0 : Int32) h5
  · exact s_vret dX3_knows_7 rfl rfl
theorem hyX3_line : yX3_line.cls ≠ "java/lang/invoke/MethodHandle" ∧ yX3_line.cls ≠ "java/lang/invoke/VarHandle" ∧ (parseMethodDescriptor yX3_line.desc).map (fun d => d.parameters.length) = some 2 := by decide +kernel
theorem kX3_line (G : Gl) (n : Nat) (K : Nat → Nat) (hK : K = G.ad) (p0 : Nat) (p1 : Int32) (p2 : Int32) (h : AH) : OkM G yX3_line cX3_line 3 (some .int) 7 cvI [.ref p0, .int p1, .int p2] h (F_X3_line n K p0 p1 p2 h) := by
  refine ok_of_sim [(0, .ref p0), (1, .int p1), (2, .int p2)] (by decide +kernel) (fun r => ⟨_, rfl⟩) (by simp [uns, lv_args, lg_sl, catI, catL, catA, va_rfc]) (by simp [uns, lv_args, lg_sl, catI, catL, catA, va_rfc]) (by simp [uns, lv_args, lg_sl, catI, catL, catA, va_rfc]) ?_
  unfold F_X3_line
  refine s_aload_n dX3_line_0 0 rfl ?_
  refine s_chk (fun hk3 => ?_)
  refine s_callV_V 4 (kX3_knows G n K hK p0 h) (by decide) (by decide) dX3_line_1 hk3 rfl rfl q1561 q1563 qs74 q109 q1564 hyX3_knows rfl rfl (Nat.le_of_ble_eq_true rfl) (fun r1 h2 => ?_)
  refine s_iload_n dX3_line_4 1 rfl ?_
  refine s_iconst (-1 : Int32) dX3_line_5 (by decide) ?_
  refine s_icmp_ne 14 dX3_line_6 (by decide) (fun c4 => ?_) (fun c4 => ?_)
  · refine s_iload_n dX3_line_14 1 rfl ?_
    refine s_i2l dX3_line_15 ?_
    refine s_lconst (0 : Int64) dX3_line_16 (by decide) ?_
    refine s_aload_n dX3_line_17 0 rfl ?_
    refine s_chk (fun hk5 => ?_)
    refine s_get (j := 27) 4 (.int (h2.I p0 27)) dX3_line_18 hk5 rfl (by decide) q1264 (Or.inl rfl) rfl ?_
    refine s_iconst (1 : Int32) dX3_line_21 (by decide) ?_
    refine s_isub dX3_line_22 ?_
    refine s_i2l dX3_line_23 ?_
    refine s_callS_I (kX3_in G n K hK p1.toInt64 (0 : Int64) (((h2.I p0 27) - (1 : Int32)).toInt64) h2) (by decide) (by decide) dX3_line_24 q1397 q1398 q109 q1399 hyX3_in rfl rfl (Nat.le_of_ble_eq_true rfl) (fun r6 h7 => ?_)
    refine s_if_ne 34 dX3_line_27 (by decide) (fun c8 => ?_) (fun c8 => ?_)
    · refine s_iload_n dX3_line_34 2 rfl ?_
      refine s_ite (fun c9 => ?_) (fun c9 => ?_)
      · refine s_tblIn (0 : Int32) 60 c9 dX3_line_35 (by decide) (by decide) rfl (by decide) ?_
        refine s_aload_n dX3_line_60 0 rfl ?_
        refine s_chk (fun hk10 => ?_)
        refine s_get (j := 24) 4 (va_rf (h7.R p0 24)) dX3_line_61 hk10 rfl (by decide) q1261 (Or.inl rfl) rfl ?_
        refine s_iload_n dX3_line_64 1 rfl ?_
        refine s_ob (r := h7.R p0 24) (fun z => [(0, .ref p0), (1, .int p1), (2, .int p2)]) (fun z => [.int p1, z]) (fun a11 => ?_)
        refine s_chk (fun hk12 => ?_)
        refine s_chk (fun hi13 => ?_)
        refine s_iald dX3_line_65 hk12 rfl hi13 ?_
        exact s_iret dX3_line_66 rfl rfl
      refine s_ite (fun c14 => ?_) (fun c14 => ?_)
      · refine s_tblIn (1 : Int32) 67 c14 dX3_line_35 (by decide) (by decide) rfl (by decide) ?_
        refine s_aload_n dX3_line_67 0 rfl ?_
        refine s_chk (fun hk15 => ?_)
        refine s_get (j := 25) 4 (va_rf (h7.R p0 25)) dX3_line_68 hk15 rfl (by decide) q1262 (Or.inl rfl) rfl ?_
        refine s_iload_n dX3_line_71 1 rfl ?_
        refine s_ob (r := h7.R p0 25) (fun z => [(0, .ref p0), (1, .int p1), (2, .int p2)]) (fun z => [.int p1, z]) (fun a16 => ?_)
        refine s_chk (fun hk17 => ?_)
        refine s_chk (fun hi18 => ?_)
        refine s_iald dX3_line_72 hk17 rfl hi18 ?_
        exact s_iret dX3_line_73 rfl rfl
      refine s_ite (fun c19 => ?_) (fun c19 => ?_)
      · refine s_tblIn (2 : Int32) 74 c19 dX3_line_35 (by decide) (by decide) rfl (by decide) ?_
        refine s_aload_n dX3_line_74 0 rfl ?_
        refine s_chk (fun hk20 => ?_)
        refine s_get (j := 26) 4 (va_rf (h7.R p0 26)) dX3_line_75 hk20 rfl (by decide) q1263 (Or.inl rfl) rfl ?_
        refine s_iload_n dX3_line_78 1 rfl ?_
        refine s_ob (r := h7.R p0 26) (fun z => [(0, .ref p0), (1, .int p1), (2, .int p2)]) (fun z => [.int p1, z]) (fun a21 => ?_)
        refine s_chk (fun hk22 => ?_)
        refine s_chk (fun hi23 => ?_)
        refine s_iald dX3_line_79 hk22 rfl hi23 ?_
        exact s_iret dX3_line_80 rfl rfl
      have zc9 := lv_neT c9 (a := 0) rfl
      have zc14 := lv_neT c14 (a := 1) rfl
      have zc19 := lv_neT c19 (a := 2) rfl
      refine s_tblOut 81 dX3_line_35 (by omega) (by decide) ?_
      refine s_ldcw (v := (-2147483648 : Int32)) dX3_line_81 q1600 ?_
      exact s_iret dX3_line_84 rfl rfl
    · refine s_ldcw (v := (-2147483648 : Int32)) dX3_line_30 q1600 ?_
      exact s_iret dX3_line_33 rfl rfl
  · refine s_aload_n dX3_line_9 0 rfl ?_
    refine s_chk (fun hk24 => ?_)
    refine s_get (j := 27) 4 (.int (h2.I p0 27)) dX3_line_10 hk24 rfl (by decide) q1264 (Or.inl rfl) rfl ?_
    exact s_iret dX3_line_13 rfl rfl
theorem hyX3_middle : yX3_middle.cls ≠ "java/lang/invoke/MethodHandle" ∧ yX3_middle.cls ≠ "java/lang/invoke/VarHandle" ∧ (parseMethodDescriptor yX3_middle.desc).map (fun d => d.parameters.length) = some 2 := by decide +kernel
theorem kX3_middle (G : Gl) (n : Nat) (K : Nat → Nat) (hK : K = G.ad) (p0 : Nat) (p1 : Int32) (p2 : Int32) (h : AH) : OkM G yX3_middle cX3_middle 3 (some .int) 7 cvI [.ref p0, .int p1, .int p2] h (F_X3_middle n K p0 p1 p2 h) := by
  refine ok_of_sim [(0, .ref p0), (1, .int p1), (2, .int p2)] (by decide +kernel) (fun r => ⟨_, rfl⟩) (by simp [uns, lv_args, lg_sl, catI, catL, catA, va_rfc]) (by simp [uns, lv_args, lg_sl, catI, catL, catA, va_rfc]) (by simp [uns, lv_args, lg_sl, catI, catL, catA, va_rfc]) ?_
  unfold F_X3_middle
  refine s_aload_n dX3_middle_0 0 rfl ?_
  refine s_chk (fun hk3 => ?_)
  refine s_callV_V 4 (kX3_knows G n K hK p0 h) (by decide) (by decide) dX3_middle_1 hk3 rfl rfl q1561 q1563 qs74 q109 q1564 hyX3_knows rfl rfl (Nat.le_of_ble_eq_true rfl) (fun r1 h2 => ?_)
  refine s_iload_n dX3_middle_4 1 rfl ?_
  refine s_iconst (-1 : Int32) dX3_middle_5 (by decide) ?_
  refine s_icmp_ne 14 dX3_middle_6 (by decide) (fun c4 => ?_) (fun c4 => ?_)
  · refine s_iload_n dX3_middle_14 1 rfl ?_
    refine s_i2l dX3_middle_15 ?_
    refine s_lconst (0 : Int64) dX3_middle_16 (by decide) ?_
    refine s_aload_n dX3_middle_17 0 rfl ?_
    refine s_chk (fun hk5 => ?_)
    refine s_get (j := 28) 4 (.int (h2.I p0 28)) dX3_middle_18 hk5 rfl (by decide) q1265 (Or.inl rfl) rfl ?_
    refine s_iconst (1 : Int32) dX3_middle_21 (by decide) ?_
    refine s_isub dX3_middle_22 ?_
    refine s_i2l dX3_middle_23 ?_
    refine s_callS_I (kX3_in G n K hK p1.toInt64 (0 : Int64) (((h2.I p0 28) - (1 : Int32)).toInt64) h2) (by decide) (by decide) dX3_middle_24 q1397 q1398 q109 q1399 hyX3_in rfl rfl (Nat.le_of_ble_eq_true rfl) (fun r6 h7 => ?_)
    refine s_if_ne 34 dX3_middle_27 (by decide) (fun c8 => ?_) (fun c8 => ?_)
    · refine s_iload_n dX3_middle_34 2 rfl ?_
      refine s_ite (fun c9 => ?_) (fun c9 => ?_)
      · refine s_tblIn (0 : Int32) 60 c9 dX3_middle_35 (by decide) (by decide) rfl (by decide) ?_
        refine s_aload_n dX3_middle_60 0 rfl ?_
        refine s_chk (fun hk10 => ?_)
        refine s_get (j := 30) 4 (va_rf (h7.R p0 30)) dX3_middle_61 hk10 rfl (by decide) q1267 (Or.inl rfl) rfl ?_
        refine s_iload_n dX3_middle_64 1 rfl ?_
        refine s_ob (r := h7.R p0 30) (fun z => [(0, .ref p0), (1, .int p1), (2, .int p2)]) (fun z => [.int p1, z]) (fun a11 => ?_)
        refine s_chk (fun hk12 => ?_)
        refine s_chk (fun hi13 => ?_)
        refine s_lald dX3_middle_65 hk12 rfl hi13 ?_
        refine s_l2i dX3_middle_66 ?_
        exact s_iret dX3_middle_67 rfl rfl
      refine s_ite (fun c14 => ?_) (fun c14 => ?_)
      · refine s_tblIn (1 : Int32) 68 c14 dX3_middle_35 (by decide) (by decide) rfl (by decide) ?_
        refine s_aload_n dX3_middle_68 0 rfl ?_
        refine s_chk (fun hk15 => ?_)
        refine s_get (j := 31) 4 (va_rf (h7.R p0 31)) dX3_middle_69 hk15 rfl (by decide) q1268 (Or.inl rfl) rfl ?_
        refine s_iload_n dX3_middle_72 1 rfl ?_
        refine s_ob (r := h7.R p0 31) (fun z => [(0, .ref p0), (1, .int p1), (2, .int p2)]) (fun z => [.int p1, z]) (fun a16 => ?_)
        refine s_chk (fun hk17 => ?_)
        refine s_chk (fun hi18 => ?_)
        refine s_lald dX3_middle_73 hk17 rfl hi18 ?_
        refine s_l2i dX3_middle_74 ?_
        exact s_iret dX3_middle_75 rfl rfl
      refine s_ite (fun c19 => ?_) (fun c19 => ?_)
      · refine s_tblIn (2 : Int32) 76 c19 dX3_middle_35 (by decide) (by decide) rfl (by decide) ?_
        refine s_aload_n dX3_middle_76 0 rfl ?_
        refine s_chk (fun hk20 => ?_)
        refine s_get (j := 32) 4 (va_rf (h7.R p0 32)) dX3_middle_77 hk20 rfl (by decide) q1269 (Or.inl rfl) rfl ?_
        refine s_iload_n dX3_middle_80 1 rfl ?_
        refine s_ob (r := h7.R p0 32) (fun z => [(0, .ref p0), (1, .int p1), (2, .int p2)]) (fun z => [.int p1, z]) (fun a21 => ?_)
        refine s_chk (fun hk22 => ?_)
        refine s_chk (fun hi23 => ?_)
        refine s_lald dX3_middle_81 hk22 rfl hi23 ?_
        refine s_l2i dX3_middle_82 ?_
        exact s_iret dX3_middle_83 rfl rfl
      have zc9 := lv_neT c9 (a := 0) rfl
      have zc14 := lv_neT c14 (a := 1) rfl
      have zc19 := lv_neT c19 (a := 2) rfl
      refine s_tblOut 84 dX3_middle_35 (by omega) (by decide) ?_
      refine s_ldcw (v := (-2147483648 : Int32)) dX3_middle_84 q1600 ?_
      exact s_iret dX3_middle_87 rfl rfl
    · refine s_ldcw (v := (-2147483648 : Int32)) dX3_middle_30 q1600 ?_
      exact s_iret dX3_middle_33 rfl rfl
  · refine s_aload_n dX3_middle_9 0 rfl ?_
    refine s_chk (fun hk24 => ?_)
    refine s_get (j := 28) 4 (.int (h2.I p0 28)) dX3_middle_10 hk24 rfl (by decide) q1265 (Or.inl rfl) rfl ?_
    exact s_iret dX3_middle_13 rfl rfl
theorem hyX3_meet : yX3_meet.cls ≠ "java/lang/invoke/MethodHandle" ∧ yX3_meet.cls ≠ "java/lang/invoke/VarHandle" ∧ (parseMethodDescriptor yX3_meet.desc).map (fun d => d.parameters.length) = some 3 := by decide +kernel
theorem kX3_meet (G : Gl) (n : Nat) (K : Nat → Nat) (hK : K = G.ad) (p0 : Nat) (p1 : Int32) (p2 : Int32) (p3 : Int32) (h : AH) : OkM G yX3_meet cX3_meet 10 (some .boolean) 1 cvI [.ref p0, .int p1, .int p2, .int p3] h (F_X3_meet n K p0 p1 p2 p3 h) := by
  refine ok_of_sim [(0, .ref p0), (1, .int p1), (2, .int p2), (3, .int p3)] (by decide +kernel) (fun r => ⟨_, rfl⟩) (by simp [uns, lv_args, lg_sl, catI, catL, catA, va_rfc]) (by simp [uns, lv_args, lg_sl, catI, catL, catA, va_rfc]) (by simp [uns, lv_args, lg_sl, catI, catL, catA, va_rfc]) ?_
  unfold F_X3_meet
  refine s_aload_n dX3_meet_0 0 rfl ?_
  refine s_chk (fun hk1 => ?_)
  refine s_get (j := 24) 4 (va_rf (h.R p0 24)) dX3_meet_1 hk1 rfl (by decide) q1261 (Or.inl rfl) rfl ?_
  refine s_iload_n dX3_meet_4 1 rfl ?_
  refine s_ob (r := h.R p0 24) (fun z => [(0, .ref p0), (1, .int p1), (2, .int p2), (3, .int p3)]) (fun z => [.int p1, z]) (fun a2 => ?_)
  refine s_chk (fun hk3 => ?_)
  refine s_chk (fun hi4 => ?_)
  refine s_iald dX3_meet_5 hk3 rfl hi4 ?_
  refine s_i2l dX3_meet_6 ?_
  refine s_aload_n dX3_meet_7 0 rfl ?_
  refine s_get (j := 25) 4 (va_rf (h.R p0 25)) dX3_meet_8 hk1 rfl (by decide) q1262 (Or.inl rfl) rfl ?_
  refine s_iload_n dX3_meet_11 2 rfl ?_
  refine s_ob (r := h.R p0 25) (fun z => [(0, .ref p0), (1, .int p1), (2, .int p2), (3, .int p3)]) (fun z => [.int p2, z, .long ((h.I a2 (ix p1)).toInt64)]) (fun a5 => ?_)
  refine s_chk (fun hk6 => ?_)
  refine s_chk (fun hi7 => ?_)
  refine s_iald dX3_meet_12 hk6 rfl hi7 ?_
  refine s_i2l dX3_meet_13 ?_
  refine s_lmul dX3_meet_14 ?_
  refine s_aload_n dX3_meet_15 0 rfl ?_
  refine s_get (j := 24) 4 (va_rf (h.R p0 24)) dX3_meet_16 hk1 rfl (by decide) q1261 (Or.inl rfl) rfl ?_
  refine s_iload_n dX3_meet_19 2 rfl ?_
  refine s_ob (r := h.R p0 24) (fun z => [(0, .ref p0), (1, .int p1), (2, .int p2), (3, .int p3)]) (fun z => [.int p2, z, .long (((h.I a2 (ix p1)).toInt64) * ((h.I a5 (ix p2)).toInt64))]) (fun a8 => ?_)
  refine s_chk (fun hk9 => ?_)
  refine s_chk (fun hi10 => ?_)
  refine s_iald dX3_meet_20 hk9 rfl hi10 ?_
  refine s_i2l dX3_meet_21 ?_
  refine s_aload_n dX3_meet_22 0 rfl ?_
  refine s_get (j := 25) 4 (va_rf (h.R p0 25)) dX3_meet_23 hk1 rfl (by decide) q1262 (Or.inl rfl) rfl ?_
  refine s_iload_n dX3_meet_26 1 rfl ?_
  refine s_ob (r := h.R p0 25) (fun z => [(0, .ref p0), (1, .int p1), (2, .int p2), (3, .int p3)]) (fun z => [.int p1, z, .long ((h.I a8 (ix p2)).toInt64), .long (((h.I a2 (ix p1)).toInt64) * ((h.I a5 (ix p2)).toInt64))]) (fun a11 => ?_)
  refine s_chk (fun hk12 => ?_)
  refine s_chk (fun hi13 => ?_)
  refine s_iald dX3_meet_27 hk12 rfl hi13 ?_
  refine s_i2l dX3_meet_28 ?_
  refine s_lmul dX3_meet_29 ?_
  refine s_lsub dX3_meet_30 ?_
  refine s_lstore [(1004, .long ((((h.I a2 (ix p1)).toInt64) * ((h.I a5 (ix p2)).toInt64)) - (((h.I a8 (ix p2)).toInt64) * ((h.I a11 (ix p1)).toInt64)))), (0, .ref p0), (1, .int p1), (2, .int p2), (3, .int p3)] dX3_meet_31 (by decide) (by decide) rfl ?_
  refine s_lload dX3_meet_33 0 rfl ?_
  refine s_lconst (0 : Int64) dX3_meet_35 (by decide) ?_
  refine s_lcmp dX3_meet_36 ?_
  refine s_if_ne 42 dX3_meet_37 (by decide) (fun c14 => ?_) (fun c14 => ?_)
  · refine s_aload_n dX3_meet_42 1 rfl ?_
    refine s_get (j := 26) 4 (va_rf (h.R p0 26)) dX3_meet_43 hk1 rfl (by decide) q1263 (Or.inl rfl) rfl ?_
    refine s_iload_n dX3_meet_46 2 rfl ?_
    refine s_ob (r := h.R p0 26) (fun z => [(1004, .long ((((h.I a2 (ix p1)).toInt64) * ((h.I a5 (ix p2)).toInt64)) - (((h.I a8 (ix p2)).toInt64) * ((h.I a11 (ix p1)).toInt64)))), (0, .ref p0), (1, .int p1), (2, .int p2), (3, .int p3)]) (fun z => [.int p1, z]) (fun a15 => ?_)
    refine s_chk (fun hk16 => ?_)
    refine s_chk (fun hi17 => ?_)
    refine s_iald dX3_meet_47 hk16 rfl hi17 ?_
    refine s_i2l dX3_meet_48 ?_
    refine s_aload_n dX3_meet_49 1 rfl ?_
    refine s_get (j := 25) 4 (va_rf (h.R p0 25)) dX3_meet_50 hk1 rfl (by decide) q1262 (Or.inl rfl) rfl ?_
    refine s_iload_n dX3_meet_53 3 rfl ?_
    refine s_ob (r := h.R p0 25) (fun z => [(1004, .long ((((h.I a2 (ix p1)).toInt64) * ((h.I a5 (ix p2)).toInt64)) - (((h.I a8 (ix p2)).toInt64) * ((h.I a11 (ix p1)).toInt64)))), (0, .ref p0), (1, .int p1), (2, .int p2), (3, .int p3)]) (fun z => [.int p2, z, .long ((h.I a15 (ix p1)).toInt64)]) (fun a18 => ?_)
    refine s_chk (fun hk19 => ?_)
    refine s_chk (fun hi20 => ?_)
    refine s_iald dX3_meet_54 hk19 rfl hi20 ?_
    refine s_i2l dX3_meet_55 ?_
    refine s_lmul dX3_meet_56 ?_
    refine s_aload_n dX3_meet_57 1 rfl ?_
    refine s_get (j := 26) 4 (va_rf (h.R p0 26)) dX3_meet_58 hk1 rfl (by decide) q1263 (Or.inl rfl) rfl ?_
    refine s_iload_n dX3_meet_61 3 rfl ?_
    refine s_ob (r := h.R p0 26) (fun z => [(1004, .long ((((h.I a2 (ix p1)).toInt64) * ((h.I a5 (ix p2)).toInt64)) - (((h.I a8 (ix p2)).toInt64) * ((h.I a11 (ix p1)).toInt64)))), (0, .ref p0), (1, .int p1), (2, .int p2), (3, .int p3)]) (fun z => [.int p2, z, .long (((h.I a15 (ix p1)).toInt64) * ((h.I a18 (ix p2)).toInt64))]) (fun a21 => ?_)
    refine s_chk (fun hk22 => ?_)
    refine s_chk (fun hi23 => ?_)
    refine s_iald dX3_meet_62 hk22 rfl hi23 ?_
    refine s_i2l dX3_meet_63 ?_
    refine s_aload_n dX3_meet_64 1 rfl ?_
    refine s_get (j := 25) 4 (va_rf (h.R p0 25)) dX3_meet_65 hk1 rfl (by decide) q1262 (Or.inl rfl) rfl ?_
    refine s_iload_n dX3_meet_68 2 rfl ?_
    refine s_ob (r := h.R p0 25) (fun z => [(1004, .long ((((h.I a2 (ix p1)).toInt64) * ((h.I a5 (ix p2)).toInt64)) - (((h.I a8 (ix p2)).toInt64) * ((h.I a11 (ix p1)).toInt64)))), (0, .ref p0), (1, .int p1), (2, .int p2), (3, .int p3)]) (fun z => [.int p1, z, .long ((h.I a21 (ix p2)).toInt64), .long (((h.I a15 (ix p1)).toInt64) * ((h.I a18 (ix p2)).toInt64))]) (fun a24 => ?_)
    refine s_chk (fun hk25 => ?_)
    refine s_chk (fun hi26 => ?_)
    refine s_iald dX3_meet_69 hk25 rfl hi26 ?_
    refine s_i2l dX3_meet_70 ?_
    refine s_lmul dX3_meet_71 ?_
    refine s_lsub dX3_meet_72 ?_
    refine s_lstore [(1006, .long ((((h.I a15 (ix p1)).toInt64) * ((h.I a18 (ix p2)).toInt64)) - (((h.I a21 (ix p2)).toInt64) * ((h.I a24 (ix p1)).toInt64)))), (1004, .long ((((h.I a2 (ix p1)).toInt64) * ((h.I a5 (ix p2)).toInt64)) - (((h.I a8 (ix p2)).toInt64) * ((h.I a11 (ix p1)).toInt64)))), (0, .ref p0), (1, .int p1), (2, .int p2), (3, .int p3)] dX3_meet_73 (by decide) (by decide) rfl ?_
    refine s_aload_n dX3_meet_75 2 rfl ?_
    refine s_get (j := 24) 4 (va_rf (h.R p0 24)) dX3_meet_76 hk1 rfl (by decide) q1261 (Or.inl rfl) rfl ?_
    refine s_iload_n dX3_meet_79 3 rfl ?_
    refine s_ob (r := h.R p0 24) (fun z => [(1006, .long ((((h.I a15 (ix p1)).toInt64) * ((h.I a18 (ix p2)).toInt64)) - (((h.I a21 (ix p2)).toInt64) * ((h.I a24 (ix p1)).toInt64)))), (1004, .long ((((h.I a2 (ix p1)).toInt64) * ((h.I a5 (ix p2)).toInt64)) - (((h.I a8 (ix p2)).toInt64) * ((h.I a11 (ix p1)).toInt64)))), (0, .ref p0), (1, .int p1), (2, .int p2), (3, .int p3)]) (fun z => [.int p1, z]) (fun a27 => ?_)
    refine s_chk (fun hk28 => ?_)
    refine s_chk (fun hi29 => ?_)
    refine s_iald dX3_meet_80 hk28 rfl hi29 ?_
    refine s_i2l dX3_meet_81 ?_
    refine s_aload_n dX3_meet_82 2 rfl ?_
    refine s_get (j := 26) 4 (va_rf (h.R p0 26)) dX3_meet_83 hk1 rfl (by decide) q1263 (Or.inl rfl) rfl ?_
    refine s_iload_n dX3_meet_86 4 rfl ?_
    refine s_ob (r := h.R p0 26) (fun z => [(1006, .long ((((h.I a15 (ix p1)).toInt64) * ((h.I a18 (ix p2)).toInt64)) - (((h.I a21 (ix p2)).toInt64) * ((h.I a24 (ix p1)).toInt64)))), (1004, .long ((((h.I a2 (ix p1)).toInt64) * ((h.I a5 (ix p2)).toInt64)) - (((h.I a8 (ix p2)).toInt64) * ((h.I a11 (ix p1)).toInt64)))), (0, .ref p0), (1, .int p1), (2, .int p2), (3, .int p3)]) (fun z => [.int p2, z, .long ((h.I a27 (ix p1)).toInt64)]) (fun a30 => ?_)
    refine s_chk (fun hk31 => ?_)
    refine s_chk (fun hi32 => ?_)
    refine s_iald dX3_meet_87 hk31 rfl hi32 ?_
    refine s_i2l dX3_meet_88 ?_
    refine s_lmul dX3_meet_89 ?_
    refine s_aload_n dX3_meet_90 2 rfl ?_
    refine s_get (j := 24) 4 (va_rf (h.R p0 24)) dX3_meet_91 hk1 rfl (by decide) q1261 (Or.inl rfl) rfl ?_
    refine s_iload_n dX3_meet_94 4 rfl ?_
    refine s_ob (r := h.R p0 24) (fun z => [(1006, .long ((((h.I a15 (ix p1)).toInt64) * ((h.I a18 (ix p2)).toInt64)) - (((h.I a21 (ix p2)).toInt64) * ((h.I a24 (ix p1)).toInt64)))), (1004, .long ((((h.I a2 (ix p1)).toInt64) * ((h.I a5 (ix p2)).toInt64)) - (((h.I a8 (ix p2)).toInt64) * ((h.I a11 (ix p1)).toInt64)))), (0, .ref p0), (1, .int p1), (2, .int p2), (3, .int p3)]) (fun z => [.int p2, z, .long (((h.I a27 (ix p1)).toInt64) * ((h.I a30 (ix p2)).toInt64))]) (fun a33 => ?_)
    refine s_chk (fun hk34 => ?_)
    refine s_chk (fun hi35 => ?_)
    refine s_iald dX3_meet_95 hk34 rfl hi35 ?_
    refine s_i2l dX3_meet_96 ?_
    refine s_aload_n dX3_meet_97 2 rfl ?_
    refine s_get (j := 26) 4 (va_rf (h.R p0 26)) dX3_meet_98 hk1 rfl (by decide) q1263 (Or.inl rfl) rfl ?_
    refine s_iload_n dX3_meet_101 3 rfl ?_
    refine s_ob (r := h.R p0 26) (fun z => [(1006, .long ((((h.I a15 (ix p1)).toInt64) * ((h.I a18 (ix p2)).toInt64)) - (((h.I a21 (ix p2)).toInt64) * ((h.I a24 (ix p1)).toInt64)))), (1004, .long ((((h.I a2 (ix p1)).toInt64) * ((h.I a5 (ix p2)).toInt64)) - (((h.I a8 (ix p2)).toInt64) * ((h.I a11 (ix p1)).toInt64)))), (0, .ref p0), (1, .int p1), (2, .int p2), (3, .int p3)]) (fun z => [.int p1, z, .long ((h.I a33 (ix p2)).toInt64), .long (((h.I a27 (ix p1)).toInt64) * ((h.I a30 (ix p2)).toInt64))]) (fun a36 => ?_)
    refine s_chk (fun hk37 => ?_)
    refine s_chk (fun hi38 => ?_)
    refine s_iald dX3_meet_102 hk37 rfl hi38 ?_
    refine s_i2l dX3_meet_103 ?_
    refine s_lmul dX3_meet_104 ?_
    refine s_lsub dX3_meet_105 ?_
    refine s_lstore [(1008, .long ((((h.I a27 (ix p1)).toInt64) * ((h.I a30 (ix p2)).toInt64)) - (((h.I a33 (ix p2)).toInt64) * ((h.I a36 (ix p1)).toInt64)))), (1006, .long ((((h.I a15 (ix p1)).toInt64) * ((h.I a18 (ix p2)).toInt64)) - (((h.I a21 (ix p2)).toInt64) * ((h.I a24 (ix p1)).toInt64)))), (1004, .long ((((h.I a2 (ix p1)).toInt64) * ((h.I a5 (ix p2)).toInt64)) - (((h.I a8 (ix p2)).toInt64) * ((h.I a11 (ix p1)).toInt64)))), (0, .ref p0), (1, .int p1), (2, .int p2), (3, .int p3)] dX3_meet_106 (by decide) (by decide) rfl ?_
    refine s_aload_n dX3_meet_108 3 rfl ?_
    refine s_get (j := 24) 4 (va_rf (h.R p0 24)) dX3_meet_109 hk1 rfl (by decide) q1261 (Or.inl rfl) rfl ?_
    refine s_iload_n dX3_meet_112 6 rfl ?_
    refine s_ob (r := h.R p0 24) (fun z => [(1008, .long ((((h.I a27 (ix p1)).toInt64) * ((h.I a30 (ix p2)).toInt64)) - (((h.I a33 (ix p2)).toInt64) * ((h.I a36 (ix p1)).toInt64)))), (1006, .long ((((h.I a15 (ix p1)).toInt64) * ((h.I a18 (ix p2)).toInt64)) - (((h.I a21 (ix p2)).toInt64) * ((h.I a24 (ix p1)).toInt64)))), (1004, .long ((((h.I a2 (ix p1)).toInt64) * ((h.I a5 (ix p2)).toInt64)) - (((h.I a8 (ix p2)).toInt64) * ((h.I a11 (ix p1)).toInt64)))), (0, .ref p0), (1, .int p1), (2, .int p2), (3, .int p3)]) (fun z => [.int p3, z]) (fun a39 => ?_)
    refine s_chk (fun hk40 => ?_)
    refine s_chk (fun hi41 => ?_)
    refine s_iald dX3_meet_113 hk40 rfl hi41 ?_
    refine s_i2l dX3_meet_114 ?_
    refine s_lload dX3_meet_115 1 rfl ?_
    refine s_lmul dX3_meet_117 ?_
    refine s_aload_n dX3_meet_118 3 rfl ?_
    refine s_get (j := 25) 4 (va_rf (h.R p0 25)) dX3_meet_119 hk1 rfl (by decide) q1262 (Or.inl rfl) rfl ?_
    refine s_iload_n dX3_meet_122 6 rfl ?_
    refine s_ob (r := h.R p0 25) (fun z => [(1008, .long ((((h.I a27 (ix p1)).toInt64) * ((h.I a30 (ix p2)).toInt64)) - (((h.I a33 (ix p2)).toInt64) * ((h.I a36 (ix p1)).toInt64)))), (1006, .long ((((h.I a15 (ix p1)).toInt64) * ((h.I a18 (ix p2)).toInt64)) - (((h.I a21 (ix p2)).toInt64) * ((h.I a24 (ix p1)).toInt64)))), (1004, .long ((((h.I a2 (ix p1)).toInt64) * ((h.I a5 (ix p2)).toInt64)) - (((h.I a8 (ix p2)).toInt64) * ((h.I a11 (ix p1)).toInt64)))), (0, .ref p0), (1, .int p1), (2, .int p2), (3, .int p3)]) (fun z => [.int p3, z, .long (((h.I a39 (ix p3)).toInt64) * ((((h.I a15 (ix p1)).toInt64) * ((h.I a18 (ix p2)).toInt64)) - (((h.I a21 (ix p2)).toInt64) * ((h.I a24 (ix p1)).toInt64))))]) (fun a42 => ?_)
    refine s_chk (fun hk43 => ?_)
    refine s_chk (fun hi44 => ?_)
    refine s_iald dX3_meet_123 hk43 rfl hi44 ?_
    refine s_i2l dX3_meet_124 ?_
    refine s_lload dX3_meet_125 0 rfl ?_
    refine s_lmul dX3_meet_127 ?_
    refine s_ladd dX3_meet_128 ?_
    refine s_aload_n dX3_meet_129 3 rfl ?_
    refine s_get (j := 26) 4 (va_rf (h.R p0 26)) dX3_meet_130 hk1 rfl (by decide) q1263 (Or.inl rfl) rfl ?_
    refine s_iload_n dX3_meet_133 6 rfl ?_
    refine s_ob (r := h.R p0 26) (fun z => [(1008, .long ((((h.I a27 (ix p1)).toInt64) * ((h.I a30 (ix p2)).toInt64)) - (((h.I a33 (ix p2)).toInt64) * ((h.I a36 (ix p1)).toInt64)))), (1006, .long ((((h.I a15 (ix p1)).toInt64) * ((h.I a18 (ix p2)).toInt64)) - (((h.I a21 (ix p2)).toInt64) * ((h.I a24 (ix p1)).toInt64)))), (1004, .long ((((h.I a2 (ix p1)).toInt64) * ((h.I a5 (ix p2)).toInt64)) - (((h.I a8 (ix p2)).toInt64) * ((h.I a11 (ix p1)).toInt64)))), (0, .ref p0), (1, .int p1), (2, .int p2), (3, .int p3)]) (fun z => [.int p3, z, .long ((((h.I a39 (ix p3)).toInt64) * ((((h.I a15 (ix p1)).toInt64) * ((h.I a18 (ix p2)).toInt64)) - (((h.I a21 (ix p2)).toInt64) * ((h.I a24 (ix p1)).toInt64)))) + (((h.I a42 (ix p3)).toInt64) * ((((h.I a27 (ix p1)).toInt64) * ((h.I a30 (ix p2)).toInt64)) - (((h.I a33 (ix p2)).toInt64) * ((h.I a36 (ix p1)).toInt64)))))]) (fun a45 => ?_)
    refine s_chk (fun hk46 => ?_)
    refine s_chk (fun hi47 => ?_)
    refine s_iald dX3_meet_134 hk46 rfl hi47 ?_
    refine s_i2l dX3_meet_135 ?_
    refine s_lload dX3_meet_136 2 rfl ?_
    refine s_lmul dX3_meet_138 ?_
    refine s_lcmp dX3_meet_139 ?_
    refine s_if_ne 147 dX3_meet_140 (by decide) (fun c48 => ?_) (fun c48 => ?_)
    · refine s_iconst (0 : Int32) dX3_meet_147 (by decide) ?_
      exact s_zret dX3_meet_148 rfl rfl rfl
    · refine s_iconst (1 : Int32) dX3_meet_143 (by decide) ?_
      refine s_goto 148 dX3_meet_144 (by decide) ?_
      exact s_zret dX3_meet_148 rfl rfl rfl
  · refine s_iconst (0 : Int32) dX3_meet_40 (by decide) ?_
    exact s_zret dX3_meet_41 rfl rfl rfl
theorem hyX3_proof : yX3_proof.cls ≠ "java/lang/invoke/MethodHandle" ∧ yX3_proof.cls ≠ "java/lang/invoke/VarHandle" ∧ (parseMethodDescriptor yX3_proof.desc).map (fun d => d.parameters.length) = some 1 := by decide +kernel
theorem sX3_proof_L54 (G : Gl) (n : Nat) (K : Nat → Nat) (hK : K = G.ad) (y24 : Int32) (y25 : Int32) (y26 : Nat) (y27 : Int32) : ∀ (f : Nat) (x23 : Int32) (h : AH) (k : AH → Option (Int32 × AH)) (hk : ∀ (h : AH), Sim G yX3_proof.cls yX3_proof.name cX3_proof 5 (some .int) 7 cvI 100 [(3, .int y24), (2, .int y25), (0, .ref y26), (1, .int y27)] [] h (k h)), Sim G yX3_proof.cls yX3_proof.name cX3_proof 5 (some .int) 7 cvI 54 [(4, .int x23), (3, .int y24), (2, .int y25), (0, .ref y26), (1, .int y27)] [] h (F_X3_proof_L54 n K y24 y25 y26 y27 f x23 h k) := by
  intro f
  induction f with
  | zero =>
    intro x23 h k hk
    exact s_none
  | succ f ih =>
    intro x23 h k hk
    unfold F_X3_proof_L54
    refine s_iload dX3_proof_54 0 rfl (by decide) ?_
    refine s_aload_n dX3_proof_56 3 rfl ?_
    refine s_chk (fun hk28 => ?_)
    refine s_get (j := 27) 4 (.int (h.I y26 27)) dX3_proof_57 hk28 rfl (by decide) q1264 (Or.inl rfl) rfl ?_
    refine s_icmp_ge 100 dX3_proof_60 (by decide) (fun c29 => ?_) (fun c29 => ?_)
    · refine s_sub [1, 2, 3, 4] rfl ?_
      exact hk h
    · refine s_aload_n dX3_proof_63 3 rfl ?_
      refine s_iload_n dX3_proof_64 2 rfl ?_
      refine s_iload_n dX3_proof_65 1 rfl ?_
      refine s_iload dX3_proof_66 0 rfl (by decide) ?_
      refine s_callV_I 4 (kX3_meet G n K hK y26 y25 y24 x23 h) (by decide) (by decide) dX3_proof_68 hk28 rfl rfl q1610 q1612 qs83 q109 q1613 hyX3_meet rfl rfl (Nat.le_of_ble_eq_true rfl) (fun r30 h31 => ?_)
      refine s_if_ne 94 dX3_proof_71 (by decide) (fun c32 => ?_) (fun c32 => ?_)
      · refine s_iinc (1 : Int32) [(4, .int (x23 + (1 : Int32))), (3, .int y24), (2, .int y25), (0, .ref y26), (1, .int y27)] dX3_proof_94 0 rfl (by decide) (by decide) (by decide) rfl ?_
        refine s_goto 54 dX3_proof_97 (by decide) ?_
        exact ih (x23 + (1 : Int32)) h31 k hk
      · refine s_iload_n dX3_proof_74 4 rfl ?_
        refine s_if_ne 82 dX3_proof_75 (by decide) (fun c33 => ?_) (fun c33 => ?_)
        · refine s_iload_n dX3_proof_82 4 rfl ?_
          refine s_iconst (1 : Int32) dX3_proof_83 (by decide) ?_
          refine s_icmp_ne 91 dX3_proof_84 (by decide) (fun c34 => ?_) (fun c34 => ?_)
          · refine s_iload dX3_proof_91 0 rfl (by decide) ?_
            exact s_iret dX3_proof_93 rfl rfl
          · refine s_iload_n dX3_proof_87 1 rfl ?_
            refine s_goto 93 dX3_proof_88 (by decide) ?_
            exact s_iret dX3_proof_93 rfl rfl
        · refine s_iload_n dX3_proof_78 2 rfl ?_
          refine s_goto 93 dX3_proof_79 (by decide) ?_
          exact s_iret dX3_proof_93 rfl rfl
theorem sX3_proof_L41 (G : Gl) (n : Nat) (K : Nat → Nat) (hK : K = G.ad) (y17 : Int32) (y18 : Nat) (y19 : Int32) : ∀ (f : Nat) (x16 : Int32) (h : AH) (k : AH → Option (Int32 × AH)) (hk : ∀ (h : AH), Sim G yX3_proof.cls yX3_proof.name cX3_proof 5 (some .int) 7 cvI 106 [(2, .int y17), (0, .ref y18), (1, .int y19)] [] h (k h)), Sim G yX3_proof.cls yX3_proof.name cX3_proof 5 (some .int) 7 cvI 41 [(3, .int x16), (2, .int y17), (0, .ref y18), (1, .int y19)] [] h (F_X3_proof_L41 n K y17 y18 y19 f x16 h k) := by
  intro f
  induction f with
  | zero =>
    intro x16 h k hk
    exact s_none
  | succ f ih =>
    intro x16 h k hk
    unfold F_X3_proof_L41
    refine s_iload_n dX3_proof_41 0 rfl ?_
    refine s_aload_n dX3_proof_42 2 rfl ?_
    refine s_chk (fun hk20 => ?_)
    refine s_get (j := 27) 4 (.int (h.I y18 27)) dX3_proof_43 hk20 rfl (by decide) q1264 (Or.inl rfl) rfl ?_
    refine s_icmp_ge 106 dX3_proof_46 (by decide) (fun c21 => ?_) (fun c21 => ?_)
    · refine s_sub [1, 2, 3] rfl ?_
      exact hk h
    · refine s_iload_n dX3_proof_49 0 rfl ?_
      refine s_iconst (1 : Int32) dX3_proof_50 (by decide) ?_
      refine s_iadd dX3_proof_51 ?_
      refine s_istore [(4, .int (x16 + (1 : Int32))), (3, .int x16), (2, .int y17), (0, .ref y18), (1, .int y19)] dX3_proof_52 (by decide) (by decide) rfl ?_
      refine sX3_proof_L54 G n K hK x16 y17 y18 y19 n (x16 + (1 : Int32)) h _ ?_
      intro h35
      refine s_iinc (1 : Int32) [(3, .int (x16 + (1 : Int32))), (2, .int y17), (0, .ref y18), (1, .int y19)] dX3_proof_100 0 rfl (by decide) (by decide) (by decide) rfl ?_
      refine s_goto 41 dX3_proof_103 (by decide) ?_
      exact ih (x16 + (1 : Int32)) h35 k hk
theorem sX3_proof_L29 (G : Gl) (n : Nat) (K : Nat → Nat) (hK : K = G.ad) (y11 : Nat) (y12 : Int32) : ∀ (f : Nat) (x10 : Int32) (h : AH), Sim G yX3_proof.cls yX3_proof.name cX3_proof 5 (some .int) 7 cvI 29 [(2, .int x10), (0, .ref y11), (1, .int y12)] [] h (F_X3_proof_L29 n K y11 y12 f x10 h) := by
  intro f
  induction f with
  | zero =>
    intro x10 h
    exact s_none
  | succ f ih =>
    intro x10 h
    unfold F_X3_proof_L29
    refine s_iload_n dX3_proof_29 0 rfl ?_
    refine s_aload_n dX3_proof_30 1 rfl ?_
    refine s_chk (fun hk13 => ?_)
    refine s_get (j := 27) 4 (.int (h.I y11 27)) dX3_proof_31 hk13 rfl (by decide) q1264 (Or.inl rfl) rfl ?_
    refine s_icmp_ge 112 dX3_proof_34 (by decide) (fun c14 => ?_) (fun c14 => ?_)
    · refine s_iconst (-1 : Int32) dX3_proof_112 (by decide) ?_
      exact s_iret dX3_proof_113 rfl rfl
    · refine s_iload_n dX3_proof_37 0 rfl ?_
      refine s_iconst (1 : Int32) dX3_proof_38 (by decide) ?_
      refine s_iadd dX3_proof_39 ?_
      refine s_istore_n [(3, .int (x10 + (1 : Int32))), (2, .int x10), (0, .ref y11), (1, .int y12)] dX3_proof_40 (by decide) (by decide) rfl ?_
      refine sX3_proof_L41 G n K hK x10 y11 y12 n (x10 + (1 : Int32)) h _ ?_
      intro h36
      refine s_iinc (1 : Int32) [(2, .int (x10 + (1 : Int32))), (0, .ref y11), (1, .int y12)] dX3_proof_106 0 rfl (by decide) (by decide) (by decide) rfl ?_
      refine s_goto 29 dX3_proof_109 (by decide) ?_
      exact ih (x10 + (1 : Int32)) h36
theorem kX3_proof (G : Gl) (n : Nat) (K : Nat → Nat) (hK : K = G.ad) (p0 : Nat) (p1 : Int32) (h : AH) : OkM G yX3_proof cX3_proof 5 (some .int) 7 cvI [.ref p0, .int p1] h (F_X3_proof n K p0 p1 h) := by
  refine ok_of_sim [(0, .ref p0), (1, .int p1)] (by decide +kernel) (fun r => ⟨_, rfl⟩) (by simp [uns, lv_args, lg_sl, catI, catL, catA, va_rfc]) (by simp [uns, lv_args, lg_sl, catI, catL, catA, va_rfc]) (by simp [uns, lv_args, lg_sl, catI, catL, catA, va_rfc]) ?_
  unfold F_X3_proof
  refine s_iload_n dX3_proof_0 1 rfl ?_
  refine s_i2l dX3_proof_1 ?_
  refine s_lconst (0 : Int64) dX3_proof_2 (by decide) ?_
  refine s_ldc2 (v := (2 : Int64)) dX3_proof_3 q1609 ?_
  refine s_callS_I (kX3_in G n K hK p1.toInt64 (0 : Int64) (2 : Int64) h) (by decide) (by decide) dX3_proof_6 q1397 q1398 q109 q1399 hyX3_in rfl rfl (Nat.le_of_ble_eq_true rfl) (fun r1 h2 => ?_)
  refine s_if_ne 14 dX3_proof_9 (by decide) (fun c3 => ?_) (fun c3 => ?_)
  · refine s_aload_n dX3_proof_14 0 rfl ?_
    refine s_chk (fun hk6 => ?_)
    refine s_callV_V 4 (kX3_knows G n K hK p0 h2) (by decide) (by decide) dX3_proof_15 hk6 rfl rfl q1561 q1563 qs74 q109 q1564 hyX3_knows rfl rfl (Nat.le_of_ble_eq_true rfl) (fun r4 h5 => ?_)
    refine s_aload_n dX3_proof_18 0 rfl ?_
    refine s_chk (fun hk7 => ?_)
    refine s_get (j := 28) 4 (.int (h5.I p0 28)) dX3_proof_19 hk7 rfl (by decide) q1265 (Or.inl rfl) rfl ?_
    refine s_if_le 27 dX3_proof_22 (by decide) (fun c8 => ?_) (fun c8 => ?_)
    · refine s_iconst (0 : Int32) dX3_proof_27 (by decide) ?_
      refine s_istore_n [(2, .int (0 : Int32)), (0, .ref p0), (1, .int p1)] dX3_proof_28 (by decide) (by decide) rfl ?_
      exact sX3_proof_L29 G n K hK p0 p1 n (0 : Int32) h5
    · refine s_iconst (-1 : Int32) dX3_proof_25 (by decide) ?_
      exact s_iret dX3_proof_26 rfl rfl
  · refine s_iconst (-1 : Int32) dX3_proof_12 (by decide) ?_
    exact s_iret dX3_proof_13 rfl rfl
theorem hyX3_far : yX3_far.cls ≠ "java/lang/invoke/MethodHandle" ∧ yX3_far.cls ≠ "java/lang/invoke/VarHandle" ∧ (parseMethodDescriptor yX3_far.desc).map (fun d => d.parameters.length) = some 2 := by decide +kernel
theorem sX3_far_L12 (G : Gl) (n : Nat) (K : Nat → Nat) (hK : K = G.ad) (y8 : Nat) (y9 : Int32) (y10 : Int32) : ∀ (f : Nat) (x7 : Int32) (h : AH), Sim G yX3_far.cls yX3_far.name cX3_far 8 none 1 cvV 12 [(3, .int x7), (0, .ref y8), (1, .int y9), (2, .int y10)] [] h (F_X3_far_L12 n K y8 y9 y10 f x7 h) := by
  intro f
  induction f with
  | zero =>
    intro x7 h
    exact s_none
  | succ f ih =>
    intro x7 h
    unfold F_X3_far_L12
    refine s_iload_n dX3_far_12 0 rfl ?_
    refine s_aload_n dX3_far_13 1 rfl ?_
    refine s_chk (fun hk11 => ?_)
    refine s_get (j := 27) 4 (.int (h.I y8 27)) dX3_far_14 hk11 rfl (by decide) q1264 (Or.inl rfl) rfl ?_
    refine s_icmp_ge 129 dX3_far_17 (by decide) (fun c12 => ?_) (fun c12 => ?_)
    · exact s_vret dX3_far_129 rfl rfl
    · refine s_aload_n dX3_far_20 1 rfl ?_
      refine s_get (j := 24) 4 (va_rf (h.R y8 24)) dX3_far_21 hk11 rfl (by decide) q1261 (Or.inl rfl) rfl ?_
      refine s_iload_n dX3_far_24 0 rfl ?_
      refine s_ob (r := h.R y8 24) (fun z => [(3, .int x7), (0, .ref y8), (1, .int y9), (2, .int y10)]) (fun z => [.int x7, z]) (fun a13 => ?_)
      refine s_chk (fun hk14 => ?_)
      refine s_chk (fun hi15 => ?_)
      refine s_iald dX3_far_25 hk14 rfl hi15 ?_
      refine s_i2l dX3_far_26 ?_
      refine s_iload_n dX3_far_27 2 rfl ?_
      refine s_i2l dX3_far_28 ?_
      refine s_lmul dX3_far_29 ?_
      refine s_aload_n dX3_far_30 1 rfl ?_
      refine s_get (j := 25) 4 (va_rf (h.R y8 25)) dX3_far_31 hk11 rfl (by decide) q1262 (Or.inl rfl) rfl ?_
      refine s_iload_n dX3_far_34 0 rfl ?_
      refine s_ob (r := h.R y8 25) (fun z => [(3, .int x7), (0, .ref y8), (1, .int y9), (2, .int y10)]) (fun z => [.int x7, z, .long (((h.I a13 (ix x7)).toInt64) * y9.toInt64)]) (fun a16 => ?_)
      refine s_chk (fun hk17 => ?_)
      refine s_chk (fun hi18 => ?_)
      refine s_iald dX3_far_35 hk17 rfl hi18 ?_
      refine s_i2l dX3_far_36 ?_
      refine s_iload_n dX3_far_37 3 rfl ?_
      refine s_i2l dX3_far_38 ?_
      refine s_lmul dX3_far_39 ?_
      refine s_ladd dX3_far_40 ?_
      refine s_aload_n dX3_far_41 1 rfl ?_
      refine s_get (j := 26) 4 (va_rf (h.R y8 26)) dX3_far_42 hk11 rfl (by decide) q1263 (Or.inl rfl) rfl ?_
      refine s_iload_n dX3_far_45 0 rfl ?_
      refine s_ob (r := h.R y8 26) (fun z => [(3, .int x7), (0, .ref y8), (1, .int y9), (2, .int y10)]) (fun z => [.int x7, z, .long ((((h.I a13 (ix x7)).toInt64) * y9.toInt64) + (((h.I a16 (ix x7)).toInt64) * y10.toInt64))]) (fun a19 => ?_)
      refine s_chk (fun hk20 => ?_)
      refine s_chk (fun hi21 => ?_)
      refine s_iald dX3_far_46 hk20 rfl hi21 ?_
      refine s_i2l dX3_far_47 ?_
      refine s_lsub dX3_far_48 ?_
      refine s_lstore [(1004, .long (((((h.I a13 (ix x7)).toInt64) * y9.toInt64) + (((h.I a16 (ix x7)).toInt64) * y10.toInt64)) - ((h.I a19 (ix x7)).toInt64))), (3, .int x7), (0, .ref y8), (1, .int y9), (2, .int y10)] dX3_far_49 (by decide) (by decide) rfl ?_
      refine s_aload_n dX3_far_51 2 rfl ?_
      refine s_get (j := 24) 4 (va_rf (h.R y8 24)) dX3_far_52 hk11 rfl (by decide) q1261 (Or.inl rfl) rfl ?_
      refine s_iload_n dX3_far_55 1 rfl ?_
      refine s_ob (r := h.R y8 24) (fun z => [(1004, .long (((((h.I a13 (ix x7)).toInt64) * y9.toInt64) + (((h.I a16 (ix x7)).toInt64) * y10.toInt64)) - ((h.I a19 (ix x7)).toInt64))), (3, .int x7), (0, .ref y8), (1, .int y9), (2, .int y10)]) (fun z => [.int x7, z]) (fun a22 => ?_)
      refine s_chk (fun hk23 => ?_)
      refine s_chk (fun hi24 => ?_)
      refine s_iald dX3_far_56 hk23 rfl hi24 ?_
      refine s_i2l dX3_far_57 ?_
      refine s_aload_n dX3_far_58 2 rfl ?_
      refine s_get (j := 24) 4 (va_rf (h.R y8 24)) dX3_far_59 hk11 rfl (by decide) q1261 (Or.inl rfl) rfl ?_
      refine s_iload_n dX3_far_62 1 rfl ?_
      refine s_ob (r := h.R y8 24) (fun z => [(1004, .long (((((h.I a13 (ix x7)).toInt64) * y9.toInt64) + (((h.I a16 (ix x7)).toInt64) * y10.toInt64)) - ((h.I a19 (ix x7)).toInt64))), (3, .int x7), (0, .ref y8), (1, .int y9), (2, .int y10)]) (fun z => [.int x7, z, .long ((h.I a22 (ix x7)).toInt64)]) (fun a25 => ?_)
      refine s_chk (fun hk26 => ?_)
      refine s_chk (fun hi27 => ?_)
      refine s_iald dX3_far_63 hk26 rfl hi27 ?_
      refine s_i2l dX3_far_64 ?_
      refine s_lmul dX3_far_65 ?_
      refine s_aload_n dX3_far_66 2 rfl ?_
      refine s_get (j := 25) 4 (va_rf (h.R y8 25)) dX3_far_67 hk11 rfl (by decide) q1262 (Or.inl rfl) rfl ?_
      refine s_iload_n dX3_far_70 1 rfl ?_
      refine s_ob (r := h.R y8 25) (fun z => [(1004, .long (((((h.I a13 (ix x7)).toInt64) * y9.toInt64) + (((h.I a16 (ix x7)).toInt64) * y10.toInt64)) - ((h.I a19 (ix x7)).toInt64))), (3, .int x7), (0, .ref y8), (1, .int y9), (2, .int y10)]) (fun z => [.int x7, z, .long (((h.I a22 (ix x7)).toInt64) * ((h.I a25 (ix x7)).toInt64))]) (fun a28 => ?_)
      refine s_chk (fun hk29 => ?_)
      refine s_chk (fun hi30 => ?_)
      refine s_iald dX3_far_71 hk29 rfl hi30 ?_
      refine s_i2l dX3_far_72 ?_
      refine s_aload_n dX3_far_73 2 rfl ?_
      refine s_get (j := 25) 4 (va_rf (h.R y8 25)) dX3_far_74 hk11 rfl (by decide) q1262 (Or.inl rfl) rfl ?_
      refine s_iload_n dX3_far_77 1 rfl ?_
      refine s_ob (r := h.R y8 25) (fun z => [(1004, .long (((((h.I a13 (ix x7)).toInt64) * y9.toInt64) + (((h.I a16 (ix x7)).toInt64) * y10.toInt64)) - ((h.I a19 (ix x7)).toInt64))), (3, .int x7), (0, .ref y8), (1, .int y9), (2, .int y10)]) (fun z => [.int x7, z, .long ((h.I a28 (ix x7)).toInt64), .long (((h.I a22 (ix x7)).toInt64) * ((h.I a25 (ix x7)).toInt64))]) (fun a31 => ?_)
      refine s_chk (fun hk32 => ?_)
      refine s_chk (fun hi33 => ?_)
      refine s_iald dX3_far_78 hk32 rfl hi33 ?_
      refine s_i2l dX3_far_79 ?_
      refine s_lmul dX3_far_80 ?_
      refine s_ladd dX3_far_81 ?_
      refine s_lstore [(1006, .long ((((h.I a22 (ix x7)).toInt64) * ((h.I a25 (ix x7)).toInt64)) + (((h.I a28 (ix x7)).toInt64) * ((h.I a31 (ix x7)).toInt64)))), (1004, .long (((((h.I a13 (ix x7)).toInt64) * y9.toInt64) + (((h.I a16 (ix x7)).toInt64) * y10.toInt64)) - ((h.I a19 (ix x7)).toInt64))), (3, .int x7), (0, .ref y8), (1, .int y9), (2, .int y10)] dX3_far_82 (by decide) (by decide) rfl ?_
      refine s_lload dX3_far_84 1 rfl ?_
      refine s_lload dX3_far_86 1 rfl ?_
      refine s_lmul dX3_far_88 ?_
      refine s_aload_n dX3_far_89 3 rfl ?_
      refine s_get (j := 34) 4 (.long (h.L y8 34)) dX3_far_90 hk11 rfl (by decide) q1271 (Or.inl rfl) rfl ?_
      refine s_lmul dX3_far_93 ?_
      refine s_aload_n dX3_far_94 3 rfl ?_
      refine s_get (j := 33) 4 (.long (h.L y8 33)) dX3_far_95 hk11 rfl (by decide) q1270 (Or.inl rfl) rfl ?_
      refine s_lload dX3_far_98 0 rfl ?_
      refine s_lmul dX3_far_100 ?_
      refine s_lcmp dX3_far_101 ?_
      refine s_if_gt 108 dX3_far_102 (by decide) (fun c34 => ?_) (fun c34 => ?_)
      · refine s_aload_n dX3_far_108 3 rfl ?_
        refine s_lload dX3_far_109 1 rfl ?_
        refine s_lload dX3_far_111 1 rfl ?_
        refine s_lmul dX3_far_113 ?_
        refine s_put (j := 33) 4 (v := .long ((((((h.I a13 (ix x7)).toInt64) * y9.toInt64) + (((h.I a16 (ix x7)).toInt64) * y10.toInt64)) - ((h.I a19 (ix x7)).toInt64)) * (((((h.I a13 (ix x7)).toInt64) * y9.toInt64) + (((h.I a16 (ix x7)).toInt64) * y10.toInt64)) - ((h.I a19 (ix x7)).toInt64)))) dX3_far_114 hk11 rfl (by decide) q1270 (Or.inl rfl) rfl rfl rfl (Upd.l (fun _ => rfl)) ?_
        refine s_hl (fun h35 e36 => ?_)
        refine s_aload_n dX3_far_117 3 rfl ?_
        refine s_lload dX3_far_118 0 rfl ?_
        refine s_put (j := 34) 4 (v := .long ((((h.I a22 (ix x7)).toInt64) * ((h.I a25 (ix x7)).toInt64)) + (((h.I a28 (ix x7)).toInt64) * ((h.I a31 (ix x7)).toInt64)))) dX3_far_120 (show h35.kind y8 = 5 by rw [e36]; exact hk11) rfl (by decide) q1271 (Or.inl rfl) rfl rfl rfl (Upd.l (fun _ => rfl)) ?_
        refine s_hl (fun h37 e38 => ?_)
        refine s_iinc (1 : Int32) [(3, .int (x7 + (1 : Int32))), (1006, .long ((((h.I a22 (ix x7)).toInt64) * ((h.I a25 (ix x7)).toInt64)) + (((h.I a28 (ix x7)).toInt64) * ((h.I a31 (ix x7)).toInt64)))), (1004, .long (((((h.I a13 (ix x7)).toInt64) * y9.toInt64) + (((h.I a16 (ix x7)).toInt64) * y10.toInt64)) - ((h.I a19 (ix x7)).toInt64))), (0, .ref y8), (1, .int y9), (2, .int y10)] dX3_far_123 2 rfl (by decide) (by decide) (by decide) rfl ?_
        refine s_goto 12 dX3_far_126 (by decide) ?_
        refine s_sub [0, 3, 4, 5] rfl ?_
        exact ih (x7 + (1 : Int32)) h37
      · refine s_goto 123 dX3_far_105 (by decide) ?_
        refine s_iinc (1 : Int32) [(3, .int (x7 + (1 : Int32))), (1006, .long ((((h.I a22 (ix x7)).toInt64) * ((h.I a25 (ix x7)).toInt64)) + (((h.I a28 (ix x7)).toInt64) * ((h.I a31 (ix x7)).toInt64)))), (1004, .long (((((h.I a13 (ix x7)).toInt64) * y9.toInt64) + (((h.I a16 (ix x7)).toInt64) * y10.toInt64)) - ((h.I a19 (ix x7)).toInt64))), (0, .ref y8), (1, .int y9), (2, .int y10)] dX3_far_123 2 rfl (by decide) (by decide) (by decide) rfl ?_
        refine s_goto 12 dX3_far_126 (by decide) ?_
        refine s_sub [0, 3, 4, 5] rfl ?_
        exact ih (x7 + (1 : Int32)) h
theorem kX3_far (G : Gl) (n : Nat) (K : Nat → Nat) (hK : K = G.ad) (p0 : Nat) (p1 : Int32) (p2 : Int32) (h : AH) : OkM G yX3_far cX3_far 8 none 1 cvV [.ref p0, .int p1, .int p2] h (F_X3_far n K p0 p1 p2 h) := by
  refine ok_of_sim [(0, .ref p0), (1, .int p1), (2, .int p2)] (by decide +kernel) (fun r => ⟨_, rfl⟩) (by simp [uns, lv_args, lg_sl, catI, catL, catA, va_rfc]) (by simp [uns, lv_args, lg_sl, catI, catL, catA, va_rfc]) (by simp [uns, lv_args, lg_sl, catI, catL, catA, va_rfc]) ?_
  unfold F_X3_far
  refine s_aload_n dX3_far_0 0 rfl ?_
  refine s_lconst (0 : Int64) dX3_far_1 (by decide) ?_
  refine s_chk (fun hk1 => ?_)
  refine s_put (j := 33) 4 (v := .long (0 : Int64)) dX3_far_2 hk1 rfl (by decide) q1270 (Or.inl rfl) rfl rfl rfl (Upd.l (fun _ => rfl)) ?_
  refine s_hl (fun h2 e3 => ?_)
  refine s_aload_n dX3_far_5 0 rfl ?_
  refine s_lconst (1 : Int64) dX3_far_6 (by decide) ?_
  refine s_put (j := 34) 4 (v := .long (1 : Int64)) dX3_far_7 (show h2.kind p0 = 5 by rw [e3]; exact hk1) rfl (by decide) q1271 (Or.inl rfl) rfl rfl rfl (Upd.l (fun _ => rfl)) ?_
  refine s_hl (fun h4 e5 => ?_)
  refine s_iconst (0 : Int32) dX3_far_10 (by decide) ?_
  refine s_istore_n [(3, .int (0 : Int32)), (0, .ref p0), (1, .int p1), (2, .int p2)] dX3_far_11 (by decide) (by decide) rfl ?_
  exact sX3_far_L12 G n K hK p0 p1 p2 n (0 : Int32) h4
theorem hyX3_round : yX3_round.cls ≠ "java/lang/invoke/MethodHandle" ∧ yX3_round.cls ≠ "java/lang/invoke/VarHandle" ∧ (parseMethodDescriptor yX3_round.desc).map (fun d => d.parameters.length) = some 1 := by decide +kernel
theorem sX3_round_L47 (G : Gl) (n : Nat) (K : Nat → Nat) (hK : K = G.ad) (y20 : Nat) (y21 : Int32) : ∀ (f : Nat) (x16 : Int32) (x17 : Int64) (x18 : Int64) (x19 : Int32) (h : AH), Sim G yX3_round.cls yX3_round.name cX3_round 9 (some .int) 7 cvI 47 [(7, .int x16), (1005, .long x17), (1003, .long x18), (2, .int x19), (0, .ref y20), (1, .int y21)] [] h (F_X3_round_L47 n K y20 y21 f x16 x17 x18 x19 h) := by
  intro f
  induction f with
  | zero =>
    intro x16 x17 x18 x19 h
    exact s_none
  | succ f ih =>
    intro x16 x17 x18 x19 h
    unfold F_X3_round_L47
    refine s_iload dX3_round_47 0 rfl (by decide) ?_
    refine s_sipush (10000 : Int32) dX3_round_49 (by decide) ?_
    refine s_icmp_ge 109 dX3_round_52 (by decide) (fun c22 => ?_) (fun c22 => ?_)
    · refine s_lload_n dX3_round_109 2 rfl ?_
      refine s_lload dX3_round_110 1 rfl ?_
      refine s_callS_L (kX3_gcd G n K hK x18 x17 h) (by decide) (by decide) dX3_round_112 q1569 q1570 q109 q1571 hyX3_gcd rfl rfl (Nat.le_of_ble_eq_true rfl) (fun r23 h24 => ?_)
      refine s_lstore [(1007, .long r23), (1005, .long x17), (1003, .long x18), (2, .int x19), (0, .ref y20), (1, .int y21)] dX3_round_115 (by decide) (by decide) rfl ?_
      refine s_iload_n dX3_round_117 5 rfl ?_
      refine s_if_ne 128 dX3_round_118 (by decide) (fun c25 => ?_) (fun c25 => ?_)
      · refine s_iload_n dX3_round_128 5 rfl ?_
        refine s_iconst (1 : Int32) dX3_round_129 (by decide) ?_
        refine s_icmp_ne 140 dX3_round_130 (by decide) (fun c26 => ?_) (fun c26 => ?_)
        · refine s_iload_n dX3_round_140 5 rfl ?_
          refine s_iconst (2 : Int32) dX3_round_141 (by decide) ?_
          refine s_icmp_ne 149 dX3_round_142 (by decide) (fun c27 => ?_) (fun c27 => ?_)
          · refine s_lload dX3_round_149 1 rfl ?_
            refine s_lload dX3_round_151 0 rfl ?_
            refine s_chk (fun hz28 => ?_)
            refine s_ldiv dX3_round_153 hz28 ?_
            refine s_l2i dX3_round_154 ?_
            exact s_iret dX3_round_155 rfl rfl
          · refine s_lload_n dX3_round_145 2 rfl ?_
            refine s_goto 151 dX3_round_146 (by decide) ?_
            refine s_lload dX3_round_151 0 rfl ?_
            refine s_chk (fun hz29 => ?_)
            refine s_ldiv dX3_round_153 hz29 ?_
            refine s_l2i dX3_round_154 ?_
            exact s_iret dX3_round_155 rfl rfl
        · refine s_iload_n dX3_round_133 3 rfl ?_
          refine s_bipush (100 : Int32) dX3_round_134 (by decide) ?_
          refine s_irem dX3_round_136 (by decide) ?_
          refine s_goto 155 dX3_round_137 (by decide) ?_
          exact s_iret dX3_round_155 rfl rfl
      · refine s_iload_n dX3_round_121 3 rfl ?_
        refine s_bipush (100 : Int32) dX3_round_122 (by decide) ?_
        refine s_idiv dX3_round_124 (by decide) ?_
        refine s_goto 155 dX3_round_125 (by decide) ?_
        exact s_iret dX3_round_155 rfl rfl
    · refine s_aload_n dX3_round_55 4 rfl ?_
      refine s_iload dX3_round_56 0 rfl (by decide) ?_
      refine s_bipush (100 : Int32) dX3_round_58 (by decide) ?_
      refine s_idiv dX3_round_60 (by decide) ?_
      refine s_iload dX3_round_61 0 rfl (by decide) ?_
      refine s_bipush (100 : Int32) dX3_round_63 (by decide) ?_
      refine s_irem dX3_round_65 (by decide) ?_
      refine s_chk (fun hk32 => ?_)
      refine s_callV_V 4 (kX3_far G n K hK y20 (x16 / (100 : Int32)) (x16 - x16 / (100 : Int32) * (100 : Int32)) h) (by decide) (by decide) dX3_round_66 hk32 rfl rfl q1619 q1621 qs84 q109 q1622 hyX3_far rfl rfl (Nat.le_of_ble_eq_true rfl) (fun r30 h31 => ?_)
      refine s_aload_n dX3_round_69 4 rfl ?_
      refine s_chk (fun hk33 => ?_)
      refine s_get (j := 33) 4 (.long (h31.L y20 33)) dX3_round_70 hk33 rfl (by decide) q1270 (Or.inl rfl) rfl ?_
      refine s_lload dX3_round_73 1 rfl ?_
      refine s_lmul dX3_round_75 ?_
      refine s_lload_n dX3_round_76 2 rfl ?_
      refine s_aload_n dX3_round_77 4 rfl ?_
      refine s_get (j := 34) 4 (.long (h31.L y20 34)) dX3_round_78 hk33 rfl (by decide) q1271 (Or.inl rfl) rfl ?_
      refine s_lmul dX3_round_81 ?_
      refine s_lcmp dX3_round_82 ?_
      refine s_if_lt 89 dX3_round_83 (by decide) (fun c34 => ?_) (fun c34 => ?_)
      · refine s_iload dX3_round_89 0 rfl (by decide) ?_
        refine s_istore_n [(2, .int x16), (7, .int x16), (1005, .long x17), (1003, .long x18), (0, .ref y20), (1, .int y21)] dX3_round_91 (by decide) (by decide) rfl ?_
        refine s_aload_n dX3_round_92 4 rfl ?_
        refine s_get (j := 33) 4 (.long (h31.L y20 33)) dX3_round_93 hk33 rfl (by decide) q1270 (Or.inl rfl) rfl ?_
        refine s_lstore_n [(1003, .long (h31.L y20 33)), (2, .int x16), (7, .int x16), (1005, .long x17), (0, .ref y20), (1, .int y21)] dX3_round_96 (by decide) (by decide) rfl ?_
        refine s_aload_n dX3_round_97 4 rfl ?_
        refine s_get (j := 34) 4 (.long (h31.L y20 34)) dX3_round_98 hk33 rfl (by decide) q1271 (Or.inl rfl) rfl ?_
        refine s_lstore [(1005, .long (h31.L y20 34)), (1003, .long (h31.L y20 33)), (2, .int x16), (7, .int x16), (0, .ref y20), (1, .int y21)] dX3_round_101 (by decide) (by decide) rfl ?_
        refine s_iinc (1 : Int32) [(7, .int (x16 + (1 : Int32))), (1005, .long (h31.L y20 34)), (1003, .long (h31.L y20 33)), (2, .int x16), (0, .ref y20), (1, .int y21)] dX3_round_103 3 rfl (by decide) (by decide) (by decide) rfl ?_
        refine s_goto 47 dX3_round_106 (by decide) ?_
        exact ih (x16 + (1 : Int32)) (h31.L y20 34) (h31.L y20 33) x16 h31
      · refine s_goto 103 dX3_round_86 (by decide) ?_
        refine s_iinc (1 : Int32) [(7, .int (x16 + (1 : Int32))), (1005, .long x17), (1003, .long x18), (2, .int x19), (0, .ref y20), (1, .int y21)] dX3_round_103 0 rfl (by decide) (by decide) (by decide) rfl ?_
        refine s_goto 47 dX3_round_106 (by decide) ?_
        exact ih (x16 + (1 : Int32)) x17 x18 x19 h31
theorem kX3_round (G : Gl) (n : Nat) (K : Nat → Nat) (hK : K = G.ad) (p0 : Nat) (p1 : Int32) (h : AH) : OkM G yX3_round cX3_round 9 (some .int) 7 cvI [.ref p0, .int p1] h (F_X3_round n K p0 p1 h) := by
  refine ok_of_sim [(0, .ref p0), (1, .int p1)] (by decide +kernel) (fun r => ⟨_, rfl⟩) (by simp [uns, lv_args, lg_sl, catI, catL, catA, va_rfc]) (by simp [uns, lv_args, lg_sl, catI, catL, catA, va_rfc]) (by simp [uns, lv_args, lg_sl, catI, catL, catA, va_rfc]) ?_
  unfold F_X3_round
  refine s_aload_n dX3_round_0 0 rfl ?_
  refine s_chk (fun hk3 => ?_)
  refine s_callV_I 4 (kX3_voters G n K hK p0 h) (by decide) (by decide) dX3_round_1 hk3 rfl rfl q1475 q1477 qs62 q109 q1478 hyX3_voters rfl rfl (Nat.le_of_ble_eq_true rfl) (fun r1 h2 => ?_)
  refine s_if_eq 19 dX3_round_4 (by decide) (fun c4 => ?_) (fun c4 => ?_)
  · refine s_iconst (-1 : Int32) dX3_round_19 (by decide) ?_
    exact s_iret dX3_round_20 rfl rfl
  · refine s_iload_n dX3_round_7 1 rfl ?_
    refine s_i2l dX3_round_8 ?_
    refine s_lconst (0 : Int64) dX3_round_9 (by decide) ?_
    refine s_ldc2 (v := (3 : Int64)) dX3_round_10 q1618 ?_
    refine s_callS_I (kX3_in G n K hK p1.toInt64 (0 : Int64) (3 : Int64) h2) (by decide) (by decide) dX3_round_13 q1397 q1398 q109 q1399 hyX3_in rfl rfl (Nat.le_of_ble_eq_true rfl) (fun r5 h6 => ?_)
    refine s_if_ne 21 dX3_round_16 (by decide) (fun c7 => ?_) (fun c7 => ?_)
    · refine s_aload_n dX3_round_21 0 rfl ?_
      refine s_chk (fun hk10 => ?_)
      refine s_callV_V 4 (kX3_knows G n K hK p0 h6) (by decide) (by decide) dX3_round_22 hk10 rfl rfl q1561 q1563 qs74 q109 q1564 hyX3_knows rfl rfl (Nat.le_of_ble_eq_true rfl) (fun r8 h9 => ?_)
      refine s_iconst (0 : Int32) dX3_round_25 (by decide) ?_
      refine s_istore_n [(2, .int (0 : Int32)), (0, .ref p0), (1, .int p1)] dX3_round_26 (by decide) (by decide) rfl ?_
      refine s_aload_n dX3_round_27 1 rfl ?_
      refine s_iconst (0 : Int32) dX3_round_28 (by decide) ?_
      refine s_iconst (0 : Int32) dX3_round_29 (by decide) ?_
      refine s_chk (fun hk13 => ?_)
      refine s_callV_V 4 (kX3_far G n K hK p0 (0 : Int32) (0 : Int32) h9) (by decide) (by decide) dX3_round_30 hk13 rfl rfl q1619 q1621 qs84 q109 q1622 hyX3_far rfl rfl (Nat.le_of_ble_eq_true rfl) (fun r11 h12 => ?_)
      refine s_aload_n dX3_round_33 1 rfl ?_
      refine s_chk (fun hk14 => ?_)
      refine s_get (j := 33) 4 (.long (h12.L p0 33)) dX3_round_34 hk14 rfl (by decide) q1270 (Or.inl rfl) rfl ?_
      refine s_lstore_n [(1003, .long (h12.L p0 33)), (2, .int (0 : Int32)), (0, .ref p0), (1, .int p1)] dX3_round_37 (by decide) (by decide) rfl ?_
      refine s_aload_n dX3_round_38 2 rfl ?_
      refine s_get (j := 34) 4 (.long (h12.L p0 34)) dX3_round_39 hk14 rfl (by decide) q1271 (Or.inl rfl) rfl ?_
      refine s_lstore [(1005, .long (h12.L p0 34)), (1003, .long (h12.L p0 33)), (2, .int (0 : Int32)), (0, .ref p0), (1, .int p1)] dX3_round_42 (by decide) (by decide) rfl ?_
      refine s_iconst (1 : Int32) dX3_round_44 (by decide) ?_
      refine s_istore [(7, .int (1 : Int32)), (1005, .long (h12.L p0 34)), (1003, .long (h12.L p0 33)), (2, .int (0 : Int32)), (0, .ref p0), (1, .int p1)] dX3_round_45 (by decide) (by decide) rfl ?_
      exact sX3_round_L47 G n K hK p0 p1 n (1 : Int32) (h12.L p0 34) (h12.L p0 33) (0 : Int32) h12
    · refine s_iconst (-1 : Int32) dX3_round_19 (by decide) ?_
      exact s_iret dX3_round_20 rfl rfl
