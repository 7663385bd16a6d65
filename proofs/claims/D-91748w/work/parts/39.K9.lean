set_option maxRecDepth 100000
theorem hyX0_doubt : yX0_doubt.cls ≠ "java/lang/invoke/MethodHandle" ∧ yX0_doubt.cls ≠ "java/lang/invoke/VarHandle" ∧ (parseMethodDescriptor yX0_doubt.desc).map (fun d => d.parameters.length) = some 2 := by decide +kernel
theorem sX0_doubt_L60 (G : Gl) (n : Nat) (K : Nat → Nat) (hK : K = G.ad) (y28 : Int32) (y29 : Int32) (y30 : Nat) (y31 : Nat) (y32 : Int32) (y33 : Int32) : ∀ (f : Nat) (x24 : Int32) (x25 : Int32) (x26 : Int32) (x27 : Int32) (h : AH) (k : Int32 → Int32 → Int32 → AH → Option (Int32 × AH)) (hk : ∀ (x25 : Int32) (x26 : Int32) (x27 : Int32) (h : AH), Sim G yX0_doubt.cls yX0_doubt.name cX0_doubt 12 (some .int) 5 cvI 175 [(8, .int x25), (7, .int x26), (6, .int x27), (5, .int y28), (4, .int y29), (3, .ref y30), (0, .ref y31), (1, .int y32), (2, .int y33)] [] h (k x25 x26 x27 h)), Sim G yX0_doubt.cls yX0_doubt.name cX0_doubt 12 (some .int) 5 cvI 60 [(9, .int x24), (8, .int x25), (7, .int x26), (6, .int x27), (5, .int y28), (4, .int y29), (3, .ref y30), (0, .ref y31), (1, .int y32), (2, .int y33)] [] h (F_X0_doubt_L60 n K y28 y29 y30 y31 y32 y33 f x24 x25 x26 x27 h k) := by
  intro f
  induction f with
  | zero =>
    intro x24 x25 x26 x27 h k hk
    exact s_none
  | succ f ih =>
    intro x24 x25 x26 x27 h k hk
    unfold F_X0_doubt_L60
    refine s_iload dX0_doubt_60 0 rfl (by decide) ?_
    refine s_aload_n dX0_doubt_62 7 rfl ?_
    refine s_chk (fun hk34 => ?_)
    refine s_get (j := 2) 0 (va_rf (h.R y31 2)) dX0_doubt_63 hk34 rfl (by decide) q235 (Or.inl rfl) rfl ?_
    refine s_ob (r := h.R y31 2) (fun z => [(9, .int x24), (8, .int x25), (7, .int x26), (6, .int x27), (5, .int y28), (4, .int y29), (3, .ref y30), (0, .ref y31), (1, .int y32), (2, .int y33)]) (fun z => [z, .int x24]) (fun a35 => ?_)
    refine s_chk (fun hk38 => ?_)
    refine s_callV_I 2 (kJ2_size G n K hK a35 h) (by decide) (by decide) dX0_doubt_66 hk38 rfl rfl q732 q552 q553 q107 q554 hyJ2_size rfl rfl (Nat.le_of_ble_eq_true rfl) (fun r36 h37 => ?_)
    refine s_icmp_ge 175 dX0_doubt_69 (by decide) (fun c39 => ?_) (fun c39 => ?_)
    · refine s_sub [1, 2, 3, 4, 5, 6, 7, 8, 9] rfl ?_
      exact hk x25 x26 x27 h37
    · refine s_aload_n dX0_doubt_72 7 rfl ?_
      refine s_chk (fun hk40 => ?_)
      refine s_get (j := 2) 0 (va_rf (h37.R y31 2)) dX0_doubt_73 hk40 rfl (by decide) q235 (Or.inl rfl) rfl ?_
      refine s_iload dX0_doubt_76 0 rfl (by decide) ?_
      refine s_ob (r := h37.R y31 2) (fun z => [(9, .int x24), (8, .int x25), (7, .int x26), (6, .int x27), (5, .int y28), (4, .int y29), (3, .ref y30), (0, .ref y31), (1, .int y32), (2, .int y33)]) (fun z => [.int x24, z]) (fun a41 => ?_)
      refine s_chk (fun hk44 => ?_)
      refine s_callV_R 2 (kJ2_get G n K hK a41 x24 h37) (by decide) (by decide) dX0_doubt_78 hk44 rfl rfl q733 q734 q735 q107 q736 hyJ2_get rfl rfl (Nat.le_of_ble_eq_true rfl) (fun r42 h43 => ?_)
      refine s_ob (r := r42) (fun z => [(9, .int x24), (8, .int x25), (7, .int x26), (6, .int x27), (5, .int y28), (4, .int y29), (3, .ref y30), (0, .ref y31), (1, .int y32), (2, .int y33)]) (fun z => [z]) (fun a45 => ?_)
      refine s_chk (fun hk46 => ?_)
      refine s_castV dX0_doubt_81 hk46 q745 ?_
      refine s_astore [(10, .ref a45), (9, .int x24), (8, .int x25), (7, .int x26), (6, .int x27), (5, .int y28), (4, .int y29), (3, .ref y30), (0, .ref y31), (1, .int y32), (2, .int y33)] dX0_doubt_84 (by decide) (by decide) rfl ?_
      refine s_aload_n dX0_doubt_86 8 rfl ?_
      refine s_aload dX0_doubt_87 0 rfl (by decide) ?_
      refine s_iload_n dX0_doubt_89 10 rfl ?_
      refine s_aload_n dX0_doubt_90 8 rfl ?_
      refine s_chk (fun hk47 => ?_)
      refine s_get (j := 3) 0 (va_rf (h43.R y31 3)) dX0_doubt_91 hk47 rfl (by decide) q236 (Or.inl rfl) rfl ?_
      refine s_iload dX0_doubt_94 5 rfl (by decide) ?_
      refine s_ob (r := h43.R y31 3) (fun z => [(10, .ref a45), (9, .int x24), (8, .int x25), (7, .int x26), (6, .int x27), (5, .int y28), (4, .int y29), (3, .ref y30), (0, .ref y31), (1, .int y32), (2, .int y33)]) (fun z => [.int y28, z, .int y33, .ref a45, .ref y31]) (fun a48 => ?_)
      refine s_chk (fun hk51 => ?_)
      refine s_callV_R 2 (kJ2_get G n K hK a48 y28 h43) (by decide) (by decide) dX0_doubt_96 hk51 rfl rfl q733 q734 q735 q107 q736 hyJ2_get rfl rfl (Nat.le_of_ble_eq_true rfl) (fun r49 h50 => ?_)
      refine s_ob (r := r49) (fun z => [(10, .ref a45), (9, .int x24), (8, .int x25), (7, .int x26), (6, .int x27), (5, .int y28), (4, .int y29), (3, .ref y30), (0, .ref y31), (1, .int y32), (2, .int y33)]) (fun z => [z, .int y33, .ref a45, .ref y31]) (fun a52 => ?_)
      refine s_chk (fun hk53 => ?_)
      refine s_cast 10 dX0_doubt_99 hk53 rfl q747 ?_
      refine s_aload_n dX0_doubt_102 7 rfl ?_
      refine s_chk (fun hk56 => ?_)
      refine s_callV_I 0 (kX0_surely G n K hK y31 (some a45) y33 (some a52) (some y30) h50) (by decide) (by decide) dX0_doubt_103 hk56 rfl rfl q1144 q1146 qs45 q103 q1147 hyX0_surely rfl rfl (Nat.le_of_ble_eq_true rfl) (fun r54 h55 => ?_)
      refine s_istore [(11, .int r54), (10, .ref a45), (9, .int x24), (8, .int x25), (7, .int x26), (6, .int x27), (5, .int y28), (4, .int y29), (3, .ref y30), (0, .ref y31), (1, .int y32), (2, .int y33)] dX0_doubt_106 (by decide) (by decide) rfl ?_
      refine s_iload dX0_doubt_108 5 rfl (by decide) ?_
      refine s_iload dX0_doubt_110 0 rfl (by decide) ?_
      refine s_iconst (2 : Int32) dX0_doubt_112 (by decide) ?_
      refine s_jn (fun j58 => ∀ (x57 : Int32), Sim G yX0_doubt.cls yX0_doubt.name cX0_doubt 12 (some .int) 5 cvI 125 [(11, .int r54), (10, .ref a45), (9, .int x24), (8, .int x25), (7, .int x26), (5, .int y28), (4, .int y29), (3, .ref y30), (0, .ref y31), (1, .int y32), (2, .int y33)] [.int x57, .int x27] h55 (j58 x57)) ?_ (fun j58 hj66 => ?_)
      · intro x57
        refine s_iadd dX0_doubt_125 ?_
        refine s_istore [(6, .int (x27 + x57)), (11, .int r54), (10, .ref a45), (9, .int x24), (8, .int x25), (7, .int x26), (5, .int y28), (4, .int y29), (3, .ref y30), (0, .ref y31), (1, .int y32), (2, .int y33)] dX0_doubt_126 (by decide) (by decide) rfl ?_
        refine s_iload dX0_doubt_128 5 rfl (by decide) ?_
        refine s_iload dX0_doubt_130 1 rfl (by decide) ?_
        refine s_iconst (1 : Int32) dX0_doubt_132 (by decide) ?_
        refine s_jn (fun j60 => ∀ (x59 : Int32), Sim G yX0_doubt.cls yX0_doubt.name cX0_doubt 12 (some .int) 5 cvI 145 [(6, .int (x27 + x57)), (11, .int r54), (10, .ref a45), (9, .int x24), (8, .int x25), (5, .int y28), (4, .int y29), (3, .ref y30), (0, .ref y31), (1, .int y32), (2, .int y33)] [.int x59, .int x26] h55 (j60 x59)) ?_ (fun j60 hj63 => ?_)
        · intro x59
          refine s_iadd dX0_doubt_145 ?_
          refine s_istore [(7, .int (x26 + x59)), (6, .int (x27 + x57)), (11, .int r54), (10, .ref a45), (9, .int x24), (8, .int x25), (5, .int y28), (4, .int y29), (3, .ref y30), (0, .ref y31), (1, .int y32), (2, .int y33)] dX0_doubt_146 (by decide) (by decide) rfl ?_
          refine s_iload dX0_doubt_148 5 rfl (by decide) ?_
          refine s_iload dX0_doubt_150 2 rfl (by decide) ?_
          refine s_bipush (-2 : Int32) dX0_doubt_152 (by decide) ?_
          refine s_icmp_ne 165 dX0_doubt_154 (by decide) (fun c61 => ?_) (fun c61 => ?_)
          · refine s_iconst (0 : Int32) dX0_doubt_165 (by decide) ?_
            refine s_iadd dX0_doubt_166 ?_
            refine s_istore [(8, .int (x25 + (0 : Int32))), (7, .int (x26 + x59)), (6, .int (x27 + x57)), (11, .int r54), (10, .ref a45), (9, .int x24), (5, .int y28), (4, .int y29), (3, .ref y30), (0, .ref y31), (1, .int y32), (2, .int y33)] dX0_doubt_167 (by decide) (by decide) rfl ?_
            refine s_iinc (1 : Int32) [(9, .int (x24 + (1 : Int32))), (8, .int (x25 + (0 : Int32))), (7, .int (x26 + x59)), (6, .int (x27 + x57)), (11, .int r54), (10, .ref a45), (5, .int y28), (4, .int y29), (3, .ref y30), (0, .ref y31), (1, .int y32), (2, .int y33)] dX0_doubt_169 5 rfl (by decide) (by decide) (by decide) rfl ?_
            refine s_goto 60 dX0_doubt_172 (by decide) ?_
            refine s_sub [0, 1, 2, 3, 6, 7, 8, 9, 10, 11] rfl ?_
            exact ih (x24 + (1 : Int32)) (x25 + (0 : Int32)) (x26 + x59) (x27 + x57) h55 k hk
          · refine s_aload dX0_doubt_157 3 rfl (by decide) ?_
            refine s_chk (fun hk62 => ?_)
            refine s_getV (j := 0) dX0_doubt_159 hk62 (by decide) q585 ?_
            refine s_goto 166 dX0_doubt_162 (by decide) ?_
            refine s_iadd dX0_doubt_166 ?_
            refine s_istore [(8, .int (x25 + (h55.I a45 0))), (7, .int (x26 + x59)), (6, .int (x27 + x57)), (11, .int r54), (10, .ref a45), (9, .int x24), (5, .int y28), (4, .int y29), (3, .ref y30), (0, .ref y31), (1, .int y32), (2, .int y33)] dX0_doubt_167 (by decide) (by decide) rfl ?_
            refine s_iinc (1 : Int32) [(9, .int (x24 + (1 : Int32))), (8, .int (x25 + (h55.I a45 0))), (7, .int (x26 + x59)), (6, .int (x27 + x57)), (11, .int r54), (10, .ref a45), (5, .int y28), (4, .int y29), (3, .ref y30), (0, .ref y31), (1, .int y32), (2, .int y33)] dX0_doubt_169 5 rfl (by decide) (by decide) (by decide) rfl ?_
            refine s_goto 60 dX0_doubt_172 (by decide) ?_
            refine s_sub [0, 1, 2, 3, 6, 7, 8, 9, 10, 11] rfl ?_
            exact ih (x24 + (1 : Int32)) (x25 + (h55.I a45 0)) (x26 + x59) (x27 + x57) h55 k hk
        refine s_icmp_ne 144 dX0_doubt_133 (by decide) (fun c64 => ?_) (fun c64 => ?_)
        · refine s_iconst (0 : Int32) dX0_doubt_144 (by decide) ?_
          refine s_sub [0, 1, 2, 3, 4, 6, 7, 8, 9, 10, 11] rfl ?_
          exact hj63 (0 : Int32)
        · refine s_aload dX0_doubt_136 2 rfl (by decide) ?_
          refine s_chk (fun hk65 => ?_)
          refine s_getV (j := 0) dX0_doubt_138 hk65 (by decide) q585 ?_
          refine s_goto 145 dX0_doubt_141 (by decide) ?_
          refine s_sub [0, 1, 2, 3, 4, 6, 7, 8, 9, 10, 11] rfl ?_
          exact hj63 (h55.I a45 0)
      refine s_icmp_ne 124 dX0_doubt_113 (by decide) (fun c67 => ?_) (fun c67 => ?_)
      · refine s_iconst (0 : Int32) dX0_doubt_124 (by decide) ?_
        refine s_sub [0, 1, 2, 3, 4, 6, 7, 8, 9, 10, 11] rfl ?_
        exact hj66 (0 : Int32)
      · refine s_aload dX0_doubt_116 1 rfl (by decide) ?_
        refine s_chk (fun hk68 => ?_)
        refine s_getV (j := 0) dX0_doubt_118 hk68 (by decide) q585 ?_
        refine s_goto 125 dX0_doubt_121 (by decide) ?_
        refine s_sub [0, 1, 2, 3, 4, 6, 7, 8, 9, 10, 11] rfl ?_
        exact hj66 (h55.I a45 0)
theorem sX0_doubt_L27 (G : Gl) (n : Nat) (K : Nat → Nat) (hK : K = G.ad) (y11 : Nat) (y12 : Nat) (y13 : Int32) (y14 : Int32) : ∀ (f : Nat) (x9 : Int32) (x10 : Int32) (h : AH), Sim G yX0_doubt.cls yX0_doubt.name cX0_doubt 12 (some .int) 5 cvI 27 [(5, .int x9), (4, .int x10), (3, .ref y11), (0, .ref y12), (1, .int y13), (2, .int y14)] [] h (F_X0_doubt_L27 n K y11 y12 y13 y14 f x9 x10 h) := by
  intro f
  induction f with
  | zero =>
    intro x9 x10 h
    exact s_none
  | succ f ih =>
    intro x9 x10 h
    unfold F_X0_doubt_L27
    refine s_iload dX0_doubt_27 0 rfl (by decide) ?_
    refine s_aload_n dX0_doubt_29 3 rfl ?_
    refine s_chk (fun hk15 => ?_)
    refine s_get (j := 3) 0 (va_rf (h.R y12 3)) dX0_doubt_30 hk15 rfl (by decide) q236 (Or.inl rfl) rfl ?_
    refine s_ob (r := h.R y12 3) (fun z => [(5, .int x9), (4, .int x10), (3, .ref y11), (0, .ref y12), (1, .int y13), (2, .int y14)]) (fun z => [z, .int x9]) (fun a16 => ?_)
    refine s_chk (fun hk19 => ?_)
    refine s_callV_I 2 (kJ2_size G n K hK a16 h) (by decide) (by decide) dX0_doubt_33 hk19 rfl rfl q732 q552 q553 q107 q554 hyJ2_size rfl rfl (Nat.le_of_ble_eq_true rfl) (fun r17 h18 => ?_)
    refine s_icmp_ge 237 dX0_doubt_36 (by decide) (fun c20 => ?_) (fun c20 => ?_)
    · refine s_iload dX0_doubt_237 1 rfl (by decide) ?_
      refine s_if_eq 246 dX0_doubt_239 (by decide) (fun c21 => ?_) (fun c21 => ?_)
      · refine s_iconst (1 : Int32) dX0_doubt_246 (by decide) ?_
        exact s_iret dX0_doubt_247 rfl rfl
      · refine s_iconst (2 : Int32) dX0_doubt_242 (by decide) ?_
        refine s_goto 247 dX0_doubt_243 (by decide) ?_
        exact s_iret dX0_doubt_247 rfl rfl
    · refine s_iload dX0_doubt_39 0 rfl (by decide) ?_
      refine s_iload_n dX0_doubt_41 4 rfl ?_
      refine s_icmp_ne 48 dX0_doubt_42 (by decide) (fun c22 => ?_) (fun c22 => ?_)
      · refine s_iconst (0 : Int32) dX0_doubt_48 (by decide) ?_
        refine s_istore [(6, .int (0 : Int32)), (5, .int x9), (4, .int x10), (3, .ref y11), (0, .ref y12), (1, .int y13), (2, .int y14)] dX0_doubt_49 (by decide) (by decide) rfl ?_
        refine s_iconst (0 : Int32) dX0_doubt_51 (by decide) ?_
        refine s_istore [(7, .int (0 : Int32)), (6, .int (0 : Int32)), (5, .int x9), (4, .int x10), (3, .ref y11), (0, .ref y12), (1, .int y13), (2, .int y14)] dX0_doubt_52 (by decide) (by decide) rfl ?_
        refine s_iconst (0 : Int32) dX0_doubt_54 (by decide) ?_
        refine s_istore [(8, .int (0 : Int32)), (7, .int (0 : Int32)), (6, .int (0 : Int32)), (5, .int x9), (4, .int x10), (3, .ref y11), (0, .ref y12), (1, .int y13), (2, .int y14)] dX0_doubt_55 (by decide) (by decide) rfl ?_
        refine s_iconst (0 : Int32) dX0_doubt_57 (by decide) ?_
        refine s_istore [(9, .int (0 : Int32)), (8, .int (0 : Int32)), (7, .int (0 : Int32)), (6, .int (0 : Int32)), (5, .int x9), (4, .int x10), (3, .ref y11), (0, .ref y12), (1, .int y13), (2, .int y14)] dX0_doubt_58 (by decide) (by decide) rfl ?_
        refine sX0_doubt_L60 G n K hK x9 x10 y11 y12 y13 y14 n (0 : Int32) (0 : Int32) (0 : Int32) (0 : Int32) h18 _ ?_
        intro x69 x70 x71 h72
        refine s_aload_n dX0_doubt_175 6 rfl ?_
        refine s_chk (fun hk73 => ?_)
        refine s_get (j := 5) 0 (va_rf (h72.R y12 5)) dX0_doubt_176 hk73 rfl (by decide) q238 (Or.inl rfl) rfl ?_
        refine s_iload dX0_doubt_179 2 rfl (by decide) ?_
        refine s_iload dX0_doubt_181 0 rfl (by decide) ?_
        refine s_iload dX0_doubt_183 1 rfl (by decide) ?_
        refine s_iadd dX0_doubt_185 ?_
        refine s_aload_n dX0_doubt_186 6 rfl ?_
        refine s_get (j := 7) 0 (.int (h72.I y12 7)) dX0_doubt_187 hk73 rfl (by decide) q240 (Or.inl rfl) rfl ?_
        refine s_ob (r := h72.R y12 5) (fun z => [(8, .int x69), (7, .int x70), (6, .int x71), (5, .int x9), (4, .int x10), (3, .ref y11), (0, .ref y12), (1, .int y13), (2, .int y14)]) (fun z => [.int (h72.I y12 7), .int (x69 + x70), .int x71, z]) (fun a74 => ?_)
        refine s_chk (fun hk77 => ?_)
        refine s_callV_I 3 (kX2_wins G n K hK a74 x71 (x69 + x70) (h72.I y12 7) h72) (by decide) (by decide) dX0_doubt_190 hk77 rfl rfl q867 q868 q869 q108 q870 hyX2_wins rfl rfl (Nat.le_of_ble_eq_true rfl) (fun r75 h76 => ?_)
        refine s_if_eq 198 dX0_doubt_193 (by decide) (fun c78 => ?_) (fun c78 => ?_)
        · refine s_iload dX0_doubt_198 4 rfl (by decide) ?_
          refine s_if_eq 228 dX0_doubt_200 (by decide) (fun c79 => ?_) (fun c79 => ?_)
          · refine s_iconst (0 : Int32) dX0_doubt_228 (by decide) ?_
            refine s_istore [(4, .int (0 : Int32)), (8, .int x69), (7, .int x70), (6, .int x71), (5, .int x9), (3, .ref y11), (0, .ref y12), (1, .int y13), (2, .int y14)] dX0_doubt_229 (by decide) (by decide) rfl ?_
            refine s_iinc (1 : Int32) [(5, .int (x9 + (1 : Int32))), (4, .int (0 : Int32)), (8, .int x69), (7, .int x70), (6, .int x71), (3, .ref y11), (0, .ref y12), (1, .int y13), (2, .int y14)] dX0_doubt_231 4 rfl (by decide) (by decide) (by decide) rfl ?_
            refine s_goto 27 dX0_doubt_234 (by decide) ?_
            refine s_sub [0, 1, 5, 6, 7, 8] rfl ?_
            exact ih (x9 + (1 : Int32)) (0 : Int32) h76
          · refine s_aload_n dX0_doubt_203 6 rfl ?_
            refine s_chk (fun hk80 => ?_)
            refine s_get (j := 5) 0 (va_rf (h76.R y12 5)) dX0_doubt_204 hk80 rfl (by decide) q238 (Or.inl rfl) rfl ?_
            refine s_iload dX0_doubt_207 2 rfl (by decide) ?_
            refine s_iload dX0_doubt_209 1 rfl (by decide) ?_
            refine s_iadd dX0_doubt_211 ?_
            refine s_iload dX0_doubt_212 0 rfl (by decide) ?_
            refine s_aload_n dX0_doubt_214 6 rfl ?_
            refine s_get (j := 7) 0 (.int (h76.I y12 7)) dX0_doubt_215 hk80 rfl (by decide) q240 (Or.inl rfl) rfl ?_
            refine s_ob (r := h76.R y12 5) (fun z => [(8, .int x69), (7, .int x70), (6, .int x71), (5, .int x9), (4, .int x10), (3, .ref y11), (0, .ref y12), (1, .int y13), (2, .int y14)]) (fun z => [.int (h76.I y12 7), .int x69, .int (x71 + x70), z]) (fun a81 => ?_)
            refine s_chk (fun hk84 => ?_)
            refine s_callV_I 3 (kX2_wins G n K hK a81 (x71 + x70) x69 (h76.I y12 7) h76) (by decide) (by decide) dX0_doubt_218 hk84 rfl rfl q867 q868 q869 q108 q870 hyX2_wins rfl rfl (Nat.le_of_ble_eq_true rfl) (fun r82 h83 => ?_)
            refine s_if_ne 228 dX0_doubt_221 (by decide) (fun c85 => ?_) (fun c85 => ?_)
            · refine s_iconst (0 : Int32) dX0_doubt_228 (by decide) ?_
              refine s_istore [(4, .int (0 : Int32)), (8, .int x69), (7, .int x70), (6, .int x71), (5, .int x9), (3, .ref y11), (0, .ref y12), (1, .int y13), (2, .int y14)] dX0_doubt_229 (by decide) (by decide) rfl ?_
              refine s_iinc (1 : Int32) [(5, .int (x9 + (1 : Int32))), (4, .int (0 : Int32)), (8, .int x69), (7, .int x70), (6, .int x71), (3, .ref y11), (0, .ref y12), (1, .int y13), (2, .int y14)] dX0_doubt_231 4 rfl (by decide) (by decide) (by decide) rfl ?_
              refine s_goto 27 dX0_doubt_234 (by decide) ?_
              refine s_sub [0, 1, 5, 6, 7, 8] rfl ?_
              exact ih (x9 + (1 : Int32)) (0 : Int32) h83
            · refine s_iconst (1 : Int32) dX0_doubt_224 (by decide) ?_
              refine s_goto 229 dX0_doubt_225 (by decide) ?_
              refine s_istore [(4, .int (1 : Int32)), (8, .int x69), (7, .int x70), (6, .int x71), (5, .int x9), (3, .ref y11), (0, .ref y12), (1, .int y13), (2, .int y14)] dX0_doubt_229 (by decide) (by decide) rfl ?_
              refine s_iinc (1 : Int32) [(5, .int (x9 + (1 : Int32))), (4, .int (1 : Int32)), (8, .int x69), (7, .int x70), (6, .int x71), (3, .ref y11), (0, .ref y12), (1, .int y13), (2, .int y14)] dX0_doubt_231 4 rfl (by decide) (by decide) (by decide) rfl ?_
              refine s_goto 27 dX0_doubt_234 (by decide) ?_
              refine s_sub [0, 1, 5, 6, 7, 8] rfl ?_
              exact ih (x9 + (1 : Int32)) (1 : Int32) h83
        · refine s_iconst (0 : Int32) dX0_doubt_196 (by decide) ?_
          exact s_iret dX0_doubt_197 rfl rfl
      · refine s_goto 231 dX0_doubt_45 (by decide) ?_
        refine s_iinc (1 : Int32) [(5, .int (x9 + (1 : Int32))), (4, .int x10), (3, .ref y11), (0, .ref y12), (1, .int y13), (2, .int y14)] dX0_doubt_231 0 rfl (by decide) (by decide) (by decide) rfl ?_
        refine s_goto 27 dX0_doubt_234 (by decide) ?_
        exact ih (x9 + (1 : Int32)) x10 h18
theorem kX0_doubt (G : Gl) (n : Nat) (K : Nat → Nat) (hK : K = G.ad) (p0 : Nat) (p1 : Int32) (p2 : Int32) (h : AH) : OkM G yX0_doubt cX0_doubt 12 (some .int) 5 cvI [.ref p0, .int p1, .int p2] h (F_X0_doubt n K p0 p1 p2 h) := by
  refine ok_of_sim [(0, .ref p0), (1, .int p1), (2, .int p2)] (by decide +kernel) (fun r => ⟨_, rfl⟩) (by simp [uns, lv_args, lg_sl, catI, catL, catA, va_rfc]) (by simp [uns, lv_args, lg_sl, catI, catL, catA, va_rfc]) (by simp [uns, lv_args, lg_sl, catI, catL, catA, va_rfc]) ?_
  unfold F_X0_doubt
  refine s_aload_n dX0_doubt_0 0 rfl ?_
  refine s_iload_n dX0_doubt_1 1 rfl ?_
  refine s_chk (fun hk3 => ?_)
  refine s_callV_R 0 (kX0_placeAt G n K hK p0 p1 h) (by decide) (by decide) dX0_doubt_2 hk3 rfl rfl q779 q781 qs18 q103 q782 hyX0_placeAt rfl rfl (Nat.le_of_ble_eq_true rfl) (fun r1 h2 => ?_)
  refine s_ostore_n [(3, va_rf r1), (0, .ref p0), (1, .int p1), (2, .int p2)] dX0_doubt_5 (by decide) (by decide) rfl ?_
  refine s_oload_n dX0_doubt_6 0 rfl ?_
  refine s_ifnull (r := r1) 19 (fun z => [(3, z), (0, .ref p0), (1, .int p1), (2, .int p2)]) (fun z => []) dX0_doubt_7 (by decide) ?_ (fun a4 => ?_)
  · refine s_iconst (-1 : Int32) dX0_doubt_19 (by decide) ?_
    exact s_iret dX0_doubt_20 rfl rfl
  · refine s_iload_n dX0_doubt_10 3 rfl ?_
    refine s_iconst (0 : Int32) dX0_doubt_11 (by decide) ?_
    refine s_iconst (5 : Int32) dX0_doubt_12 (by decide) ?_
    refine s_callS_I (kX0_in G n K hK p2 (0 : Int32) (5 : Int32) h2) (by decide) (by decide) dX0_doubt_13 q335 q336 q103 q337 hyX0_in rfl rfl (Nat.le_of_ble_eq_true rfl) (fun r5 h6 => ?_)
    refine s_if_ne 21 dX0_doubt_16 (by decide) (fun c7 => ?_) (fun c7 => ?_)
    · refine s_iconst (1 : Int32) dX0_doubt_21 (by decide) ?_
      refine s_istore [(4, .int (1 : Int32)), (3, .ref a4), (0, .ref p0), (1, .int p1), (2, .int p2)] dX0_doubt_22 (by decide) (by decide) rfl ?_
      refine s_iconst (0 : Int32) dX0_doubt_24 (by decide) ?_
      refine s_istore [(5, .int (0 : Int32)), (4, .int (1 : Int32)), (3, .ref a4), (0, .ref p0), (1, .int p1), (2, .int p2)] dX0_doubt_25 (by decide) (by decide) rfl ?_
      exact sX0_doubt_L27 G n K hK a4 p0 p1 p2 n (0 : Int32) (1 : Int32) h6
    · refine s_iconst (-1 : Int32) dX0_doubt_19 (by decide) ?_
      exact s_iret dX0_doubt_20 rfl rfl
theorem hyX0_pairMany : yX0_pairMany.cls ≠ "java/lang/invoke/MethodHandle" ∧ yX0_pairMany.cls ≠ "java/lang/invoke/VarHandle" ∧ (parseMethodDescriptor yX0_pairMany.desc).map (fun d => d.parameters.length) = some 0 := by decide +kernel
theorem sX0_pairMany_L17 (G : Gl) (n : Nat) (K : Nat → Nat) (hK : K = G.ad) (y13 : Int32) (y15 : Nat) : ∀ (f : Nat) (x12 : Int32) (x14 : Int32) (h : AH) (k : Int32 → AH → Option (Int32 × AH)) (hk : ∀ (x14 : Int32) (h : AH), Sim G yX0_pairMany.cls yX0_pairMany.name cX0_pairMany 4 (some .int) 8 cvI 76 [(2, .int y13), (1, .int x14), (0, .ref y15)] [] h (k x14 h)), Sim G yX0_pairMany.cls yX0_pairMany.name cX0_pairMany 4 (some .int) 8 cvI 17 [(3, .int x12), (2, .int y13), (1, .int x14), (0, .ref y15)] [] h (F_X0_pairMany_L17 n K y13 y15 f x12 x14 h k) := by
  intro f
  induction f with
  | zero =>
    intro x12 x14 h k hk
    exact s_none
  | succ f ih =>
    intro x12 x14 h k hk
    unfold F_X0_pairMany_L17
    refine s_iload_n dX0_pairMany_17 0 rfl ?_
    refine s_aload_n dX0_pairMany_18 3 rfl ?_
    refine s_chk (fun hk16 => ?_)
    refine s_get (j := 3) 0 (va_rf (h.R y15 3)) dX0_pairMany_19 hk16 rfl (by decide) q236 (Or.inl rfl) rfl ?_
    refine s_ob (r := h.R y15 3) (fun z => [(3, .int x12), (2, .int y13), (1, .int x14), (0, .ref y15)]) (fun z => [z, .int x12]) (fun a17 => ?_)
    refine s_chk (fun hk20 => ?_)
    refine s_callV_I 2 (kJ2_size G n K hK a17 h) (by decide) (by decide) dX0_pairMany_22 hk20 rfl rfl q732 q552 q553 q107 q554 hyJ2_size rfl rfl (Nat.le_of_ble_eq_true rfl) (fun r18 h19 => ?_)
    refine s_icmp_ge 76 dX0_pairMany_25 (by decide) (fun c21 => ?_) (fun c21 => ?_)
    · refine s_sub [1, 2, 3] rfl ?_
      exact hk x14 h19
    · refine s_iload_n dX0_pairMany_28 2 rfl ?_
      refine s_iload_n dX0_pairMany_29 1 rfl ?_
      refine s_iload_n dX0_pairMany_30 0 rfl ?_
      refine s_icmp_eq 67 dX0_pairMany_31 (by decide) (fun c22 => ?_) (fun c22 => ?_)
      · refine s_iconst (0 : Int32) dX0_pairMany_67 (by decide) ?_
        refine s_iadd dX0_pairMany_68 ?_
        refine s_istore_n [(1, .int (x14 + (0 : Int32))), (3, .int x12), (2, .int y13), (0, .ref y15)] dX0_pairMany_69 (by decide) (by decide) rfl ?_
        refine s_iinc (1 : Int32) [(3, .int (x12 + (1 : Int32))), (1, .int (x14 + (0 : Int32))), (2, .int y13), (0, .ref y15)] dX0_pairMany_70 1 rfl (by decide) (by decide) (by decide) rfl ?_
        refine s_goto 17 dX0_pairMany_73 (by decide) ?_
        refine s_sub [0, 2, 1, 3] rfl ?_
        exact ih (x12 + (1 : Int32)) (x14 + (0 : Int32)) h19 k hk
      · refine s_aload_n dX0_pairMany_34 3 rfl ?_
        refine s_aload_n dX0_pairMany_35 3 rfl ?_
        refine s_chk (fun hk23 => ?_)
        refine s_get (j := 3) 0 (va_rf (h19.R y15 3)) dX0_pairMany_36 hk23 rfl (by decide) q236 (Or.inl rfl) rfl ?_
        refine s_iload_n dX0_pairMany_39 1 rfl ?_
        refine s_ob (r := h19.R y15 3) (fun z => [(3, .int x12), (2, .int y13), (1, .int x14), (0, .ref y15)]) (fun z => [.int y13, z, .ref y15, .int x14]) (fun a24 => ?_)
        refine s_chk (fun hk27 => ?_)
        refine s_callV_R 2 (kJ2_get G n K hK a24 y13 h19) (by decide) (by decide) dX0_pairMany_40 hk27 rfl rfl q733 q734 q735 q107 q736 hyJ2_get rfl rfl (Nat.le_of_ble_eq_true rfl) (fun r25 h26 => ?_)
        refine s_ob (r := r25) (fun z => [(3, .int x12), (2, .int y13), (1, .int x14), (0, .ref y15)]) (fun z => [z, .ref y15, .int x14]) (fun a28 => ?_)
        refine s_chk (fun hk29 => ?_)
        refine s_cast 10 dX0_pairMany_43 hk29 rfl q747 ?_
        refine s_aload_n dX0_pairMany_46 3 rfl ?_
        refine s_chk (fun hk30 => ?_)
        refine s_get (j := 3) 0 (va_rf (h26.R y15 3)) dX0_pairMany_47 hk30 rfl (by decide) q236 (Or.inl rfl) rfl ?_
        refine s_iload_n dX0_pairMany_50 0 rfl ?_
        refine s_ob (r := h26.R y15 3) (fun z => [(3, .int x12), (2, .int y13), (1, .int x14), (0, .ref y15)]) (fun z => [.int x12, z, .ref a28, .ref y15, .int x14]) (fun a31 => ?_)
        refine s_chk (fun hk34 => ?_)
        refine s_callV_R 2 (kJ2_get G n K hK a31 x12 h26) (by decide) (by decide) dX0_pairMany_51 hk34 rfl rfl q733 q734 q735 q107 q736 hyJ2_get rfl rfl (Nat.le_of_ble_eq_true rfl) (fun r32 h33 => ?_)
        refine s_ob (r := r32) (fun z => [(3, .int x12), (2, .int y13), (1, .int x14), (0, .ref y15)]) (fun z => [z, .ref a28, .ref y15, .int x14]) (fun a35 => ?_)
        refine s_chk (fun hk36 => ?_)
        refine s_cast 10 dX0_pairMany_54 hk36 rfl q747 ?_
        refine s_chk (fun hk39 => ?_)
        refine s_callV_I 0 (kX0_above G n K hK y15 (some a28) (some a35) h33) (by decide) (by decide) dX0_pairMany_57 hk39 rfl rfl q859 q861 qs21 q103 q862 hyX0_above rfl rfl (Nat.le_of_ble_eq_true rfl) (fun r37 h38 => ?_)
        refine s_if_eq 67 dX0_pairMany_60 (by decide) (fun c40 => ?_) (fun c40 => ?_)
        · refine s_iconst (0 : Int32) dX0_pairMany_67 (by decide) ?_
          refine s_iadd dX0_pairMany_68 ?_
          refine s_istore_n [(1, .int (x14 + (0 : Int32))), (3, .int x12), (2, .int y13), (0, .ref y15)] dX0_pairMany_69 (by decide) (by decide) rfl ?_
          refine s_iinc (1 : Int32) [(3, .int (x12 + (1 : Int32))), (1, .int (x14 + (0 : Int32))), (2, .int y13), (0, .ref y15)] dX0_pairMany_70 1 rfl (by decide) (by decide) (by decide) rfl ?_
          refine s_goto 17 dX0_pairMany_73 (by decide) ?_
          refine s_sub [0, 2, 1, 3] rfl ?_
          exact ih (x12 + (1 : Int32)) (x14 + (0 : Int32)) h38 k hk
        · refine s_iconst (1 : Int32) dX0_pairMany_63 (by decide) ?_
          refine s_goto 68 dX0_pairMany_64 (by decide) ?_
          refine s_iadd dX0_pairMany_68 ?_
          refine s_istore_n [(1, .int (x14 + (1 : Int32))), (3, .int x12), (2, .int y13), (0, .ref y15)] dX0_pairMany_69 (by decide) (by decide) rfl ?_
          refine s_iinc (1 : Int32) [(3, .int (x12 + (1 : Int32))), (1, .int (x14 + (1 : Int32))), (2, .int y13), (0, .ref y15)] dX0_pairMany_70 1 rfl (by decide) (by decide) (by decide) rfl ?_
          refine s_goto 17 dX0_pairMany_73 (by decide) ?_
          refine s_sub [0, 2, 1, 3] rfl ?_
          exact ih (x12 + (1 : Int32)) (x14 + (1 : Int32)) h38 k hk
theorem sX0_pairMany_L4 (G : Gl) (n : Nat) (K : Nat → Nat) (hK : K = G.ad) (y4 : Nat) : ∀ (f : Nat) (x2 : Int32) (x3 : Int32) (h : AH), Sim G yX0_pairMany.cls yX0_pairMany.name cX0_pairMany 4 (some .int) 8 cvI 4 [(2, .int x2), (1, .int x3), (0, .ref y4)] [] h (F_X0_pairMany_L4 n K y4 f x2 x3 h) := by
  intro f
  induction f with
  | zero =>
    intro x2 x3 h
    exact s_none
  | succ f ih =>
    intro x2 x3 h
    unfold F_X0_pairMany_L4
    refine s_iload_n dX0_pairMany_4 0 rfl ?_
    refine s_aload_n dX0_pairMany_5 2 rfl ?_
    refine s_chk (fun hk5 => ?_)
    refine s_get (j := 3) 0 (va_rf (h.R y4 3)) dX0_pairMany_6 hk5 rfl (by decide) q236 (Or.inl rfl) rfl ?_
    refine s_ob (r := h.R y4 3) (fun z => [(2, .int x2), (1, .int x3), (0, .ref y4)]) (fun z => [z, .int x2]) (fun a6 => ?_)
    refine s_chk (fun hk9 => ?_)
    refine s_callV_I 2 (kJ2_size G n K hK a6 h) (by decide) (by decide) dX0_pairMany_9 hk9 rfl rfl q732 q552 q553 q107 q554 hyJ2_size rfl rfl (Nat.le_of_ble_eq_true rfl) (fun r7 h8 => ?_)
    refine s_icmp_ge 82 dX0_pairMany_12 (by decide) (fun c10 => ?_) (fun c10 => ?_)
    · refine s_iload_n dX0_pairMany_82 1 rfl ?_
      exact s_iret dX0_pairMany_83 rfl rfl
    · refine s_iconst (0 : Int32) dX0_pairMany_15 (by decide) ?_
      refine s_istore_n [(3, .int (0 : Int32)), (2, .int x2), (1, .int x3), (0, .ref y4)] dX0_pairMany_16 (by decide) (by decide) rfl ?_
      refine sX0_pairMany_L17 G n K hK x2 y4 n (0 : Int32) x3 h8 _ ?_
      intro x41 h42
      refine s_iinc (1 : Int32) [(2, .int (x2 + (1 : Int32))), (1, .int x41), (0, .ref y4)] dX0_pairMany_76 0 rfl (by decide) (by decide) (by decide) rfl ?_
      refine s_goto 4 dX0_pairMany_79 (by decide) ?_
      exact ih (x2 + (1 : Int32)) x41 h42
theorem kX0_pairMany (G : Gl) (n : Nat) (K : Nat → Nat) (hK : K = G.ad) (p0 : Nat) (h : AH) : OkM G yX0_pairMany cX0_pairMany 4 (some .int) 8 cvI [.ref p0] h (F_X0_pairMany n K p0 h) := by
  refine ok_of_sim [(0, .ref p0)] (by decide +kernel) (fun r => ⟨_, rfl⟩) (by simp [uns, lv_args, lg_sl, catI, catL, catA, va_rfc]) (by simp [uns, lv_args, lg_sl, catI, catL, catA, va_rfc]) (by simp [uns, lv_args, lg_sl, catI, catL, catA, va_rfc]) ?_
  unfold F_X0_pairMany
  refine s_iconst (0 : Int32) dX0_pairMany_0 (by decide) ?_
  refine s_istore_n [(1, .int (0 : Int32)), (0, .ref p0)] dX0_pairMany_1 (by decide) (by decide) rfl ?_
  refine s_iconst (0 : Int32) dX0_pairMany_2 (by decide) ?_
  refine s_istore_n [(2, .int (0 : Int32)), (1, .int (0 : Int32)), (0, .ref p0)] dX0_pairMany_3 (by decide) (by decide) rfl ?_
  exact sX0_pairMany_L4 G n K hK p0 n (0 : Int32) (0 : Int32) h
theorem hyX13_init : yX13_init.cls ≠ "java/lang/invoke/MethodHandle" ∧ yX13_init.cls ≠ "java/lang/invoke/VarHandle" ∧ (parseMethodDescriptor yX13_init.desc).map (fun d => d.parameters.length) = some 7 := by decide +kernel
theorem kX13_init (G : Gl) (n : Nat) (K : Nat → Nat) (hK : K = G.ad) (p0 : Nat) (p1 : Int32) (p2 : Int32) (p3 : Int32) (p4 : Int32) (p5 : Int32) (p6 : Int32) (p7 : Int32) (h : AH) : OkM G yX13_init cX13_init 8 none 1 cvV [.ref p0, .int p1, .int p2, .int p3, .int p4, .int p5, .int p6, .int p7] h (F_X13_init n K p0 p1 p2 p3 p4 p5 p6 p7 h) := by
  refine ok_of_sim [(0, .ref p0), (1, .int p1), (2, .int p2), (3, .int p3), (4, .int p4), (5, .int p5), (6, .int p6), (7, .int p7)] (by decide +kernel) (fun r => ⟨_, rfl⟩) (by simp [uns, lv_args, lg_sl, catI, catL, catA, va_rfc]) (by simp [uns, lv_args, lg_sl, catI, catL, catA, va_rfc]) (by simp [uns, lv_args, lg_sl, catI, catL, catA, va_rfc]) ?_
  unfold F_X13_init
  refine s_aload_n dX13_init_0 0 rfl ?_
  refine s_objInit dX13_init_1 q1162 q141 q142 (by decide) (Nat.le_of_ble_eq_true rfl) ?_
  refine s_aload_n dX13_init_4 0 rfl ?_
  refine s_iload_n dX13_init_5 1 rfl ?_
  refine s_chk (fun hk1 => ?_)
  refine s_putF (j := 0) 13 (v := .int p1) dX13_init_6 hk1 rfl (by decide) q1163 (Or.inl rfl) rfl rfl rfl rfl rfl (Upd.i (fun _ => rfl)) ?_
  refine s_hl (fun h2 e3 => ?_)
  refine s_aload_n dX13_init_9 0 rfl ?_
  refine s_iload_n dX13_init_10 2 rfl ?_
  refine s_putF (j := 1) 13 (v := .int p2) dX13_init_11 (show h2.kind p0 = 14 by rw [e3]; exact hk1) rfl (by decide) q1165 (Or.inl rfl) rfl rfl rfl rfl rfl (Upd.i (fun _ => rfl)) ?_
  refine s_hl (fun h4 e5 => ?_)
  refine s_aload_n dX13_init_14 0 rfl ?_
  refine s_iload_n dX13_init_15 3 rfl ?_
  refine s_putF (j := 2) 13 (v := .int p3) dX13_init_16 (show h4.kind p0 = 14 by rw [e5, e3]; exact hk1) rfl (by decide) q1167 (Or.inl rfl) rfl rfl rfl rfl rfl (Upd.i (fun _ => rfl)) ?_
  refine s_hl (fun h6 e7 => ?_)
  refine s_aload_n dX13_init_19 0 rfl ?_
  refine s_iload dX13_init_20 4 rfl (by decide) ?_
  refine s_putF (j := 3) 13 (v := .int p4) dX13_init_22 (show h6.kind p0 = 14 by rw [e7, e5, e3]; exact hk1) rfl (by decide) q1169 (Or.inl rfl) rfl rfl rfl rfl rfl (Upd.i (fun _ => rfl)) ?_
  refine s_hl (fun h8 e9 => ?_)
  refine s_aload_n dX13_init_25 0 rfl ?_
  refine s_iload dX13_init_26 5 rfl (by decide) ?_
  refine s_putF (j := 4) 13 (v := .int p5) dX13_init_28 (show h8.kind p0 = 14 by rw [e9, e7, e5, e3]; exact hk1) rfl (by decide) q1171 (Or.inl rfl) rfl rfl rfl rfl rfl (Upd.i (fun _ => rfl)) ?_
  refine s_hl (fun h10 e11 => ?_)
  refine s_aload_n dX13_init_31 0 rfl ?_
  refine s_iload dX13_init_32 6 rfl (by decide) ?_
  refine s_putF (j := 5) 13 (v := .int p6) dX13_init_34 (show h10.kind p0 = 14 by rw [e11, e9, e7, e5, e3]; exact hk1) rfl (by decide) q1173 (Or.inl rfl) rfl rfl rfl rfl rfl (Upd.i (fun _ => rfl)) ?_
  refine s_hl (fun h12 e13 => ?_)
  refine s_aload_n dX13_init_37 0 rfl ?_
  refine s_iload dX13_init_38 7 rfl (by decide) ?_
  refine s_putF (j := 6) 13 (v := .int p7) dX13_init_40 (show h12.kind p0 = 14 by rw [e13, e11, e9, e7, e5, e3]; exact hk1) rfl (by decide) q1175 (Or.inl rfl) rfl rfl rfl rfl rfl (Upd.i (fun _ => rfl)) ?_
  refine s_hl (fun h14 e15 => ?_)
  exact s_vret dX13_init_43 rfl rfl
theorem hyX0_puts : yX0_puts.cls ≠ "java/lang/invoke/MethodHandle" ∧ yX0_puts.cls ≠ "java/lang/invoke/VarHandle" ∧ (parseMethodDescriptor yX0_puts.desc).map (fun d => d.parameters.length) = some 3 := by decide +kernel
theorem kX0_puts (G : Gl) (n : Nat) (K : Nat → Nat) (hK : K = G.ad) (p0 : Nat) (p1 : Int32) (p2 : Int32) (p3 : Int32) (h : AH) : OkM G yX0_puts cX0_puts 4 none 4 cvV [.ref p0, .int p1, .int p2, .int p3] h (F_X0_puts n K p0 p1 p2 p3 h) := by
  refine ok_of_sim [(0, .ref p0), (1, .int p1), (2, .int p2), (3, .int p3)] (by decide +kernel) (fun r => ⟨_, rfl⟩) (by simp [uns, lv_args, lg_sl, catI, catL, catA, va_rfc]) (by simp [uns, lv_args, lg_sl, catI, catL, catA, va_rfc]) (by simp [uns, lv_args, lg_sl, catI, catL, catA, va_rfc]) ?_
  unfold F_X0_puts
  refine s_aload_n dX0_puts_0 0 rfl ?_
  refine s_chk (fun hk1 => ?_)
  refine s_get (j := 2) 0 (va_rf (h.R p0 2)) dX0_puts_1 hk1 rfl (by decide) q235 (Or.inl rfl) rfl ?_
  refine s_iload_n dX0_puts_4 1 rfl ?_
  refine s_ob (r := h.R p0 2) (fun z => [(0, .ref p0), (1, .int p1), (2, .int p2), (3, .int p3)]) (fun z => [.int p1, z]) (fun a2 => ?_)
  refine s_chk (fun hk5 => ?_)
  refine s_callV_R 2 (kJ2_get G n K hK a2 p1 h) (by decide) (by decide) dX0_puts_5 hk5 rfl rfl q733 q734 q735 q107 q736 hyJ2_get rfl rfl (Nat.le_of_ble_eq_true rfl) (fun r3 h4 => ?_)
  refine s_ob (r := r3) (fun z => [(0, .ref p0), (1, .int p1), (2, .int p2), (3, .int p3)]) (fun z => [z]) (fun a6 => ?_)
  refine s_chk (fun hk7 => ?_)
  refine s_castV dX0_puts_8 hk7 q745 ?_
  refine s_iload_n dX0_puts_11 2 rfl ?_
  refine s_putV (j := 3) dX0_puts_12 hk7 (by decide) q591 (by decide) ?_
  refine s_hl (fun h8 e9 => ?_)
  refine s_aload_n dX0_puts_15 0 rfl ?_
  refine s_chk (fun hk10 => ?_)
  refine s_get (j := 2) 0 (va_rf (h8.R p0 2)) dX0_puts_16 hk10 rfl (by decide) q235 (Or.inl rfl) rfl ?_
  refine s_iload_n dX0_puts_19 1 rfl ?_
  refine s_ob (r := h8.R p0 2) (fun z => [(0, .ref p0), (1, .int p1), (2, .int p2), (3, .int p3)]) (fun z => [.int p1, z]) (fun a11 => ?_)
  refine s_chk (fun hk14 => ?_)
  refine s_callV_R 2 (kJ2_get G n K hK a11 p1 h8) (by decide) (by decide) dX0_puts_20 hk14 rfl rfl q733 q734 q735 q107 q736 hyJ2_get rfl rfl (Nat.le_of_ble_eq_true rfl) (fun r12 h13 => ?_)
  refine s_ob (r := r12) (fun z => [(0, .ref p0), (1, .int p1), (2, .int p2), (3, .int p3)]) (fun z => [z]) (fun a15 => ?_)
  refine s_chk (fun hk16 => ?_)
  refine s_castV dX0_puts_23 hk16 q745 ?_
  refine s_iload_n dX0_puts_26 3 rfl ?_
  refine s_putV (j := 4) dX0_puts_27 hk16 (by decide) q593 (by decide) ?_
  refine s_hl (fun h17 e18 => ?_)
  refine s_aload_n dX0_puts_30 0 rfl ?_
  refine s_chk (fun hk21 => ?_)
  refine s_callV_V 0 (kX0_stale G n K hK p0 h17) (by decide) (by decide) dX0_puts_31 hk21 rfl rfl q748 q750 qs16 q103 q751 hyX0_stale rfl rfl (Nat.le_of_ble_eq_true rfl) (fun r19 h20 => ?_)
  exact s_vret dX0_puts_34 rfl rfl
theorem hyX0_move : yX0_move.cls ≠ "java/lang/invoke/MethodHandle" ∧ yX0_move.cls ≠ "java/lang/invoke/VarHandle" ∧ (parseMethodDescriptor yX0_move.desc).map (fun d => d.parameters.length) = some 3 := by decide +kernel
theorem kX0_move (G : Gl) (n : Nat) (K : Nat → Nat) (hK : K = G.ad) (p0 : Nat) (p1 : Int32) (p2 : Int32) (p3 : Int32) (h : AH) : OkM G yX0_move cX0_move 6 (some .int) 10 cvI [.ref p0, .int p1, .int p2, .int p3] h (F_X0_move n K p0 p1 p2 p3 h) := by
  refine ok_of_sim [(0, .ref p0), (1, .int p1), (2, .int p2), (3, .int p3)] (by decide +kernel) (fun r => ⟨_, rfl⟩) (by simp [uns, lv_args, lg_sl, catI, catL, catA, va_rfc]) (by simp [uns, lv_args, lg_sl, catI, catL, catA, va_rfc]) (by simp [uns, lv_args, lg_sl, catI, catL, catA, va_rfc]) ?_
  unfold F_X0_move
  refine s_aload_n dX0_move_0 0 rfl ?_
  refine s_iload_n dX0_move_1 1 rfl ?_
  refine s_chk (fun hk3 => ?_)
  refine s_callV_R 0 (kX0_voterAt G n K hK p0 p1 h) (by decide) (by decide) dX0_move_2 hk3 rfl rfl q756 q758 qs17 q103 q759 hyX0_voterAt rfl rfl (Nat.le_of_ble_eq_true rfl) (fun r1 h2 => ?_)
  refine s_ostore [(4, va_rf r1), (0, .ref p0), (1, .int p1), (2, .int p2), (3, .int p3)] dX0_move_5 (by decide) (by decide) rfl ?_
  refine s_oload dX0_move_7 0 rfl (by decide) ?_
  refine s_ifnull (r := r1) 50 (fun z => [(4, z), (0, .ref p0), (1, .int p1), (2, .int p2), (3, .int p3)]) (fun z => []) dX0_move_9 (by decide) ?_ (fun a4 => ?_)
  · refine s_iconst (-1 : Int32) dX0_move_50 (by decide) ?_
    exact s_iret dX0_move_51 rfl rfl
  · refine s_iload_n dX0_move_12 3 rfl ?_
    refine s_iload_n dX0_move_13 4 rfl ?_
    refine s_callS_I (kX0_isPoint G n K hK p2 p3 h2) (by decide) (by decide) dX0_move_14 q788 q789 q103 q790 hyX0_isPoint rfl rfl (Nat.le_of_ble_eq_true rfl) (fun r5 h6 => ?_)
    refine s_if_eq 50 dX0_move_17 (by decide) (fun c7 => ?_) (fun c7 => ?_)
    · refine s_iconst (-1 : Int32) dX0_move_50 (by decide) ?_
      exact s_iret dX0_move_51 rfl rfl
    · refine s_aload dX0_move_20 0 rfl (by decide) ?_
      refine s_chk (fun hk8 => ?_)
      refine s_getV (j := 3) dX0_move_22 hk8 (by decide) q591 ?_
      refine s_iload_n dX0_move_25 3 rfl ?_
      refine s_jn (fun j9 => Sim G yX0_move.cls yX0_move.name cX0_move 6 (some .int) 10 cvI 38 [(4, .ref a4), (0, .ref p0), (1, .int p1), (2, .int p2), (3, .int p3)] [] h6 (j9 )) ?_ (fun j9 hj52 => ?_)
      · skip
        refine s_aload_n dX0_move_38 1 rfl ?_
        refine s_chk (fun hk10 => ?_)
        refine s_get (j := 4) 0 (va_rf (h6.R p0 4)) dX0_move_39 hk10 rfl (by decide) q237 (Or.inl rfl) rfl ?_
        refine s_ob (r := h6.R p0 4) (fun z => [(4, .ref a4), (0, .ref p0), (1, .int p1), (2, .int p2), (3, .int p3)]) (fun z => [z]) (fun a11 => ?_)
        refine s_chk (fun hk14 => ?_)
        refine s_callV_I 2 (kJ2_size G n K hK a11 h6) (by decide) (by decide) dX0_move_42 hk14 rfl rfl q732 q552 q553 q107 q554 hyJ2_size rfl rfl (Nat.le_of_ble_eq_true rfl) (fun r12 h13 => ?_)
        refine s_bipush (40 : Int32) dX0_move_45 (by decide) ?_
        refine s_icmp_ne 52 dX0_move_47 (by decide) (fun c15 => ?_) (fun c15 => ?_)
        · refine s_new 13 dX0_move_52 rfl q1153 q1154 q134 ?_
          refine s_hl (fun h16 e17 => ?_)
          refine s_dup dX0_move_55 rfl ?_
          refine s_iload_n dX0_move_56 2 rfl ?_
          refine s_aload dX0_move_57 0 rfl (by decide) ?_
          refine s_chk (fun hk18 => ?_)
          refine s_getV (j := 3) dX0_move_59 hk18 (by decide) q591 ?_
          refine s_aload dX0_move_62 0 rfl (by decide) ?_
          refine s_getV (j := 4) dX0_move_64 hk18 (by decide) q593 ?_
          refine s_iload_n dX0_move_67 3 rfl ?_
          refine s_iload_n dX0_move_68 4 rfl ?_
          refine s_aload_n dX0_move_69 1 rfl ?_
          refine s_chk (fun hk21 => ?_)
          refine s_callV_I 0 (kX0_pairMany G n K hK p0 h16) (by decide) (by decide) dX0_move_70 hk21 rfl rfl q1155 q1157 qs46 q103 q1158 hyX0_pairMany rfl rfl (Nat.le_of_ble_eq_true rfl) (fun r19 h20 => ?_)
          refine s_aload_n dX0_move_73 1 rfl ?_
          refine s_chk (fun hk24 => ?_)
          refine s_callV_I 0 (kX0_peace G n K hK p0 h20) (by decide) (by decide) dX0_move_74 hk24 rfl rfl q1135 q1116 q1117 q103 q1118 hyX0_peace rfl rfl (Nat.le_of_ble_eq_true rfl) (fun r22 h23 => ?_)
          refine s_callI_V (kX13_init G n K hK h13.n p1 (h16.I a4 3) (h16.I a4 4) p2 p3 r19 r22 h23) (by decide) (by decide) dX0_move_77 q1159 q1160 q134 q1161 rfl hyX13_init rfl rfl (Nat.le_of_ble_eq_true rfl) (fun r25 h26 => ?_)
          refine s_astore [(5, .ref h13.n), (4, .ref a4), (0, .ref p0), (1, .int p1), (2, .int p2), (3, .int p3)] dX0_move_80 (by decide) (by decide) rfl ?_
          refine s_aload_n dX0_move_82 2 rfl ?_
          refine s_iload_n dX0_move_83 3 rfl ?_
          refine s_iload_n dX0_move_84 4 rfl ?_
          refine s_iload_n dX0_move_85 5 rfl ?_
          refine s_chk (fun hk29 => ?_)
          refine s_callV_V 0 (kX0_puts G n K hK p0 p1 p2 p3 h26) (by decide) (by decide) dX0_move_86 hk29 rfl rfl q1198 q1200 qs47 q103 q1201 hyX0_puts rfl rfl (Nat.le_of_ble_eq_true rfl) (fun r27 h28 => ?_)
          refine s_aload dX0_move_89 0 rfl (by decide) ?_
          refine s_aload_n dX0_move_91 2 rfl ?_
          refine s_chk (fun hk32 => ?_)
          refine s_callV_I 0 (kX0_pairMany G n K hK p0 h28) (by decide) (by decide) dX0_move_92 hk32 rfl rfl q1155 q1157 qs46 q103 q1158 hyX0_pairMany rfl rfl (Nat.le_of_ble_eq_true rfl) (fun r30 h31 => ?_)
          refine s_chk (fun hk33 => ?_)
          refine s_putN (j := 7) 13 (v := .int r30) dX0_move_95 hk33 rfl (by decide) q1177 (Or.inl rfl) rfl rfl rfl (Upd.i (fun _ => rfl)) ?_
          refine s_hl (fun h34 e35 => ?_)
          refine s_aload dX0_move_98 0 rfl (by decide) ?_
          refine s_aload_n dX0_move_100 2 rfl ?_
          refine s_chk (fun hk38 => ?_)
          refine s_callV_I 0 (kX0_peace G n K hK p0 h34) (by decide) (by decide) dX0_move_101 hk38 rfl rfl q1135 q1116 q1117 q103 q1118 hyX0_peace rfl rfl (Nat.le_of_ble_eq_true rfl) (fun r36 h37 => ?_)
          refine s_chk (fun hk39 => ?_)
          refine s_putN (j := 8) 13 (v := .int r36) dX0_move_104 hk39 rfl (by decide) q1178 (Or.inl rfl) rfl rfl rfl (Upd.i (fun _ => rfl)) ?_
          refine s_hl (fun h40 e41 => ?_)
          refine s_aload_n dX0_move_107 2 rfl ?_
          refine s_chk (fun hk42 => ?_)
          refine s_get (j := 4) 0 (va_rf (h40.R p0 4)) dX0_move_108 hk42 rfl (by decide) q237 (Or.inl rfl) rfl ?_
          refine s_aload dX0_move_111 0 rfl (by decide) ?_
          refine s_ob (r := h40.R p0 4) (fun z => [(5, .ref h13.n), (4, .ref a4), (0, .ref p0), (1, .int p1), (2, .int p2), (3, .int p3)]) (fun z => [.ref h13.n, z]) (fun a43 => ?_)
          refine s_chk (fun hk46 => ?_)
          refine s_callV_I 2 (kJ2_add G n K hK a43 (some h13.n) h40) (by decide) (by decide) dX0_move_113 hk46 rfl rfl q746 q642 q643 q107 q644 hyJ2_add rfl rfl (Nat.le_of_ble_eq_true rfl) (fun r44 h45 => ?_)
          refine s_pop dX0_move_116 rfl ?_
          refine s_aload_n dX0_move_117 2 rfl ?_
          refine s_chk (fun hk47 => ?_)
          refine s_get (j := 4) 0 (va_rf (h45.R p0 4)) dX0_move_118 hk47 rfl (by decide) q237 (Or.inl rfl) rfl ?_
          refine s_ob (r := h45.R p0 4) (fun z => [(5, .ref h13.n), (4, .ref a4), (0, .ref p0), (1, .int p1), (2, .int p2), (3, .int p3)]) (fun z => [z]) (fun a48 => ?_)
          refine s_chk (fun hk51 => ?_)
          refine s_callV_I 2 (kJ2_size G n K hK a48 h45) (by decide) (by decide) dX0_move_121 hk51 rfl rfl q732 q552 q553 q107 q554 hyJ2_size rfl rfl (Nat.le_of_ble_eq_true rfl) (fun r49 h50 => ?_)
          exact s_iret dX0_move_124 rfl rfl
        · refine s_iconst (-1 : Int32) dX0_move_50 (by decide) ?_
          exact s_iret dX0_move_51 rfl rfl
      refine s_icmp_ne 38 dX0_move_26 (by decide) (fun c53 => ?_) (fun c53 => ?_)
      · exact hj52
      · refine s_aload dX0_move_29 0 rfl (by decide) ?_
        refine s_getV (j := 4) dX0_move_31 hk8 (by decide) q593 ?_
        refine s_iload_n dX0_move_34 4 rfl ?_
        refine s_icmp_eq 50 dX0_move_35 (by decide) (fun c54 => ?_) (fun c54 => ?_)
        · refine s_iconst (-1 : Int32) dX0_move_50 (by decide) ?_
          exact s_iret dX0_move_51 rfl rfl
        · exact hj52
theorem hyJ2_fastRemove : yJ2_fastRemove.cls ≠ "java/lang/invoke/MethodHandle" ∧ yJ2_fastRemove.cls ≠ "java/lang/invoke/VarHandle" ∧ (parseMethodDescriptor yJ2_fastRemove.desc).map (fun d => d.parameters.length) = some 2 := by decide +kernel
theorem kJ2_fastRemove (G : Gl) (n : Nat) (K : Nat → Nat) (hK : K = G.ad) (p0 : Nat) (p1 : Option Nat) (p2 : Int32) (h : AH) : OkM G yJ2_fastRemove cJ2_fastRemove 4 none 1 cvV [.ref p0, va_rf p1, .int p2] h (F_J2_fastRemove n K p0 p1 p2 h) := by
  refine ok_of_sim [(0, .ref p0), (1, va_rf p1), (2, .int p2)] (by decide +kernel) (fun r => ⟨_, rfl⟩) (by simp [uns, lv_args, lg_sl, catI, catL, catA, va_rfc]) (by simp [uns, lv_args, lg_sl, catI, catL, catA, va_rfc]) (by simp [uns, lv_args, lg_sl, catI, catL, catA, va_rfc]) ?_
  unfold F_J2_fastRemove
  refine s_aload_n dJ2_fastRemove_0 0 rfl ?_
  refine s_dup dJ2_fastRemove_1 rfl ?_
  refine s_chk (fun hk1 => ?_)
  refine s_get (j := 0) 2 (.int (h.I p0 0)) dJ2_fastRemove_2 hk1 rfl (by decide) q166 (Or.inr q167) rfl ?_
  refine s_iconst (1 : Int32) dJ2_fastRemove_5 (by decide) ?_
  refine s_iadd dJ2_fastRemove_6 ?_
  refine s_put (j := 0) 2 (v := .int ((h.I p0 0) + (1 : Int32))) dJ2_fastRemove_7 hk1 rfl (by decide) q166 (Or.inr q167) rfl rfl rfl (Upd.i (fun _ => rfl)) ?_
  refine s_hl (fun h2 e3 => ?_)
  refine s_aload_n dJ2_fastRemove_10 0 rfl ?_
  refine s_get (j := 2) 2 (.int (h2.I p0 2)) dJ2_fastRemove_11 (show h2.kind p0 = 3 by rw [e3]; exact hk1) rfl (by decide) q164 (Or.inl rfl) rfl ?_
  refine s_iconst (1 : Int32) dJ2_fastRemove_14 (by decide) ?_
  refine s_isub dJ2_fastRemove_15 ?_
  refine s_dup dJ2_fastRemove_16 rfl ?_
  refine s_istore_n [(3, .int ((h2.I p0 2) - (1 : Int32))), (0, .ref p0), (1, va_rf p1), (2, .int p2)] dJ2_fastRemove_17 (by decide) (by decide) rfl ?_
  refine s_iload_n dJ2_fastRemove_18 3 rfl ?_
  refine s_jn (fun j5 => ∀ (h4 : AH), Sim G yJ2_fastRemove.cls yJ2_fastRemove.name cJ2_fastRemove 4 none 1 cvV 34 [(3, .int ((h2.I p0 2) - (1 : Int32))), (0, .ref p0), (1, va_rf p1)] [] h4 (j5 h4)) ?_ (fun j5 hj14 => ?_)
  · intro h4
    refine s_oload_n dJ2_fastRemove_34 2 rfl ?_
    refine s_aload_n dJ2_fastRemove_35 1 rfl ?_
    refine s_iload_n dJ2_fastRemove_36 0 rfl ?_
    refine s_dup_x1 dJ2_fastRemove_37 rfl rfl ?_
    refine s_chk (fun hk6 => ?_)
    refine s_put (j := 2) 2 (v := .int ((h2.I p0 2) - (1 : Int32))) dJ2_fastRemove_38 hk6 rfl (by decide) q164 (Or.inl rfl) rfl rfl rfl (Upd.i (fun _ => rfl)) ?_
    refine s_hl (fun h7 e8 => ?_)
    refine s_null dJ2_fastRemove_41 ?_
    refine s_ob (r := p1) (fun z => [(3, .int ((h2.I p0 2) - (1 : Int32))), (0, .ref p0), (1, z)]) (fun z => [va_rf none, .int ((h2.I p0 2) - (1 : Int32)), z]) (fun a9 => ?_)
    refine s_chk (fun hk10 => ?_)
    refine s_chk (fun hi11 => ?_)
    refine s_aastN dJ2_fastRemove_42 hk10 hi11 ?_
    refine s_hl (fun h12 e13 => ?_)
    exact s_vret dJ2_fastRemove_43 rfl rfl
  refine s_icmp_le 34 dJ2_fastRemove_19 (by decide) (fun c15 => ?_) (fun c15 => ?_)
  · refine s_sub [0, 1, 2] rfl ?_
    exact hj14 h2
  · refine s_oload_n dJ2_fastRemove_22 2 rfl ?_
    refine s_iload_n dJ2_fastRemove_23 3 rfl ?_
    refine s_iconst (1 : Int32) dJ2_fastRemove_24 (by decide) ?_
    refine s_iadd dJ2_fastRemove_25 ?_
    refine s_oload_n dJ2_fastRemove_26 2 rfl ?_
    refine s_iload_n dJ2_fastRemove_27 3 rfl ?_
    refine s_iload_n dJ2_fastRemove_28 0 rfl ?_
    refine s_iload_n dJ2_fastRemove_29 3 rfl ?_
    refine s_isub dJ2_fastRemove_30 ?_
    refine s_ob (r := p1) (fun z => [(3, .int ((h2.I p0 2) - (1 : Int32))), (0, .ref p0), (1, va_rf p1), (2, .int p2)]) (fun z => [.int (((h2.I p0 2) - (1 : Int32)) - p2), .int p2, z, .int (p2 + (1 : Int32)), z]) (fun a16 => ?_)
    refine s_chk (fun hk17 => ?_)
    refine s_chk (fun hc18 => ?_)
    refine s_chk (fun he19 => ?_)
    refine s_acopy dJ2_fastRemove_31 (by decide) q938 q695 q694 q127 hk17 hk17 hc18 he19 (Nat.le_of_ble_eq_true rfl) ?_
    refine s_hl (fun h20 e21 => ?_)
    refine s_sub [0, 1, 2] rfl ?_
    exact hj14 h20
theorem hyJ2_remove : yJ2_remove.cls ≠ "java/lang/invoke/MethodHandle" ∧ yJ2_remove.cls ≠ "java/lang/invoke/VarHandle" ∧ (parseMethodDescriptor yJ2_remove.desc).map (fun d => d.parameters.length) = some 1 := by decide +kernel
theorem kJ2_remove (G : Gl) (n : Nat) (K : Nat → Nat) (hK : K = G.ad) (p0 : Nat) (p1 : Int32) (h : AH) : OkM G yJ2_remove cJ2_remove 4 (some (.object "java/lang/Object")) 3 cvR [.ref p0, .int p1] h (F_J2_remove n K p0 p1 h) := by
  refine ok_of_sim [(0, .ref p0), (1, .int p1)] (by decide +kernel) (fun r => ⟨_, rfl⟩) (by simp [uns, lv_args, lg_sl, catI, catL, catA, va_rfc]) (by simp [uns, lv_args, lg_sl, catI, catL, catA, va_rfc]) (by simp [uns, lv_args, lg_sl, catI, catL, catA, va_rfc]) ?_
  unfold F_J2_remove
  refine s_iload_n dJ2_remove_0 1 rfl ?_
  refine s_aload_n dJ2_remove_1 0 rfl ?_
  refine s_chk (fun hk1 => ?_)
  refine s_get (j := 2) 2 (.int (h.I p0 2)) dJ2_remove_2 hk1 rfl (by decide) q164 (Or.inl rfl) rfl ?_
  refine s_callS_I (kJ14_checkIndex G n K hK p1 (h.I p0 2) h) (by decide) (by decide) dJ2_remove_5 q737 q738 q129 q739 hyJ14_checkIndex rfl rfl (Nat.le_of_ble_eq_true rfl) (fun r2 h3 => ?_)
  refine s_pop dJ2_remove_8 rfl ?_
  refine s_aload_n dJ2_remove_9 0 rfl ?_
  refine s_chk (fun hk4 => ?_)
  refine s_get (j := 1) 2 (va_rf (h3.R p0 1)) dJ2_remove_10 hk4 rfl (by decide) q163 (Or.inl rfl) rfl ?_
  refine s_ostore_n [(2, va_rf (h3.R p0 1)), (0, .ref p0), (1, .int p1)] dJ2_remove_13 (by decide) (by decide) rfl ?_
  refine s_oload_n dJ2_remove_14 0 rfl ?_
  refine s_iload_n dJ2_remove_15 2 rfl ?_
  refine s_ob (r := h3.R p0 1) (fun z => [(2, z), (0, .ref p0), (1, .int p1)]) (fun z => [.int p1, z]) (fun a5 => ?_)
  refine s_chk (fun hk6 => ?_)
  refine s_chk (fun hi7 => ?_)
  refine s_aald dJ2_remove_16 hk6 rfl rfl rfl hi7 ?_
  refine s_ostore_n [(3, va_rf (h3.R a5 (ix p1))), (2, .ref a5), (0, .ref p0), (1, .int p1)] dJ2_remove_17 (by decide) (by decide) rfl ?_
  refine s_aload_n dJ2_remove_18 2 rfl ?_
  refine s_aload_n dJ2_remove_19 1 rfl ?_
  refine s_iload_n dJ2_remove_20 3 rfl ?_
  refine s_callV_V 2 (kJ2_fastRemove G n K hK p0 (some a5) p1 h3) (by decide) (by decide) dJ2_remove_21 hk4 rfl rfl q1210 q1212 qs48 q107 q1213 hyJ2_fastRemove rfl rfl (Nat.le_of_ble_eq_true rfl) (fun r8 h9 => ?_)
  refine s_oload_n dJ2_remove_24 0 rfl ?_
  exact s_aret (v := (h3.R a5 (ix p1))) dJ2_remove_25 rfl (Or.inl ⟨_, rfl⟩) rfl
theorem hyX0_undo : yX0_undo.cls ≠ "java/lang/invoke/MethodHandle" ∧ yX0_undo.cls ≠ "java/lang/invoke/VarHandle" ∧ (parseMethodDescriptor yX0_undo.desc).map (fun d => d.parameters.length) = some 0 := by decide +kernel
theorem kX0_undo (G : Gl) (n : Nat) (K : Nat → Nat) (hK : K = G.ad) (p0 : Nat) (h : AH) : OkM G yX0_undo cX0_undo 2 (some .int) 5 cvI [.ref p0] h (F_X0_undo n K p0 h) := by
  refine ok_of_sim [(0, .ref p0)] (by decide +kernel) (fun r => ⟨_, rfl⟩) (by simp [uns, lv_args, lg_sl, catI, catL, catA, va_rfc]) (by simp [uns, lv_args, lg_sl, catI, catL, catA, va_rfc]) (by simp [uns, lv_args, lg_sl, catI, catL, catA, va_rfc]) ?_
  unfold F_X0_undo
  refine s_aload_n dX0_undo_0 0 rfl ?_
  refine s_chk (fun hk1 => ?_)
  refine s_get (j := 4) 0 (va_rf (h.R p0 4)) dX0_undo_1 hk1 rfl (by decide) q237 (Or.inl rfl) rfl ?_
  refine s_ob (r := h.R p0 4) (fun z => [(0, .ref p0)]) (fun z => [z]) (fun a2 => ?_)
  refine s_chk (fun hk5 => ?_)
  refine s_callV_I 2 (kJ2_isEmpty G n K hK a2 h) (by decide) (by decide) dX0_undo_4 hk5 rfl rfl q787 q723 q724 q107 q725 hyJ2_isEmpty rfl rfl (Nat.le_of_ble_eq_true rfl) (fun r3 h4 => ?_)
  refine s_if_eq 12 dX0_undo_7 (by decide) (fun c6 => ?_) (fun c6 => ?_)
  · refine s_aload_n dX0_undo_12 0 rfl ?_
    refine s_chk (fun hk7 => ?_)
    refine s_get (j := 4) 0 (va_rf (h4.R p0 4)) dX0_undo_13 hk7 rfl (by decide) q237 (Or.inl rfl) rfl ?_
    refine s_aload_n dX0_undo_16 0 rfl ?_
    refine s_get (j := 4) 0 (va_rf (h4.R p0 4)) dX0_undo_17 hk7 rfl (by decide) q237 (Or.inl rfl) rfl ?_
    refine s_ob (r := h4.R p0 4) (fun z => [(0, .ref p0)]) (fun z => [z, z]) (fun a8 => ?_)
    refine s_chk (fun hk11 => ?_)
    refine s_callV_I 2 (kJ2_size G n K hK a8 h4) (by decide) (by decide) dX0_undo_20 hk11 rfl rfl q732 q552 q553 q107 q554 hyJ2_size rfl rfl (Nat.le_of_ble_eq_true rfl) (fun r9 h10 => ?_)
    refine s_iconst (1 : Int32) dX0_undo_23 (by decide) ?_
    refine s_isub dX0_undo_24 ?_
    refine s_chk (fun hk14 => ?_)
    refine s_callV_R 2 (kJ2_remove G n K hK a8 (r9 - (1 : Int32)) h10) (by decide) (by decide) dX0_undo_25 hk14 rfl rfl q1206 q1207 q1208 q107 q1209 hyJ2_remove rfl rfl (Nat.le_of_ble_eq_true rfl) (fun r12 h13 => ?_)
    refine s_ob (r := r12) (fun z => [(0, .ref p0)]) (fun z => [z]) (fun a15 => ?_)
    refine s_chk (fun hk16 => ?_)
    refine s_cast 13 dX0_undo_28 hk16 rfl q1153 ?_
    refine s_astore_n [(1, .ref a15), (0, .ref p0)] dX0_undo_31 (by decide) (by decide) rfl ?_
    refine s_aload_n dX0_undo_32 1 rfl ?_
    refine s_aload_n dX0_undo_33 0 rfl ?_
    refine s_getN (j := 0) 13 (.int (h13.I a15 0)) dX0_undo_34 hk16 rfl (by decide) q1164 (Or.inl rfl) rfl ?_
    refine s_aload_n dX0_undo_37 0 rfl ?_
    refine s_getN (j := 1) 13 (.int (h13.I a15 1)) dX0_undo_38 hk16 rfl (by decide) q1166 (Or.inl rfl) rfl ?_
    refine s_aload_n dX0_undo_41 0 rfl ?_
    refine s_getN (j := 2) 13 (.int (h13.I a15 2)) dX0_undo_42 hk16 rfl (by decide) q1168 (Or.inl rfl) rfl ?_
    refine s_chk (fun hk19 => ?_)
    refine s_callV_V 0 (kX0_puts G n K hK p0 (h13.I a15 0) (h13.I a15 1) (h13.I a15 2) h13) (by decide) (by decide) dX0_undo_45 hk19 rfl rfl q1198 q1200 qs47 q103 q1201 hyX0_puts rfl rfl (Nat.le_of_ble_eq_true rfl) (fun r17 h18 => ?_)
    refine s_aload_n dX0_undo_48 0 rfl ?_
    refine s_chk (fun hk20 => ?_)
    refine s_getN (j := 0) 13 (.int (h18.I a15 0)) dX0_undo_49 hk20 rfl (by decide) q1164 (Or.inl rfl) rfl ?_
    exact s_iret dX0_undo_52 rfl rfl
  · refine s_iconst (-1 : Int32) dX0_undo_10 (by decide) ?_
    exact s_iret dX0_undo_11 rfl rfl
theorem hyX0_moved : yX0_moved.cls ≠ "java/lang/invoke/MethodHandle" ∧ yX0_moved.cls ≠ "java/lang/invoke/VarHandle" ∧ (parseMethodDescriptor yX0_moved.desc).map (fun d => d.parameters.length) = some 2 := by decide +kernel
theorem kX0_moved (G : Gl) (n : Nat) (K : Nat → Nat) (hK : K = G.ad) (p0 : Nat) (p1 : Int32) (p2 : Int32) (h : AH) : OkM G yX0_moved cX0_moved 4 (some .int) 4 cvI [.ref p0, .int p1, .int p2] h (F_X0_moved n K p0 p1 p2 h) := by
  refine ok_of_sim [(0, .ref p0), (1, .int p1), (2, .int p2)] (by decide +kernel) (fun r => ⟨_, rfl⟩) (by simp [uns, lv_args, lg_sl, catI, catL, catA, va_rfc]) (by simp [uns, lv_args, lg_sl, catI, catL, catA, va_rfc]) (by simp [uns, lv_args, lg_sl, catI, catL, catA, va_rfc]) ?_
  unfold F_X0_moved
  refine s_iload_n dX0_moved_0 1 rfl ?_
  refine s_iconst (0 : Int32) dX0_moved_1 (by decide) ?_
  refine s_aload_n dX0_moved_2 0 rfl ?_
  refine s_chk (fun hk1 => ?_)
  refine s_get (j := 4) 0 (va_rf (h.R p0 4)) dX0_moved_3 hk1 rfl (by decide) q237 (Or.inl rfl) rfl ?_
  refine s_ob (r := h.R p0 4) (fun z => [(0, .ref p0), (1, .int p1), (2, .int p2)]) (fun z => [z, .int (0 : Int32), .int p1]) (fun a2 => ?_)
  refine s_chk (fun hk5 => ?_)
  refine s_callV_I 2 (kJ2_size G n K hK a2 h) (by decide) (by decide) dX0_moved_6 hk5 rfl rfl q732 q552 q553 q107 q554 hyJ2_size rfl rfl (Nat.le_of_ble_eq_true rfl) (fun r3 h4 => ?_)
  refine s_iconst (1 : Int32) dX0_moved_9 (by decide) ?_
  refine s_isub dX0_moved_10 ?_
  refine s_callS_I (kX0_in G n K hK p1 (0 : Int32) (r3 - (1 : Int32)) h4) (by decide) (by decide) dX0_moved_11 q335 q336 q103 q337 hyX0_in rfl rfl (Nat.le_of_ble_eq_true rfl) (fun r6 h7 => ?_)
  refine s_if_ne 19 dX0_moved_14 (by decide) (fun c8 => ?_) (fun c8 => ?_)
  · refine s_aload_n dX0_moved_19 0 rfl ?_
    refine s_chk (fun hk9 => ?_)
    refine s_get (j := 4) 0 (va_rf (h7.R p0 4)) dX0_moved_20 hk9 rfl (by decide) q237 (Or.inl rfl) rfl ?_
    refine s_iload_n dX0_moved_23 1 rfl ?_
    refine s_ob (r := h7.R p0 4) (fun z => [(0, .ref p0), (1, .int p1), (2, .int p2)]) (fun z => [.int p1, z]) (fun a10 => ?_)
    refine s_chk (fun hk13 => ?_)
    refine s_callV_R 2 (kJ2_get G n K hK a10 p1 h7) (by decide) (by decide) dX0_moved_24 hk13 rfl rfl q733 q734 q735 q107 q736 hyJ2_get rfl rfl (Nat.le_of_ble_eq_true rfl) (fun r11 h12 => ?_)
    refine s_ob (r := r11) (fun z => [(0, .ref p0), (1, .int p1), (2, .int p2)]) (fun z => [z]) (fun a14 => ?_)
    refine s_chk (fun hk15 => ?_)
    refine s_cast 13 dX0_moved_27 hk15 rfl q1153 ?_
    refine s_astore_n [(3, .ref a14), (0, .ref p0), (1, .int p1), (2, .int p2)] dX0_moved_30 (by decide) (by decide) rfl ?_
    refine s_iload_n dX0_moved_31 3 rfl ?_
    refine s_ite (fun c16 => ?_) (fun c16 => ?_)
    · refine s_tblIn (0 : Int32) 84 c16 dX0_moved_32 (by decide) (by decide) rfl (by decide) ?_
      refine s_aload_n dX0_moved_84 0 rfl ?_
      refine s_getN (j := 0) 13 (.int (h12.I a14 0)) dX0_moved_85 hk15 rfl (by decide) q1164 (Or.inl rfl) rfl ?_
      exact s_iret dX0_moved_88 rfl rfl
    refine s_ite (fun c17 => ?_) (fun c17 => ?_)
    · refine s_tblIn (1 : Int32) 89 c17 dX0_moved_32 (by decide) (by decide) rfl (by decide) ?_
      refine s_aload_n dX0_moved_89 0 rfl ?_
      refine s_getN (j := 1) 13 (.int (h12.I a14 1)) dX0_moved_90 hk15 rfl (by decide) q1166 (Or.inl rfl) rfl ?_
      exact s_iret dX0_moved_93 rfl rfl
    refine s_ite (fun c18 => ?_) (fun c18 => ?_)
    · refine s_tblIn (2 : Int32) 94 c18 dX0_moved_32 (by decide) (by decide) rfl (by decide) ?_
      refine s_aload_n dX0_moved_94 0 rfl ?_
      refine s_getN (j := 2) 13 (.int (h12.I a14 2)) dX0_moved_95 hk15 rfl (by decide) q1168 (Or.inl rfl) rfl ?_
      exact s_iret dX0_moved_98 rfl rfl
    refine s_ite (fun c19 => ?_) (fun c19 => ?_)
    · refine s_tblIn (3 : Int32) 99 c19 dX0_moved_32 (by decide) (by decide) rfl (by decide) ?_
      refine s_aload_n dX0_moved_99 0 rfl ?_
      refine s_getN (j := 3) 13 (.int (h12.I a14 3)) dX0_moved_100 hk15 rfl (by decide) q1170 (Or.inl rfl) rfl ?_
      exact s_iret dX0_moved_103 rfl rfl
    refine s_ite (fun c20 => ?_) (fun c20 => ?_)
    · refine s_tblIn (4 : Int32) 104 c20 dX0_moved_32 (by decide) (by decide) rfl (by decide) ?_
      refine s_aload_n dX0_moved_104 0 rfl ?_
      refine s_getN (j := 4) 13 (.int (h12.I a14 4)) dX0_moved_105 hk15 rfl (by decide) q1172 (Or.inl rfl) rfl ?_
      exact s_iret dX0_moved_108 rfl rfl
    refine s_ite (fun c21 => ?_) (fun c21 => ?_)
    · refine s_tblIn (5 : Int32) 109 c21 dX0_moved_32 (by decide) (by decide) rfl (by decide) ?_
      refine s_aload_n dX0_moved_109 0 rfl ?_
      refine s_getN (j := 5) 13 (.int (h12.I a14 5)) dX0_moved_110 hk15 rfl (by decide) q1174 (Or.inl rfl) rfl ?_
      exact s_iret dX0_moved_113 rfl rfl
    refine s_ite (fun c22 => ?_) (fun c22 => ?_)
    · refine s_tblIn (6 : Int32) 114 c22 dX0_moved_32 (by decide) (by decide) rfl (by decide) ?_
      refine s_aload_n dX0_moved_114 0 rfl ?_
      refine s_getN (j := 7) 13 (.int (h12.I a14 7)) dX0_moved_115 hk15 rfl (by decide) q1177 (Or.inl rfl) rfl ?_
      exact s_iret dX0_moved_118 rfl rfl
    refine s_ite (fun c23 => ?_) (fun c23 => ?_)
    · refine s_tblIn (7 : Int32) 119 c23 dX0_moved_32 (by decide) (by decide) rfl (by decide) ?_
      refine s_aload_n dX0_moved_119 0 rfl ?_
      refine s_getN (j := 6) 13 (.int (h12.I a14 6)) dX0_moved_120 hk15 rfl (by decide) q1176 (Or.inl rfl) rfl ?_
      exact s_iret dX0_moved_123 rfl rfl
    refine s_ite (fun c24 => ?_) (fun c24 => ?_)
    · refine s_tblIn (8 : Int32) 124 c24 dX0_moved_32 (by decide) (by decide) rfl (by decide) ?_
      refine s_aload_n dX0_moved_124 0 rfl ?_
      refine s_getN (j := 8) 13 (.int (h12.I a14 8)) dX0_moved_125 hk15 rfl (by decide) q1178 (Or.inl rfl) rfl ?_
      exact s_iret dX0_moved_128 rfl rfl
    have zc16 := lv_neT c16 (a := 0) rfl
    have zc17 := lv_neT c17 (a := 1) rfl
    have zc18 := lv_neT c18 (a := 2) rfl
    have zc19 := lv_neT c19 (a := 3) rfl
    have zc20 := lv_neT c20 (a := 4) rfl
    have zc21 := lv_neT c21 (a := 5) rfl
    have zc22 := lv_neT c22 (a := 6) rfl
    have zc23 := lv_neT c23 (a := 7) rfl
    have zc24 := lv_neT c24 (a := 8) rfl
    refine s_tblOut 129 dX0_moved_32 (by omega) (by decide) ?_
    refine s_iconst (-1 : Int32) dX0_moved_129 (by decide) ?_
    exact s_iret dX0_moved_130 rfl rfl
  · refine s_iconst (-1 : Int32) dX0_moved_17 (by decide) ?_
    exact s_iret dX0_moved_18 rfl rfl
theorem hyX0_count : yX0_count.cls ≠ "java/lang/invoke/MethodHandle" ∧ yX0_count.cls ≠ "java/lang/invoke/VarHandle" ∧ (parseMethodDescriptor yX0_count.desc).map (fun d => d.parameters.length) = some 1 := by decide +kernel
theorem kX0_count (G : Gl) (n : Nat) (K : Nat → Nat) (hK : K = G.ad) (p0 : Nat) (p1 : Int32) (h : AH) : OkM G yX0_count cX0_count 2 (some .int) 9 cvI [.ref p0, .int p1] h (F_X0_count n K p0 p1 h) := by
  refine ok_of_sim [(0, .ref p0), (1, .int p1)] (by decide +kernel) (fun r => ⟨_, rfl⟩) (by simp [uns, lv_args, lg_sl, catI, catL, catA, va_rfc]) (by simp [uns, lv_args, lg_sl, catI, catL, catA, va_rfc]) (by simp [uns, lv_args, lg_sl, catI, catL, catA, va_rfc]) ?_
  unfold F_X0_count
  refine s_iload_n dX0_count_0 1 rfl ?_
  refine s_ite (fun c1 => ?_) (fun c1 => ?_)
  · refine s_tblIn (0 : Int32) 40 c1 dX0_count_1 (by decide) (by decide) rfl (by decide) ?_
    refine s_aload_n dX0_count_40 0 rfl ?_
    refine s_chk (fun hk2 => ?_)
    refine s_get (j := 2) 0 (va_rf (h.R p0 2)) dX0_count_41 hk2 rfl (by decide) q235 (Or.inl rfl) rfl ?_
    refine s_ob (r := h.R p0 2) (fun z => [(0, .ref p0), (1, .int p1)]) (fun z => [z]) (fun a3 => ?_)
    refine s_chk (fun hk6 => ?_)
    refine s_callV_I 2 (kJ2_size G n K hK a3 h) (by decide) (by decide) dX0_count_44 hk6 rfl rfl q732 q552 q553 q107 q554 hyJ2_size rfl rfl (Nat.le_of_ble_eq_true rfl) (fun r4 h5 => ?_)
    exact s_iret dX0_count_47 rfl rfl
  refine s_ite (fun c7 => ?_) (fun c7 => ?_)
  · refine s_tblIn (1 : Int32) 48 c7 dX0_count_1 (by decide) (by decide) rfl (by decide) ?_
    refine s_aload_n dX0_count_48 0 rfl ?_
    refine s_chk (fun hk8 => ?_)
    refine s_get (j := 3) 0 (va_rf (h.R p0 3)) dX0_count_49 hk8 rfl (by decide) q236 (Or.inl rfl) rfl ?_
    refine s_ob (r := h.R p0 3) (fun z => [(0, .ref p0), (1, .int p1)]) (fun z => [z]) (fun a9 => ?_)
    refine s_chk (fun hk12 => ?_)
    refine s_callV_I 2 (kJ2_size G n K hK a9 h) (by decide) (by decide) dX0_count_52 hk12 rfl rfl q732 q552 q553 q107 q554 hyJ2_size rfl rfl (Nat.le_of_ble_eq_true rfl) (fun r10 h11 => ?_)
    exact s_iret dX0_count_55 rfl rfl
  refine s_ite (fun c13 => ?_) (fun c13 => ?_)
  · refine s_tblIn (2 : Int32) 56 c13 dX0_count_1 (by decide) (by decide) rfl (by decide) ?_
    refine s_aload_n dX0_count_56 0 rfl ?_
    refine s_chk (fun hk14 => ?_)
    refine s_get (j := 7) 0 (.int (h.I p0 7)) dX0_count_57 hk14 rfl (by decide) q240 (Or.inl rfl) rfl ?_
    exact s_iret dX0_count_60 rfl rfl
  refine s_ite (fun c15 => ?_) (fun c15 => ?_)
  · refine s_tblIn (3 : Int32) 61 c15 dX0_count_1 (by decide) (by decide) rfl (by decide) ?_
    refine s_aload_n dX0_count_61 0 rfl ?_
    refine s_chk (fun hk16 => ?_)
    refine s_get (j := 4) 0 (va_rf (h.R p0 4)) dX0_count_62 hk16 rfl (by decide) q237 (Or.inl rfl) rfl ?_
    refine s_ob (r := h.R p0 4) (fun z => [(0, .ref p0), (1, .int p1)]) (fun z => [z]) (fun a17 => ?_)
    refine s_chk (fun hk20 => ?_)
    refine s_callV_I 2 (kJ2_size G n K hK a17 h) (by decide) (by decide) dX0_count_65 hk20 rfl rfl q732 q552 q553 q107 q554 hyJ2_size rfl rfl (Nat.le_of_ble_eq_true rfl) (fun r18 h19 => ?_)
    exact s_iret dX0_count_68 rfl rfl
  refine s_ite (fun c21 => ?_) (fun c21 => ?_)
  · refine s_tblIn (4 : Int32) 69 c21 dX0_count_1 (by decide) (by decide) rfl (by decide) ?_
    refine s_aload_n dX0_count_69 0 rfl ?_
    refine s_chk (fun hk22 => ?_)
    refine s_get (j := 6) 0 (.int (h.I p0 6)) dX0_count_70 hk22 rfl (by decide) q239 (Or.inl rfl) rfl ?_
    exact s_iret dX0_count_73 rfl rfl
  refine s_ite (fun c23 => ?_) (fun c23 => ?_)
  · refine s_tblIn (5 : Int32) 74 c23 dX0_count_1 (by decide) (by decide) rfl (by decide) ?_
    refine s_aload_n dX0_count_74 0 rfl ?_
    refine s_chk (fun hk26 => ?_)
    refine s_callV_I 0 (kX0_pairMany G n K hK p0 h) (by decide) (by decide) dX0_count_75 hk26 rfl rfl q1155 q1157 qs46 q103 q1158 hyX0_pairMany rfl rfl (Nat.le_of_ble_eq_true rfl) (fun r24 h25 => ?_)
    exact s_iret dX0_count_78 rfl rfl
  have zc1 := lv_neT c1 (a := 0) rfl
  have zc7 := lv_neT c7 (a := 1) rfl
  have zc13 := lv_neT c13 (a := 2) rfl
  have zc15 := lv_neT c15 (a := 3) rfl
  have zc21 := lv_neT c21 (a := 4) rfl
  have zc23 := lv_neT c23 (a := 5) rfl
  refine s_tblOut 79 dX0_count_1 (by omega) (by decide) ?_
  refine s_iconst (-1 : Int32) dX0_count_79 (by decide) ?_
  exact s_iret dX0_count_80 rfl rfl
theorem hyX3_init : yX3_init.cls ≠ "java/lang/invoke/MethodHandle" ∧ yX3_init.cls ≠ "java/lang/invoke/VarHandle" ∧ (parseMethodDescriptor yX3_init.desc).map (fun d => d.parameters.length) = some 0 := by decide +kernel
theorem kX3_init (G : Gl) (n : Nat) (K : Nat → Nat) (hK : K = G.ad) (p0 : Nat) (h : AH) : OkM G yX3_init cX3_init 1 none 1 cvV [.ref p0] h (F_X3_init n K p0 h) := by
  refine ok_of_sim [(0, .ref p0)] (by decide +kernel) (fun r => ⟨_, rfl⟩) (by simp [uns, lv_args, lg_sl, catI, catL, catA, va_rfc]) (by simp [uns, lv_args, lg_sl, catI, catL, catA, va_rfc]) (by simp [uns, lv_args, lg_sl, catI, catL, catA, va_rfc]) ?_
  unfold F_X3_init
  refine s_aload_n dX3_init_0 0 rfl ?_
  refine s_objInit dX3_init_1 q1227 q141 q142 (by decide) (Nat.le_of_ble_eq_true rfl) ?_
  refine s_aload_n dX3_init_4 0 rfl ?_
  refine s_sipush (600 : Int32) dX3_init_5 (by decide) ?_
  refine s_chk (fun hn1 => ?_)
  refine s_newa 31 dX3_init_8 rfl (by decide) rfl rfl q175 hn1.1 (nab31 hn1) ?_
  refine s_hl (fun h2 e3 => ?_)
  refine s_chk (fun hk4 => ?_)
  refine s_putF (j := 0) 4 (v := va_rf (some h.n)) dX3_init_10 hk4 rfl (by decide) q1237 (Or.inl rfl) rfl rfl rfl rfl rfl (Upd.r (fun _ => rfl)) ?_
  refine s_hl (fun h5 e6 => ?_)
  refine s_aload_n dX3_init_13 0 rfl ?_
  refine s_iconst (2 : Int32) dX3_init_14 (by decide) ?_
  refine s_bipush (15 : Int32) dX3_init_15 (by decide) ?_
  refine s_multiI dX3_init_17 q1228 (by decide) (by decide) ?_
  refine s_hl (fun h7 e8 => ?_)
  refine s_chk (fun hk9 => ?_)
  refine s_putF (j := 6) 4 (v := va_rf (some h5.n)) dX3_init_21 hk9 rfl (by decide) q1243 (Or.inl rfl) rfl rfl rfl rfl rfl (Upd.r (fun _ => rfl)) ?_
  refine s_hl (fun h10 e11 => ?_)
  refine s_aload_n dX3_init_24 0 rfl ?_
  refine s_iconst (2 : Int32) dX3_init_25 (by decide) ?_
  refine s_bipush (15 : Int32) dX3_init_26 (by decide) ?_
  refine s_multiI dX3_init_28 q1228 (by decide) (by decide) ?_
  refine s_hl (fun h12 e13 => ?_)
  refine s_chk (fun hk14 => ?_)
  refine s_putF (j := 7) 4 (v := va_rf (some h10.n)) dX3_init_32 hk14 rfl (by decide) q1244 (Or.inl rfl) rfl rfl rfl rfl rfl (Upd.r (fun _ => rfl)) ?_
  refine s_hl (fun h15 e16 => ?_)
  refine s_aload_n dX3_init_35 0 rfl ?_
  refine s_iconst (2 : Int32) dX3_init_36 (by decide) ?_
  refine s_bipush (15 : Int32) dX3_init_37 (by decide) ?_
  refine s_multiI dX3_init_39 q1228 (by decide) (by decide) ?_
  refine s_hl (fun h17 e18 => ?_)
  refine s_chk (fun hk19 => ?_)
  refine s_putF (j := 8) 4 (v := va_rf (some h15.n)) dX3_init_43 hk19 rfl (by decide) q1245 (Or.inl rfl) rfl rfl rfl rfl rfl (Upd.r (fun _ => rfl)) ?_
  refine s_hl (fun h20 e21 => ?_)
  refine s_aload_n dX3_init_46 0 rfl ?_
  refine s_iconst (2 : Int32) dX3_init_47 (by decide) ?_
  refine s_bipush (15 : Int32) dX3_init_48 (by decide) ?_
  refine s_multiI dX3_init_50 q1228 (by decide) (by decide) ?_
  refine s_hl (fun h22 e23 => ?_)
  refine s_chk (fun hk24 => ?_)
  refine s_putF (j := 9) 4 (v := va_rf (some h20.n)) dX3_init_54 hk24 rfl (by decide) q1246 (Or.inl rfl) rfl rfl rfl rfl rfl (Upd.r (fun _ => rfl)) ?_
  refine s_hl (fun h25 e26 => ?_)
  refine s_aload_n dX3_init_57 0 rfl ?_
  refine s_iconst (2 : Int32) dX3_init_58 (by decide) ?_
  refine s_bipush (15 : Int32) dX3_init_59 (by decide) ?_
  refine s_multiI dX3_init_61 q1228 (by decide) (by decide) ?_
  refine s_hl (fun h27 e28 => ?_)
  refine s_chk (fun hk29 => ?_)
  refine s_putF (j := 10) 4 (v := va_rf (some h25.n)) dX3_init_65 hk29 rfl (by decide) q1247 (Or.inl rfl) rfl rfl rfl rfl rfl (Upd.r (fun _ => rfl)) ?_
  refine s_hl (fun h30 e31 => ?_)
  refine s_aload_n dX3_init_68 0 rfl ?_
  refine s_iconst (2 : Int32) dX3_init_69 (by decide) ?_
  refine s_bipush (15 : Int32) dX3_init_70 (by decide) ?_
  refine s_multiI dX3_init_72 q1228 (by decide) (by decide) ?_
  refine s_hl (fun h32 e33 => ?_)
  refine s_chk (fun hk34 => ?_)
  refine s_putF (j := 11) 4 (v := va_rf (some h30.n)) dX3_init_76 hk34 rfl (by decide) q1248 (Or.inl rfl) rfl rfl rfl rfl rfl (Upd.r (fun _ => rfl)) ?_
  refine s_hl (fun h35 e36 => ?_)
  refine s_aload_n dX3_init_79 0 rfl ?_
  refine s_iconst (2 : Int32) dX3_init_80 (by decide) ?_
  refine s_bipush (20 : Int32) dX3_init_81 (by decide) ?_
  refine s_multiI dX3_init_83 q1228 (by decide) (by decide) ?_
  refine s_hl (fun h37 e38 => ?_)
  refine s_chk (fun hk39 => ?_)
  refine s_putF (j := 12) 4 (v := va_rf (some h35.n)) dX3_init_87 hk39 rfl (by decide) q1249 (Or.inl rfl) rfl rfl rfl rfl rfl (Upd.r (fun _ => rfl)) ?_
  refine s_hl (fun h40 e41 => ?_)
  refine s_aload_n dX3_init_90 0 rfl ?_
  refine s_iconst (2 : Int32) dX3_init_91 (by decide) ?_
  refine s_bipush (20 : Int32) dX3_init_92 (by decide) ?_
  refine s_multiI dX3_init_94 q1228 (by decide) (by decide) ?_
  refine s_hl (fun h42 e43 => ?_)
  refine s_chk (fun hk44 => ?_)
  refine s_putF (j := 13) 4 (v := va_rf (some h40.n)) dX3_init_98 hk44 rfl (by decide) q1250 (Or.inl rfl) rfl rfl rfl rfl rfl (Upd.r (fun _ => rfl)) ?_
  refine s_hl (fun h45 e46 => ?_)
  refine s_aload_n dX3_init_101 0 rfl ?_
  refine s_iconst (2 : Int32) dX3_init_102 (by decide) ?_
  refine s_chk (fun hn47 => ?_)
  refine s_newa 32 dX3_init_103 rfl (by decide) rfl rfl q321 hn47.1 (nab32 hn47) ?_
  refine s_hl (fun h48 e49 => ?_)
  refine s_chk (fun hk50 => ?_)
  refine s_putF (j := 14) 4 (v := va_rf (some h45.n)) dX3_init_105 hk50 rfl (by decide) q1251 (Or.inl rfl) rfl rfl rfl rfl rfl (Upd.r (fun _ => rfl)) ?_
  refine s_hl (fun h51 e52 => ?_)
  refine s_aload_n dX3_init_108 0 rfl ?_
  refine s_iconst (2 : Int32) dX3_init_109 (by decide) ?_
  refine s_chk (fun hn53 => ?_)
  refine s_newa 32 dX3_init_110 rfl (by decide) rfl rfl q321 hn53.1 (nab32 hn53) ?_
  refine s_hl (fun h54 e55 => ?_)
  refine s_chk (fun hk56 => ?_)
  refine s_putF (j := 15) 4 (v := va_rf (some h51.n)) dX3_init_112 hk56 rfl (by decide) q1252 (Or.inl rfl) rfl rfl rfl rfl rfl (Upd.r (fun _ => rfl)) ?_
  refine s_hl (fun h57 e58 => ?_)
  refine s_aload_n dX3_init_115 0 rfl ?_
  refine s_iconst (2 : Int32) dX3_init_116 (by decide) ?_
  refine s_chk (fun hn59 => ?_)
  refine s_newa 32 dX3_init_117 rfl (by decide) rfl rfl q321 hn59.1 (nab32 hn59) ?_
  refine s_hl (fun h60 e61 => ?_)
  refine s_chk (fun hk62 => ?_)
  refine s_putF (j := 16) 4 (v := va_rf (some h57.n)) dX3_init_119 hk62 rfl (by decide) q1253 (Or.inl rfl) rfl rfl rfl rfl rfl (Upd.r (fun _ => rfl)) ?_
  refine s_hl (fun h63 e64 => ?_)
  refine s_aload_n dX3_init_122 0 rfl ?_
  refine s_iconst (2 : Int32) dX3_init_123 (by decide) ?_
  refine s_chk (fun hn65 => ?_)
  refine s_newa 32 dX3_init_124 rfl (by decide) rfl rfl q321 hn65.1 (nab32 hn65) ?_
  refine s_hl (fun h66 e67 => ?_)
  refine s_chk (fun hk68 => ?_)
  refine s_putF (j := 17) 4 (v := va_rf (some h63.n)) dX3_init_126 hk68 rfl (by decide) q1254 (Or.inl rfl) rfl rfl rfl rfl rfl (Upd.r (fun _ => rfl)) ?_
  refine s_hl (fun h69 e70 => ?_)
  refine s_aload_n dX3_init_129 0 rfl ?_
  refine s_iconst (2 : Int32) dX3_init_130 (by decide) ?_
  refine s_chk (fun hn71 => ?_)
  refine s_newa 32 dX3_init_131 rfl (by decide) rfl rfl q321 hn71.1 (nab32 hn71) ?_
  refine s_hl (fun h72 e73 => ?_)
  refine s_chk (fun hk74 => ?_)
  refine s_putF (j := 18) 4 (v := va_rf (some h69.n)) dX3_init_133 hk74 rfl (by decide) q1255 (Or.inl rfl) rfl rfl rfl rfl rfl (Upd.r (fun _ => rfl)) ?_
  refine s_hl (fun h75 e76 => ?_)
  refine s_aload_n dX3_init_136 0 rfl ?_
  refine s_iconst (4 : Int32) dX3_init_137 (by decide) ?_
  refine s_chk (fun hn77 => ?_)
  refine s_anewS dX3_init_138 q1229 hn77 ?_
  refine s_hl (fun h78 e79 => ?_)
  refine s_dup dX3_init_141 rfl ?_
  refine s_iconst (0 : Int32) dX3_init_142 (by decide) ?_
  refine s_ldcS dX3_init_143 4 rfl hK ?_
  refine s_chk (fun hk80 => ?_)
  refine s_chk (fun hk81 => ?_)
  refine s_chk (fun hi82 => ?_)
  refine s_aastS dX3_init_145 hk80 hi82 hk81 ?_
  refine s_hl (fun h83 e84 => ?_)
  refine s_dup dX3_init_146 rfl ?_
  refine s_iconst (1 : Int32) dX3_init_147 (by decide) ?_
  refine s_ldcS dX3_init_148 5 rfl hK ?_
  refine s_chk (fun hk85 => ?_)
  refine s_chk (fun hi86 => ?_)
  refine s_aastS dX3_init_150 (show h83.kind h75.n = 37 by rw [e84]; exact hk80) hi86 hk85 ?_
  refine s_hl (fun h87 e88 => ?_)
  refine s_dup dX3_init_151 rfl ?_
  refine s_iconst (2 : Int32) dX3_init_152 (by decide) ?_
  refine s_ldcS dX3_init_153 6 rfl hK ?_
  refine s_chk (fun hk89 => ?_)
  refine s_chk (fun hi90 => ?_)
  refine s_aastS dX3_init_155 (show h87.kind h75.n = 37 by rw [e88, e84]; exact hk80) hi90 hk89 ?_
  refine s_hl (fun h91 e92 => ?_)
  refine s_dup dX3_init_156 rfl ?_
  refine s_iconst (3 : Int32) dX3_init_157 (by decide) ?_
  refine s_ldcS dX3_init_158 7 rfl hK ?_
  refine s_chk (fun hk93 => ?_)
  refine s_chk (fun hi94 => ?_)
  refine s_aastS dX3_init_160 (show h91.kind h75.n = 37 by rw [e92, e88, e84]; exact hk80) hi94 hk93 ?_
  refine s_hl (fun h95 e96 => ?_)
  refine s_chk (fun hk97 => ?_)
  refine s_putF (j := 23) 4 (v := va_rf (some h75.n)) dX3_init_161 hk97 rfl (by decide) q1260 (Or.inl rfl) rfl rfl rfl rfl rfl (Upd.r (fun _ => rfl)) ?_
  refine s_hl (fun h98 e99 => ?_)
  refine s_aload_n dX3_init_164 0 rfl ?_
  refine s_bipush (105 : Int32) dX3_init_165 (by decide) ?_
  refine s_chk (fun hn100 => ?_)
  refine s_newa 32 dX3_init_167 rfl (by decide) rfl rfl q321 hn100.1 (nab32 hn100) ?_
  refine s_hl (fun h101 e102 => ?_)
  refine s_chk (fun hk103 => ?_)
  refine s_putF (j := 24) 4 (v := va_rf (some h98.n)) dX3_init_169 hk103 rfl (by decide) q1261 (Or.inl rfl) rfl rfl rfl rfl rfl (Upd.r (fun _ => rfl)) ?_
  refine s_hl (fun h104 e105 => ?_)
  refine s_aload_n dX3_init_172 0 rfl ?_
  refine s_bipush (105 : Int32) dX3_init_173 (by decide) ?_
  refine s_chk (fun hn106 => ?_)
  refine s_newa 32 dX3_init_175 rfl (by decide) rfl rfl q321 hn106.1 (nab32 hn106) ?_
  refine s_hl (fun h107 e108 => ?_)
  refine s_chk (fun hk109 => ?_)
  refine s_putF (j := 25) 4 (v := va_rf (some h104.n)) dX3_init_177 hk109 rfl (by decide) q1262 (Or.inl rfl) rfl rfl rfl rfl rfl (Upd.r (fun _ => rfl)) ?_
  refine s_hl (fun h110 e111 => ?_)
  refine s_aload_n dX3_init_180 0 rfl ?_
  refine s_bipush (105 : Int32) dX3_init_181 (by decide) ?_
  refine s_chk (fun hn112 => ?_)
  refine s_newa 32 dX3_init_183 rfl (by decide) rfl rfl q321 hn112.1 (nab32 hn112) ?_
  refine s_hl (fun h113 e114 => ?_)
  refine s_chk (fun hk115 => ?_)
  refine s_putF (j := 26) 4 (v := va_rf (some h110.n)) dX3_init_185 hk115 rfl (by decide) q1263 (Or.inl rfl) rfl rfl rfl rfl rfl (Upd.r (fun _ => rfl)) ?_
  refine s_hl (fun h116 e117 => ?_)
  refine s_aload_n dX3_init_188 0 rfl ?_
  refine s_sipush (5600 : Int32) dX3_init_189 (by decide) ?_
  refine s_chk (fun hn118 => ?_)
  refine s_newa 33 dX3_init_192 rfl (by decide) rfl rfl q322 hn118.1 (nab33 hn118) ?_
  refine s_hl (fun h119 e120 => ?_)
  refine s_chk (fun hk121 => ?_)
  refine s_putF (j := 30) 4 (v := va_rf (some h116.n)) dX3_init_194 hk121 rfl (by decide) q1267 (Or.inl rfl) rfl rfl rfl rfl rfl (Upd.r (fun _ => rfl)) ?_
  refine s_hl (fun h122 e123 => ?_)
  refine s_aload_n dX3_init_197 0 rfl ?_
  refine s_sipush (5600 : Int32) dX3_init_198 (by decide) ?_
  refine s_chk (fun hn124 => ?_)
  refine s_newa 33 dX3_init_201 rfl (by decide) rfl rfl q322 hn124.1 (nab33 hn124) ?_
  refine s_hl (fun h125 e126 => ?_)
  refine s_chk (fun hk127 => ?_)
  refine s_putF (j := 31) 4 (v := va_rf (some h122.n)) dX3_init_203 hk127 rfl (by decide) q1268 (Or.inl rfl) rfl rfl rfl rfl rfl (Upd.r (fun _ => rfl)) ?_
  refine s_hl (fun h128 e129 => ?_)
  refine s_aload_n dX3_init_206 0 rfl ?_
  refine s_sipush (5600 : Int32) dX3_init_207 (by decide) ?_
  refine s_chk (fun hn130 => ?_)
  refine s_newa 33 dX3_init_210 rfl (by decide) rfl rfl q322 hn130.1 (nab33 hn130) ?_
  refine s_hl (fun h131 e132 => ?_)
  refine s_chk (fun hk133 => ?_)
  refine s_putF (j := 32) 4 (v := va_rf (some h128.n)) dX3_init_212 hk133 rfl (by decide) q1269 (Or.inl rfl) rfl rfl rfl rfl rfl (Upd.r (fun _ => rfl)) ?_
  refine s_hl (fun h134 e135 => ?_)
  refine s_aload_n dX3_init_215 0 rfl ?_
  refine s_sipush (10000 : Int32) dX3_init_216 (by decide) ?_
  refine s_chk (fun hn136 => ?_)
  refine s_newa 32 dX3_init_219 rfl (by decide) rfl rfl q321 hn136.1 (nab32 hn136) ?_
  refine s_hl (fun h137 e138 => ?_)
  refine s_chk (fun hk139 => ?_)
  refine s_putF (j := 35) 4 (v := va_rf (some h134.n)) dX3_init_221 hk139 rfl (by decide) q1272 (Or.inl rfl) rfl rfl rfl rfl rfl (Upd.r (fun _ => rfl)) ?_
  refine s_hl (fun h140 e141 => ?_)
  refine s_aload_n dX3_init_224 0 rfl ?_
  refine s_sipush (10000 : Int32) dX3_init_225 (by decide) ?_
  refine s_chk (fun hn142 => ?_)
  refine s_newa 32 dX3_init_228 rfl (by decide) rfl rfl q321 hn142.1 (nab32 hn142) ?_
  refine s_hl (fun h143 e144 => ?_)
  refine s_chk (fun hk145 => ?_)
  refine s_putF (j := 36) 4 (v := va_rf (some h140.n)) dX3_init_230 hk145 rfl (by decide) q1273 (Or.inl rfl) rfl rfl rfl rfl rfl (Upd.r (fun _ => rfl)) ?_
  refine s_hl (fun h146 e147 => ?_)
  refine s_aload_n dX3_init_233 0 rfl ?_
  refine s_bipush (20 : Int32) dX3_init_234 (by decide) ?_
  refine s_chk (fun hn148 => ?_)
  refine s_newa 32 dX3_init_236 rfl (by decide) rfl rfl q321 hn148.1 (nab32 hn148) ?_
  refine s_hl (fun h149 e150 => ?_)
  refine s_chk (fun hk151 => ?_)
  refine s_putF (j := 39) 4 (v := va_rf (some h146.n)) dX3_init_238 hk151 rfl (by decide) q1276 (Or.inl rfl) rfl rfl rfl rfl rfl (Upd.r (fun _ => rfl)) ?_
  refine s_hl (fun h152 e153 => ?_)
  refine s_aload_n dX3_init_241 0 rfl ?_
  refine s_bipush (8 : Int32) dX3_init_242 (by decide) ?_
  refine s_bipush (8 : Int32) dX3_init_244 (by decide) ?_
  refine s_multiJ dX3_init_246 q1235 (by decide) (by decide) ?_
  refine s_hl (fun h154 e155 => ?_)
  refine s_chk (fun hk156 => ?_)
  refine s_putF (j := 40) 4 (v := va_rf (some h152.n)) dX3_init_250 hk156 rfl (by decide) q1277 (Or.inl rfl) rfl rfl rfl rfl rfl (Upd.r (fun _ => rfl)) ?_
  refine s_hl (fun h157 e158 => ?_)
  refine s_aload_n dX3_init_253 0 rfl ?_
  refine s_bipush (8 : Int32) dX3_init_254 (by decide) ?_
  refine s_chk (fun hn159 => ?_)
  refine s_newa 33 dX3_init_256 rfl (by decide) rfl rfl q322 hn159.1 (nab33 hn159) ?_
  refine s_hl (fun h160 e161 => ?_)
  refine s_chk (fun hk162 => ?_)
  refine s_putF (j := 41) 4 (v := va_rf (some h157.n)) dX3_init_258 hk162 rfl (by decide) q1278 (Or.inl rfl) rfl rfl rfl rfl rfl (Upd.r (fun _ => rfl)) ?_
  refine s_hl (fun h163 e164 => ?_)
  refine s_aload_n dX3_init_261 0 rfl ?_
  refine s_bipush (15 : Int32) dX3_init_262 (by decide) ?_
  refine s_chk (fun hn165 => ?_)
  refine s_newa 32 dX3_init_264 rfl (by decide) rfl rfl q321 hn165.1 (nab32 hn165) ?_
  refine s_hl (fun h166 e167 => ?_)
  refine s_chk (fun hk168 => ?_)
  refine s_putF (j := 42) 4 (v := va_rf (some h163.n)) dX3_init_266 hk168 rfl (by decide) q1279 (Or.inl rfl) rfl rfl rfl rfl rfl (Upd.r (fun _ => rfl)) ?_
  refine s_hl (fun h169 e170 => ?_)
  refine s_aload_n dX3_init_269 0 rfl ?_
  refine s_bipush (15 : Int32) dX3_init_270 (by decide) ?_
  refine s_chk (fun hn171 => ?_)
  refine s_newa 32 dX3_init_272 rfl (by decide) rfl rfl q321 hn171.1 (nab32 hn171) ?_
  refine s_hl (fun h172 e173 => ?_)
  refine s_chk (fun hk174 => ?_)
  refine s_putF (j := 43) 4 (v := va_rf (some h169.n)) dX3_init_274 hk174 rfl (by decide) q1280 (Or.inl rfl) rfl rfl rfl rfl rfl (Upd.r (fun _ => rfl)) ?_
  refine s_hl (fun h175 e176 => ?_)
  refine s_aload_n dX3_init_277 0 rfl ?_
  refine s_bipush (40 : Int32) dX3_init_278 (by decide) ?_
  refine s_bipush (9 : Int32) dX3_init_280 (by decide) ?_
  refine s_multiI dX3_init_282 q1228 (by decide) (by decide) ?_
  refine s_hl (fun h177 e178 => ?_)
  refine s_chk (fun hk179 => ?_)
  refine s_putF (j := 47) 4 (v := va_rf (some h175.n)) dX3_init_286 hk179 rfl (by decide) q1284 (Or.inl rfl) rfl rfl rfl rfl rfl (Upd.r (fun _ => rfl)) ?_
  refine s_hl (fun h180 e181 => ?_)
  exact s_vret dX3_init_289 rfl rfl
