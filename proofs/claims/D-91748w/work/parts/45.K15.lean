set_option maxRecDepth 100000
theorem hyX3_floods : yX3_floods.cls ≠ "java/lang/invoke/MethodHandle" ∧ yX3_floods.cls ≠ "java/lang/invoke/VarHandle" ∧ (parseMethodDescriptor yX3_floods.desc).map (fun d => d.parameters.length) = some 2 := by decide +kernel
theorem sX3_floods_L52 (G : Gl) (n : Nat) (K : Nat → Nat) (hK : K = G.ad) (y27 : Int32) (y28 : Int32) (y29 : Int32) (y31 : Nat) (y32 : Int32) : ∀ (f : Nat) (x26 : Int32) (x30 : Int32) (h : AH) (k : Int32 → AH → Option (Unit × AH)) (hk : ∀ (x30 : Int32) (h : AH), Sim G yX3_floods.cls yX3_floods.name cX3_floods 10 none 3 cvV 185 [(4, .int y29), (3, .int x30), (0, .ref y31), (2, .int y32)] [] h (k x30 h)), Sim G yX3_floods.cls yX3_floods.name cX3_floods 10 none 3 cvV 52 [(7, .int x26), (6, .int y27), (5, .int y28), (4, .int y29), (3, .int x30), (0, .ref y31), (2, .int y32)] [] h (F_X3_floods_L52 n K y27 y28 y29 y31 y32 f x26 x30 h k) := by
  intro f
  induction f with
  | zero =>
    intro x26 x30 h k hk
    exact s_none
  | succ f ih =>
    intro x26 x30 h k hk
    unfold F_X3_floods_L52
    refine s_iload dX3_floods_52 0 rfl (by decide) ?_
    refine s_iconst (4 : Int32) dX3_floods_54 (by decide) ?_
    refine s_icmp_ge 185 dX3_floods_55 (by decide) (fun c33 => ?_) (fun c33 => ?_)
    · refine s_sub [3, 4, 5, 6] rfl ?_
      exact hk x30 h
    · refine s_iload dX3_floods_58 0 rfl (by decide) ?_
      refine s_jn (fun j35 => ∀ (x34 : Int32), Sim G yX3_floods.cls yX3_floods.name cX3_floods 10 none 3 cvV 85 [(7, .int x26), (6, .int y27), (5, .int y28), (4, .int y29), (3, .int x30), (0, .ref y31), (2, .int y32)] [.int x34] h (j35 x34)) ?_ (fun j35 hj59 => ?_)
      · intro x34
        refine s_istore [(8, .int x34), (7, .int x26), (6, .int y27), (5, .int y28), (4, .int y29), (3, .int x30), (0, .ref y31), (2, .int y32)] dX3_floods_85 (by decide) (by decide) rfl ?_
        refine s_iload dX3_floods_87 1 rfl (by decide) ?_
        refine s_iconst (2 : Int32) dX3_floods_89 (by decide) ?_
        refine s_jn (fun j37 => ∀ (x36 : Int32), Sim G yX3_floods.cls yX3_floods.name cX3_floods 10 none 3 cvV 115 [(8, .int x34), (7, .int x26), (6, .int y27), (5, .int y28), (4, .int y29), (3, .int x30), (0, .ref y31), (2, .int y32)] [.int x36] h (j37 x36)) ?_ (fun j37 hj56 => ?_)
        · intro x36
          refine s_istore [(9, .int x36), (8, .int x34), (7, .int x26), (6, .int y27), (5, .int y28), (4, .int y29), (3, .int x30), (0, .ref y31), (2, .int y32)] dX3_floods_115 (by decide) (by decide) rfl ?_
          refine s_iload dX3_floods_117 1 rfl (by decide) ?_
          refine s_iload dX3_floods_119 0 rfl (by decide) ?_
          refine s_callS_I (kX3_isPoint G n K hK x34 x36 h) (by decide) (by decide) dX3_floods_121 q1503 q1504 q109 q1505 hyX3_isPoint rfl rfl (Nat.le_of_ble_eq_true rfl) (fun r38 h39 => ?_)
          refine s_if_eq 179 dX3_floods_124 (by decide) (fun c40 => ?_) (fun c40 => ?_)
          · refine s_iinc (1 : Int32) [(7, .int (x26 + (1 : Int32))), (9, .int x36), (8, .int x34), (6, .int y27), (5, .int y28), (4, .int y29), (3, .int x30), (0, .ref y31), (2, .int y32)] dX3_floods_179 2 rfl (by decide) (by decide) (by decide) rfl ?_
            refine s_goto 52 dX3_floods_182 (by decide) ?_
            refine s_sub [0, 3, 4, 5, 6, 7, 8] rfl ?_
            exact ih (x26 + (1 : Int32)) x30 h39 k hk
          · refine s_aload_n dX3_floods_127 7 rfl ?_
            refine s_chk (fun hk41 => ?_)
            refine s_get (j := 35) 4 (va_rf (h39.R y31 35)) dX3_floods_128 hk41 rfl (by decide) q1272 (Or.inl rfl) rfl ?_
            refine s_bipush (100 : Int32) dX3_floods_131 (by decide) ?_
            refine s_iload dX3_floods_133 1 rfl (by decide) ?_
            refine s_imul dX3_floods_135 ?_
            refine s_iload dX3_floods_136 0 rfl (by decide) ?_
            refine s_iadd dX3_floods_138 ?_
            refine s_ob (r := h39.R y31 35) (fun z => [(9, .int x36), (8, .int x34), (7, .int x26), (6, .int y27), (5, .int y28), (4, .int y29), (3, .int x30), (0, .ref y31), (2, .int y32)]) (fun z => [.int (((100 : Int32) * x34) + x36), z]) (fun a42 => ?_)
            refine s_chk (fun hk43 => ?_)
            refine s_chk (fun hi44 => ?_)
            refine s_iald dX3_floods_139 hk43 rfl hi44 ?_
            refine s_bipush (-2 : Int32) dX3_floods_140 (by decide) ?_
            refine s_icmp_eq 148 dX3_floods_142 (by decide) (fun c45 => ?_) (fun c45 => ?_)
            · refine s_aload_n dX3_floods_148 7 rfl ?_
              refine s_get (j := 35) 4 (va_rf (h39.R y31 35)) dX3_floods_149 hk41 rfl (by decide) q1272 (Or.inl rfl) rfl ?_
              refine s_bipush (100 : Int32) dX3_floods_152 (by decide) ?_
              refine s_iload dX3_floods_154 1 rfl (by decide) ?_
              refine s_imul dX3_floods_156 ?_
              refine s_iload dX3_floods_157 0 rfl (by decide) ?_
              refine s_iadd dX3_floods_159 ?_
              refine s_iload_n dX3_floods_160 8 rfl ?_
              refine s_ob (r := h39.R y31 35) (fun z => [(9, .int x36), (8, .int x34), (7, .int x26), (6, .int y27), (5, .int y28), (4, .int y29), (3, .int x30), (0, .ref y31), (2, .int y32)]) (fun z => [.int y32, .int (((100 : Int32) * x34) + x36), z]) (fun a46 => ?_)
              refine s_chk (fun hk47 => ?_)
              refine s_chk (fun hi48 => ?_)
              refine s_iast dX3_floods_161 hk47 rfl (by decide) hi48 ?_
              refine s_hl (fun h49 e50 => ?_)
              refine s_aload_n dX3_floods_162 7 rfl ?_
              refine s_get (j := 36) 4 (va_rf (h49.R y31 36)) dX3_floods_163 (show h49.kind y31 = 5 by rw [e50]; exact hk41) rfl (by decide) q1273 (Or.inl rfl) rfl ?_
              refine s_iload_n dX3_floods_166 6 rfl ?_
              refine s_bipush (100 : Int32) dX3_floods_167 (by decide) ?_
              refine s_iload dX3_floods_169 1 rfl (by decide) ?_
              refine s_imul dX3_floods_171 ?_
              refine s_iload dX3_floods_172 0 rfl (by decide) ?_
              refine s_iadd dX3_floods_174 ?_
              refine s_ob (r := h49.R y31 36) (fun z => [(9, .int x36), (8, .int x34), (7, .int x26), (6, .int y27), (5, .int y28), (4, .int y29), (3, .int x30), (0, .ref y31), (2, .int y32)]) (fun z => [.int (((100 : Int32) * x34) + x36), .int x30, z]) (fun a51 => ?_)
              refine s_chk (fun hk52 => ?_)
              refine s_chk (fun hi53 => ?_)
              refine s_iast dX3_floods_175 hk52 rfl (by decide) hi53 ?_
              refine s_hl (fun h54 e55 => ?_)
              refine s_iinc (1 : Int32) [(3, .int (x30 + (1 : Int32))), (9, .int x36), (8, .int x34), (7, .int x26), (6, .int y27), (5, .int y28), (4, .int y29), (0, .ref y31), (2, .int y32)] dX3_floods_176 6 rfl (by decide) (by decide) (by decide) rfl ?_
              refine s_iinc (1 : Int32) [(7, .int (x26 + (1 : Int32))), (3, .int (x30 + (1 : Int32))), (9, .int x36), (8, .int x34), (6, .int y27), (5, .int y28), (4, .int y29), (0, .ref y31), (2, .int y32)] dX3_floods_179 3 rfl (by decide) (by decide) (by decide) rfl ?_
              refine s_goto 52 dX3_floods_182 (by decide) ?_
              refine s_sub [0, 4, 5, 6, 1, 7, 8] rfl ?_
              exact ih (x26 + (1 : Int32)) (x30 + (1 : Int32)) h54 k hk
            · refine s_goto 179 dX3_floods_145 (by decide) ?_
              refine s_iinc (1 : Int32) [(7, .int (x26 + (1 : Int32))), (9, .int x36), (8, .int x34), (6, .int y27), (5, .int y28), (4, .int y29), (3, .int x30), (0, .ref y31), (2, .int y32)] dX3_floods_179 2 rfl (by decide) (by decide) (by decide) rfl ?_
              refine s_goto 52 dX3_floods_182 (by decide) ?_
              refine s_sub [0, 3, 4, 5, 6, 7, 8] rfl ?_
              exact ih (x26 + (1 : Int32)) x30 h39 k hk
        refine s_icmp_ne 100 dX3_floods_90 (by decide) (fun c57 => ?_) (fun c57 => ?_)
        · refine s_iload dX3_floods_100 1 rfl (by decide) ?_
          refine s_iconst (3 : Int32) dX3_floods_102 (by decide) ?_
          refine s_icmp_ne 113 dX3_floods_103 (by decide) (fun c58 => ?_) (fun c58 => ?_)
          · refine s_iload dX3_floods_113 2 rfl (by decide) ?_
            exact hj56 y27
          · refine s_iload dX3_floods_106 2 rfl (by decide) ?_
            refine s_iconst (1 : Int32) dX3_floods_108 (by decide) ?_
            refine s_iadd dX3_floods_109 ?_
            refine s_goto 115 dX3_floods_110 (by decide) ?_
            exact hj56 (y27 + (1 : Int32))
        · refine s_iload dX3_floods_93 2 rfl (by decide) ?_
          refine s_iconst (1 : Int32) dX3_floods_95 (by decide) ?_
          refine s_isub dX3_floods_96 ?_
          refine s_goto 115 dX3_floods_97 (by decide) ?_
          exact hj56 (y27 - (1 : Int32))
      refine s_if_ne 70 dX3_floods_60 (by decide) (fun c60 => ?_) (fun c60 => ?_)
      · refine s_iload dX3_floods_70 0 rfl (by decide) ?_
        refine s_iconst (1 : Int32) dX3_floods_72 (by decide) ?_
        refine s_icmp_ne 83 dX3_floods_73 (by decide) (fun c61 => ?_) (fun c61 => ?_)
        · refine s_iload dX3_floods_83 2 rfl (by decide) ?_
          exact hj59 y28
        · refine s_iload dX3_floods_76 2 rfl (by decide) ?_
          refine s_iconst (1 : Int32) dX3_floods_78 (by decide) ?_
          refine s_iadd dX3_floods_79 ?_
          refine s_goto 85 dX3_floods_80 (by decide) ?_
          exact hj59 (y28 + (1 : Int32))
      · refine s_iload dX3_floods_63 2 rfl (by decide) ?_
        refine s_iconst (1 : Int32) dX3_floods_65 (by decide) ?_
        refine s_isub dX3_floods_66 ?_
        refine s_goto 85 dX3_floods_67 (by decide) ?_
        exact hj59 (y28 - (1 : Int32))
theorem sX3_floods_L19 (G : Gl) (n : Nat) (K : Nat → Nat) (hK : K = G.ad) (y15 : Nat) (y16 : Int32) : ∀ (f : Nat) (x13 : Int32) (x14 : Int32) (h : AH), Sim G yX3_floods.cls yX3_floods.name cX3_floods 10 none 3 cvV 19 [(4, .int x13), (3, .int x14), (0, .ref y15), (2, .int y16)] [] h (F_X3_floods_L19 n K y15 y16 f x13 x14 h) := by
  intro f
  induction f with
  | zero =>
    intro x13 x14 h
    exact s_none
  | succ f ih =>
    intro x13 x14 h
    unfold F_X3_floods_L19
    refine s_iload dX3_floods_19 0 rfl (by decide) ?_
    refine s_iload_n dX3_floods_21 1 rfl ?_
    refine s_icmp_ge 191 dX3_floods_22 (by decide) (fun c17 => ?_) (fun c17 => ?_)
    · exact s_vret dX3_floods_191 rfl rfl
    · refine s_aload_n dX3_floods_25 2 rfl ?_
      refine s_chk (fun hk18 => ?_)
      refine s_get (j := 36) 4 (va_rf (h.R y15 36)) dX3_floods_26 hk18 rfl (by decide) q1273 (Or.inl rfl) rfl ?_
      refine s_iload dX3_floods_29 0 rfl (by decide) ?_
      refine s_ob (r := h.R y15 36) (fun z => [(4, .int x13), (3, .int x14), (0, .ref y15), (2, .int y16)]) (fun z => [.int x13, z]) (fun a19 => ?_)
      refine s_chk (fun hk20 => ?_)
      refine s_chk (fun hi21 => ?_)
      refine s_iald dX3_floods_31 hk20 rfl hi21 ?_
      refine s_bipush (100 : Int32) dX3_floods_32 (by decide) ?_
      refine s_idiv dX3_floods_34 (by decide) ?_
      refine s_istore [(5, .int ((h.I a19 (ix x13)) / (100 : Int32))), (4, .int x13), (3, .int x14), (0, .ref y15), (2, .int y16)] dX3_floods_35 (by decide) (by decide) rfl ?_
      refine s_aload_n dX3_floods_37 3 rfl ?_
      refine s_get (j := 36) 4 (va_rf (h.R y15 36)) dX3_floods_38 hk18 rfl (by decide) q1273 (Or.inl rfl) rfl ?_
      refine s_iload dX3_floods_41 1 rfl (by decide) ?_
      refine s_ob (r := h.R y15 36) (fun z => [(5, .int ((h.I a19 (ix x13)) / (100 : Int32))), (4, .int x13), (3, .int x14), (0, .ref y15), (2, .int y16)]) (fun z => [.int x13, z]) (fun a22 => ?_)
      refine s_chk (fun hk23 => ?_)
      refine s_chk (fun hi24 => ?_)
      refine s_iald dX3_floods_43 hk23 rfl hi24 ?_
      refine s_bipush (100 : Int32) dX3_floods_44 (by decide) ?_
      refine s_irem dX3_floods_46 (by decide) ?_
      refine s_istore [(6, .int ((h.I a22 (ix x13)) - (h.I a22 (ix x13)) / (100 : Int32) * (100 : Int32))), (5, .int ((h.I a19 (ix x13)) / (100 : Int32))), (4, .int x13), (3, .int x14), (0, .ref y15), (2, .int y16)] dX3_floods_47 (by decide) (by decide) rfl ?_
      refine s_iconst (0 : Int32) dX3_floods_49 (by decide) ?_
      refine s_istore [(7, .int (0 : Int32)), (6, .int ((h.I a22 (ix x13)) - (h.I a22 (ix x13)) / (100 : Int32) * (100 : Int32))), (5, .int ((h.I a19 (ix x13)) / (100 : Int32))), (4, .int x13), (3, .int x14), (0, .ref y15), (2, .int y16)] dX3_floods_50 (by decide) (by decide) rfl ?_
      refine sX3_floods_L52 G n K hK ((h.I a22 (ix x13)) - (h.I a22 (ix x13)) / (100 : Int32) * (100 : Int32)) ((h.I a19 (ix x13)) / (100 : Int32)) x13 y15 y16 n (0 : Int32) x14 h _ ?_
      intro x62 h63
      refine s_iinc (1 : Int32) [(4, .int (x13 + (1 : Int32))), (3, .int x62), (0, .ref y15), (2, .int y16)] dX3_floods_185 0 rfl (by decide) (by decide) (by decide) rfl ?_
      refine s_goto 19 dX3_floods_188 (by decide) ?_
      exact ih (x13 + (1 : Int32)) x62 h63
theorem kX3_floods (G : Gl) (n : Nat) (K : Nat → Nat) (hK : K = G.ad) (p0 : Nat) (p1 : Int32) (p2 : Int32) (h : AH) : OkM G yX3_floods cX3_floods 10 none 3 cvV [.ref p0, .int p1, .int p2] h (F_X3_floods n K p0 p1 p2 h) := by
  refine ok_of_sim [(0, .ref p0), (1, .int p1), (2, .int p2)] (by decide +kernel) (fun r => ⟨_, rfl⟩) (by simp [uns, lv_args, lg_sl, catI, catL, catA, va_rfc]) (by simp [uns, lv_args, lg_sl, catI, catL, catA, va_rfc]) (by simp [uns, lv_args, lg_sl, catI, catL, catA, va_rfc]) ?_
  unfold F_X3_floods
  refine s_iconst (1 : Int32) dX3_floods_0 (by decide) ?_
  refine s_istore_n [(3, .int (1 : Int32)), (0, .ref p0), (1, .int p1), (2, .int p2)] dX3_floods_1 (by decide) (by decide) rfl ?_
  refine s_aload_n dX3_floods_2 1 rfl ?_
  refine s_chk (fun hk1 => ?_)
  refine s_get (j := 36) 4 (va_rf (h.R p0 36)) dX3_floods_3 hk1 rfl (by decide) q1273 (Or.inl rfl) rfl ?_
  refine s_iconst (0 : Int32) dX3_floods_6 (by decide) ?_
  refine s_iload_n dX3_floods_7 2 rfl ?_
  refine s_ob (r := h.R p0 36) (fun z => [(3, .int (1 : Int32)), (0, .ref p0), (1, .int p1), (2, .int p2)]) (fun z => [.int p1, .int (0 : Int32), z]) (fun a2 => ?_)
  refine s_chk (fun hk3 => ?_)
  refine s_chk (fun hi4 => ?_)
  refine s_iast dX3_floods_8 hk3 rfl (by decide) hi4 ?_
  refine s_hl (fun h5 e6 => ?_)
  refine s_aload_n dX3_floods_9 1 rfl ?_
  refine s_get (j := 35) 4 (va_rf (h5.R p0 35)) dX3_floods_10 (show h5.kind p0 = 5 by rw [e6]; exact hk1) rfl (by decide) q1272 (Or.inl rfl) rfl ?_
  refine s_iload_n dX3_floods_13 2 rfl ?_
  refine s_iload_n dX3_floods_14 3 rfl ?_
  refine s_ob (r := h5.R p0 35) (fun z => [(3, .int (1 : Int32)), (0, .ref p0), (1, .int p1), (2, .int p2)]) (fun z => [.int p2, .int p1, z]) (fun a7 => ?_)
  refine s_chk (fun hk8 => ?_)
  refine s_chk (fun hi9 => ?_)
  refine s_iast dX3_floods_15 hk8 rfl (by decide) hi9 ?_
  refine s_hl (fun h10 e11 => ?_)
  refine s_iconst (0 : Int32) dX3_floods_16 (by decide) ?_
  refine s_istore [(4, .int (0 : Int32)), (3, .int (1 : Int32)), (0, .ref p0), (1, .int p1), (2, .int p2)] dX3_floods_17 (by decide) (by decide) rfl ?_
  refine s_sub [0, 1, 2, 4] rfl ?_
  exact sX3_floods_L19 G n K hK p0 p2 n (0 : Int32) (1 : Int32) h10
theorem hyX3_finds : yX3_finds.cls ≠ "java/lang/invoke/MethodHandle" ∧ yX3_finds.cls ≠ "java/lang/invoke/VarHandle" ∧ (parseMethodDescriptor yX3_finds.desc).map (fun d => d.parameters.length) = some 2 := by decide +kernel
theorem sX3_finds_L12 (G : Gl) (n : Nat) (K : Nat → Nat) (hK : K = G.ad) (y8 : Nat) (y9 : Int32) (y10 : Int32) : ∀ (f : Nat) (x7 : Int32) (h : AH) (k : AH → Option (Unit × AH)) (hk : ∀ (h : AH), Sim G yX3_finds.cls yX3_finds.name cX3_finds 5 none 5 cvV 77 [(0, .ref y8)] [] h (k h)), Sim G yX3_finds.cls yX3_finds.name cX3_finds 5 none 5 cvV 12 [(3, .int x7), (0, .ref y8), (1, .int y9), (2, .int y10)] [] h (F_X3_finds_L12 n K y8 y9 y10 f x7 h k) := by
  intro f
  induction f with
  | zero =>
    intro x7 h k hk
    exact s_none
  | succ f ih =>
    intro x7 h k hk
    unfold F_X3_finds_L12
    refine s_iload_n dX3_finds_12 0 rfl ?_
    refine s_sipush (10000 : Int32) dX3_finds_13 (by decide) ?_
    refine s_icmp_ge 77 dX3_finds_16 (by decide) (fun c11 => ?_) (fun c11 => ?_)
    · refine s_sub [1] rfl ?_
      exact hk h
    · refine s_aload_n dX3_finds_19 1 rfl ?_
      refine s_iload_n dX3_finds_20 0 rfl ?_
      refine s_bipush (100 : Int32) dX3_finds_21 (by decide) ?_
      refine s_idiv dX3_finds_23 (by decide) ?_
      refine s_iload_n dX3_finds_24 0 rfl ?_
      refine s_bipush (100 : Int32) dX3_finds_25 (by decide) ?_
      refine s_irem dX3_finds_27 (by decide) ?_
      refine s_iload_n dX3_finds_28 2 rfl ?_
      refine s_iload_n dX3_finds_29 3 rfl ?_
      refine s_chk (fun hk14 => ?_)
      refine s_callV_I 4 (kX3_beatsAt G n K hK y8 (x7 / (100 : Int32)) (x7 - x7 / (100 : Int32) * (100 : Int32)) y9 y10 h) (by decide) (by decide) dX3_finds_30 hk14 rfl rfl q1540 q1542 qs71 q109 q1543 hyX3_beatsAt rfl rfl (Nat.le_of_ble_eq_true rfl) (fun r12 h13 => ?_)
      refine s_istore [(4, .int r12), (3, .int x7), (0, .ref y8), (1, .int y9), (2, .int y10)] dX3_finds_33 (by decide) (by decide) rfl ?_
      refine s_aload_n dX3_finds_35 2 rfl ?_
      refine s_chk (fun hk15 => ?_)
      refine s_get (j := 35) 4 (va_rf (h13.R y8 35)) dX3_finds_36 hk15 rfl (by decide) q1272 (Or.inl rfl) rfl ?_
      refine s_iload_n dX3_finds_39 1 rfl ?_
      refine s_iload dX3_finds_40 0 rfl (by decide) ?_
      refine s_jn (fun j17 => ∀ (x16 : Int32), Sim G yX3_finds.cls yX3_finds.name cX3_finds 5 none 5 cvV 51 [(4, .int r12), (3, .int x7), (0, .ref y8), (1, .int y9), (2, .int y10)] [.int x16, .int x7, va_rf (h13.R y8 35)] h13 (j17 x16)) ?_ (fun j17 hj29 => ?_)
      · intro x16
        refine s_ob (r := h13.R y8 35) (fun z => [(4, .int r12), (3, .int x7), (0, .ref y8), (1, .int y9), (2, .int y10)]) (fun z => [.int x16, .int x7, z]) (fun a18 => ?_)
        refine s_chk (fun hk19 => ?_)
        refine s_chk (fun hi20 => ?_)
        refine s_iast dX3_finds_51 hk19 rfl (by decide) hi20 ?_
        refine s_hl (fun h21 e22 => ?_)
        refine s_aload_n dX3_finds_52 2 rfl ?_
        refine s_dup dX3_finds_53 rfl ?_
        refine s_get (j := 38) 4 (.int (h21.I y8 38)) dX3_finds_54 (show h21.kind y8 = 5 by rw [e22]; exact hk15) rfl (by decide) q1275 (Or.inl rfl) rfl ?_
        refine s_iload dX3_finds_57 0 rfl (by decide) ?_
        refine s_jn (fun j24 => ∀ (x23 : Int32), Sim G yX3_finds.cls yX3_finds.name cX3_finds 5 none 5 cvV 67 [(3, .int x7), (0, .ref y8), (1, .int y9), (2, .int y10)] [.int x23, .int (h21.I y8 38), .ref y8] h21 (j24 x23)) ?_ (fun j24 hj27 => ?_)
        · intro x23
          refine s_iadd dX3_finds_67 ?_
          refine s_put (j := 38) 4 (v := .int ((h21.I y8 38) + x23)) dX3_finds_68 (show h21.kind y8 = 5 by rw [e22]; exact hk15) rfl (by decide) q1275 (Or.inl rfl) rfl rfl rfl (Upd.i (fun _ => rfl)) ?_
          refine s_hl (fun h25 e26 => ?_)
          refine s_iinc (1 : Int32) [(3, .int (x7 + (1 : Int32))), (0, .ref y8), (1, .int y9), (2, .int y10)] dX3_finds_71 0 rfl (by decide) (by decide) (by decide) rfl ?_
          refine s_goto 12 dX3_finds_74 (by decide) ?_
          exact ih (x7 + (1 : Int32)) h25 k hk
        refine s_if_eq 66 dX3_finds_59 (by decide) (fun c28 => ?_) (fun c28 => ?_)
        · refine s_iconst (0 : Int32) dX3_finds_66 (by decide) ?_
          refine s_sub [1, 2, 3, 4] rfl ?_
          exact hj27 (0 : Int32)
        · refine s_iconst (1 : Int32) dX3_finds_62 (by decide) ?_
          refine s_goto 67 dX3_finds_63 (by decide) ?_
          refine s_sub [1, 2, 3, 4] rfl ?_
          exact hj27 (1 : Int32)
      refine s_if_eq 50 dX3_finds_42 (by decide) (fun c30 => ?_) (fun c30 => ?_)
      · refine s_iconst (-1 : Int32) dX3_finds_50 (by decide) ?_
        exact hj29 (-1 : Int32)
      · refine s_bipush (-2 : Int32) dX3_finds_45 (by decide) ?_
        refine s_goto 51 dX3_finds_47 (by decide) ?_
        exact hj29 (-2 : Int32)
theorem sX3_finds_L79 (G : Gl) (n : Nat) (K : Nat → Nat) (hK : K = G.ad) (y34 : Nat) : ∀ (f : Nat) (x33 : Int32) (h : AH), Sim G yX3_finds.cls yX3_finds.name cX3_finds 5 none 5 cvV 79 [(3, .int x33), (0, .ref y34)] [] h (F_X3_finds_L79 n K y34 f x33 h) := by
  intro f
  induction f with
  | zero =>
    intro x33 h
    exact s_none
  | succ f ih =>
    intro x33 h
    unfold F_X3_finds_L79
    refine s_iload_n dX3_finds_79 0 rfl ?_
    refine s_sipush (10000 : Int32) dX3_finds_80 (by decide) ?_
    refine s_icmp_ge 125 dX3_finds_83 (by decide) (fun c35 => ?_) (fun c35 => ?_)
    · exact s_vret dX3_finds_125 rfl rfl
    · refine s_aload_n dX3_finds_86 1 rfl ?_
      refine s_chk (fun hk36 => ?_)
      refine s_get (j := 35) 4 (va_rf (h.R y34 35)) dX3_finds_87 hk36 rfl (by decide) q1272 (Or.inl rfl) rfl ?_
      refine s_iload_n dX3_finds_90 0 rfl ?_
      refine s_ob (r := h.R y34 35) (fun z => [(3, .int x33), (0, .ref y34)]) (fun z => [.int x33, z]) (fun a37 => ?_)
      refine s_chk (fun hk38 => ?_)
      refine s_chk (fun hi39 => ?_)
      refine s_iald dX3_finds_91 hk38 rfl hi39 ?_
      refine s_bipush (-2 : Int32) dX3_finds_92 (by decide) ?_
      refine s_icmp_eq 100 dX3_finds_94 (by decide) (fun c40 => ?_) (fun c40 => ?_)
      · refine s_aload_n dX3_finds_100 1 rfl ?_
        refine s_iload_n dX3_finds_101 0 rfl ?_
        refine s_aload_n dX3_finds_102 1 rfl ?_
        refine s_get (j := 37) 4 (.int (h.I y34 37)) dX3_finds_103 hk36 rfl (by decide) q1274 (Or.inl rfl) rfl ?_
        refine s_callV_V 4 (kX3_floods G n K hK y34 x33 (h.I y34 37) h) (by decide) (by decide) dX3_finds_106 hk36 rfl rfl q1631 q1633 qs86 q109 q1634 hyX3_floods rfl rfl (Nat.le_of_ble_eq_true rfl) (fun r41 h42 => ?_)
        refine s_aload_n dX3_finds_109 1 rfl ?_
        refine s_dup dX3_finds_110 rfl ?_
        refine s_chk (fun hk43 => ?_)
        refine s_get (j := 37) 4 (.int (h42.I y34 37)) dX3_finds_111 hk43 rfl (by decide) q1274 (Or.inl rfl) rfl ?_
        refine s_iconst (1 : Int32) dX3_finds_114 (by decide) ?_
        refine s_iadd dX3_finds_115 ?_
        refine s_put (j := 37) 4 (v := .int ((h42.I y34 37) + (1 : Int32))) dX3_finds_116 hk43 rfl (by decide) q1274 (Or.inl rfl) rfl rfl rfl (Upd.i (fun _ => rfl)) ?_
        refine s_hl (fun h44 e45 => ?_)
        refine s_iinc (1 : Int32) [(3, .int (x33 + (1 : Int32))), (0, .ref y34)] dX3_finds_119 0 rfl (by decide) (by decide) (by decide) rfl ?_
        refine s_goto 79 dX3_finds_122 (by decide) ?_
        exact ih (x33 + (1 : Int32)) h44
      · refine s_goto 119 dX3_finds_97 (by decide) ?_
        refine s_iinc (1 : Int32) [(3, .int (x33 + (1 : Int32))), (0, .ref y34)] dX3_finds_119 0 rfl (by decide) (by decide) (by decide) rfl ?_
        refine s_goto 79 dX3_finds_122 (by decide) ?_
        exact ih (x33 + (1 : Int32)) h
theorem kX3_finds (G : Gl) (n : Nat) (K : Nat → Nat) (hK : K = G.ad) (p0 : Nat) (p1 : Int32) (p2 : Int32) (h : AH) : OkM G yX3_finds cX3_finds 5 none 5 cvV [.ref p0, .int p1, .int p2] h (F_X3_finds n K p0 p1 p2 h) := by
  refine ok_of_sim [(0, .ref p0), (1, .int p1), (2, .int p2)] (by decide +kernel) (fun r => ⟨_, rfl⟩) (by simp [uns, lv_args, lg_sl, catI, catL, catA, va_rfc]) (by simp [uns, lv_args, lg_sl, catI, catL, catA, va_rfc]) (by simp [uns, lv_args, lg_sl, catI, catL, catA, va_rfc]) ?_
  unfold F_X3_finds
  refine s_aload_n dX3_finds_0 0 rfl ?_
  refine s_iconst (0 : Int32) dX3_finds_1 (by decide) ?_
  refine s_chk (fun hk1 => ?_)
  refine s_put (j := 38) 4 (v := .int (0 : Int32)) dX3_finds_2 hk1 rfl (by decide) q1275 (Or.inl rfl) rfl rfl rfl (Upd.i (fun _ => rfl)) ?_
  refine s_hl (fun h2 e3 => ?_)
  refine s_aload_n dX3_finds_5 0 rfl ?_
  refine s_iconst (0 : Int32) dX3_finds_6 (by decide) ?_
  refine s_put (j := 37) 4 (v := .int (0 : Int32)) dX3_finds_7 (show h2.kind p0 = 5 by rw [e3]; exact hk1) rfl (by decide) q1274 (Or.inl rfl) rfl rfl rfl (Upd.i (fun _ => rfl)) ?_
  refine s_hl (fun h4 e5 => ?_)
  refine s_iconst (0 : Int32) dX3_finds_10 (by decide) ?_
  refine s_istore_n [(3, .int (0 : Int32)), (0, .ref p0), (1, .int p1), (2, .int p2)] dX3_finds_11 (by decide) (by decide) rfl ?_
  refine sX3_finds_L12 G n K hK p0 p1 p2 n (0 : Int32) h4 _ ?_
  intro h31
  refine s_iconst (0 : Int32) dX3_finds_77 (by decide) ?_
  refine s_istore_n [(3, .int (0 : Int32)), (0, .ref p0)] dX3_finds_78 (by decide) (by decide) rfl ?_
  exact sX3_finds_L79 G n K hK p0 n (0 : Int32) h31
theorem hyX3_winSet : yX3_winSet.cls ≠ "java/lang/invoke/MethodHandle" ∧ yX3_winSet.cls ≠ "java/lang/invoke/VarHandle" ∧ (parseMethodDescriptor yX3_winSet.desc).map (fun d => d.parameters.length) = some 3 := by decide +kernel
theorem kX3_winSet (G : Gl) (n : Nat) (K : Nat → Nat) (hK : K = G.ad) (p0 : Nat) (p1 : Int32) (p2 : Int32) (p3 : Int32) (h : AH) : OkM G yX3_winSet cX3_winSet 4 (some .int) 6 cvI [.ref p0, .int p1, .int p2, .int p3] h (F_X3_winSet n K p0 p1 p2 p3 h) := by
  refine ok_of_sim [(0, .ref p0), (1, .int p1), (2, .int p2), (3, .int p3)] (by decide +kernel) (fun r => ⟨_, rfl⟩) (by simp [uns, lv_args, lg_sl, catI, catL, catA, va_rfc]) (by simp [uns, lv_args, lg_sl, catI, catL, catA, va_rfc]) (by simp [uns, lv_args, lg_sl, catI, catL, catA, va_rfc]) ?_
  unfold F_X3_winSet
  refine s_aload_n dX3_winSet_0 0 rfl ?_
  refine s_chk (fun hk3 => ?_)
  refine s_callV_I 4 (kX3_voters G n K hK p0 h) (by decide) (by decide) dX3_winSet_1 hk3 rfl rfl q1475 q1477 qs62 q109 q1478 hyX3_voters rfl rfl (Nat.le_of_ble_eq_true rfl) (fun r1 h2 => ?_)
  refine s_if_eq 25 dX3_winSet_4 (by decide) (fun c4 => ?_) (fun c4 => ?_)
  · refine s_iconst (-1 : Int32) dX3_winSet_25 (by decide) ?_
    exact s_iret dX3_winSet_26 rfl rfl
  · refine s_iload_n dX3_winSet_7 1 rfl ?_
    refine s_iload_n dX3_winSet_8 2 rfl ?_
    refine s_callS_I (kX3_isPoint G n K hK p1 p2 h2) (by decide) (by decide) dX3_winSet_9 q1503 q1504 q109 q1505 hyX3_isPoint rfl rfl (Nat.le_of_ble_eq_true rfl) (fun r5 h6 => ?_)
    refine s_if_eq 25 dX3_winSet_12 (by decide) (fun c7 => ?_) (fun c7 => ?_)
    · refine s_iconst (-1 : Int32) dX3_winSet_25 (by decide) ?_
      exact s_iret dX3_winSet_26 rfl rfl
    · refine s_iload_n dX3_winSet_15 3 rfl ?_
      refine s_i2l dX3_winSet_16 ?_
      refine s_lconst (0 : Int64) dX3_winSet_17 (by decide) ?_
      refine s_lconst (1 : Int64) dX3_winSet_18 (by decide) ?_
      refine s_callS_I (kX3_in G n K hK p3.toInt64 (0 : Int64) (1 : Int64) h6) (by decide) (by decide) dX3_winSet_19 q1397 q1398 q109 q1399 hyX3_in rfl rfl (Nat.le_of_ble_eq_true rfl) (fun r8 h9 => ?_)
      refine s_if_ne 27 dX3_winSet_22 (by decide) (fun c10 => ?_) (fun c10 => ?_)
      · refine s_aload_n dX3_winSet_27 0 rfl ?_
        refine s_iload_n dX3_winSet_28 1 rfl ?_
        refine s_iload_n dX3_winSet_29 2 rfl ?_
        refine s_chk (fun hk13 => ?_)
        refine s_callV_V 4 (kX3_finds G n K hK p0 p1 p2 h9) (by decide) (by decide) dX3_winSet_30 hk13 rfl rfl q1627 q1629 qs85 q109 q1630 hyX3_finds rfl rfl (Nat.le_of_ble_eq_true rfl) (fun r11 h12 => ?_)
        refine s_iload_n dX3_winSet_33 3 rfl ?_
        refine s_if_ne 44 dX3_winSet_34 (by decide) (fun c14 => ?_) (fun c14 => ?_)
        · refine s_aload_n dX3_winSet_44 0 rfl ?_
          refine s_chk (fun hk15 => ?_)
          refine s_get (j := 37) 4 (.int (h12.I p0 37)) dX3_winSet_45 hk15 rfl (by decide) q1274 (Or.inl rfl) rfl ?_
          exact s_iret dX3_winSet_48 rfl rfl
        · refine s_aload_n dX3_winSet_37 0 rfl ?_
          refine s_chk (fun hk16 => ?_)
          refine s_get (j := 38) 4 (.int (h12.I p0 38)) dX3_winSet_38 hk16 rfl (by decide) q1275 (Or.inl rfl) rfl ?_
          refine s_goto 48 dX3_winSet_41 (by decide) ?_
          exact s_iret dX3_winSet_48 rfl rfl
      · refine s_iconst (-1 : Int32) dX3_winSet_25 (by decide) ?_
        exact s_iret dX3_winSet_26 rfl rfl
theorem hyX3_piece : yX3_piece.cls ≠ "java/lang/invoke/MethodHandle" ∧ yX3_piece.cls ≠ "java/lang/invoke/VarHandle" ∧ (parseMethodDescriptor yX3_piece.desc).map (fun d => d.parameters.length) = some 4 := by decide +kernel
theorem sX3_piece_L63 (G : Gl) (n : Nat) (K : Nat → Nat) (hK : K = G.ad) (y22 : Nat) (y23 : Int32) (y24 : Int32) (h : AH) : ∀ (f : Nat) (x19 : Int32) (x20 : Int32) (x21 : Int32), Sim G yX3_piece.cls yX3_piece.name cX3_piece 8 (some .int) 6 cvI 63 [(7, .int x19), (6, .int x20), (5, .int x21), (0, .ref y22), (3, .int y23), (4, .int y24)] [] h (F_X3_piece_L63 n K y22 y23 y24 h f x19 x20 x21) := by
  intro f
  induction f with
  | zero =>
    intro x19 x20 x21
    exact s_none
  | succ f ih =>
    intro x19 x20 x21
    unfold F_X3_piece_L63
    refine s_iload dX3_piece_63 0 rfl (by decide) ?_
    refine s_sipush (10000 : Int32) dX3_piece_65 (by decide) ?_
    refine s_icmp_ge 109 dX3_piece_68 (by decide) (fun c25 => ?_) (fun c25 => ?_)
    · refine s_iload dX3_piece_109 5 rfl (by decide) ?_
      refine s_if_ne 122 dX3_piece_111 (by decide) (fun c26 => ?_) (fun c26 => ?_)
      · refine s_iload dX3_piece_122 5 rfl (by decide) ?_
        refine s_iconst (1 : Int32) dX3_piece_124 (by decide) ?_
        refine s_icmp_ne 136 dX3_piece_125 (by decide) (fun c27 => ?_) (fun c27 => ?_)
        · refine s_iload dX3_piece_136 1 rfl (by decide) ?_
          exact s_iret dX3_piece_138 rfl rfl
        · refine s_iload dX3_piece_128 2 rfl (by decide) ?_
          refine s_bipush (100 : Int32) dX3_piece_130 (by decide) ?_
          refine s_irem dX3_piece_132 (by decide) ?_
          refine s_goto 138 dX3_piece_133 (by decide) ?_
          exact s_iret dX3_piece_138 rfl rfl
      · refine s_iload dX3_piece_114 2 rfl (by decide) ?_
        refine s_bipush (100 : Int32) dX3_piece_116 (by decide) ?_
        refine s_idiv dX3_piece_118 (by decide) ?_
        refine s_goto 138 dX3_piece_119 (by decide) ?_
        exact s_iret dX3_piece_138 rfl rfl
    · refine s_aload_n dX3_piece_71 3 rfl ?_
      refine s_chk (fun hk28 => ?_)
      refine s_get (j := 35) 4 (va_rf (h.R y22 35)) dX3_piece_72 hk28 rfl (by decide) q1272 (Or.inl rfl) rfl ?_
      refine s_iload dX3_piece_75 0 rfl (by decide) ?_
      refine s_ob (r := h.R y22 35) (fun z => [(7, .int x19), (6, .int x20), (5, .int x21), (0, .ref y22), (3, .int y23), (4, .int y24)]) (fun z => [.int x19, z]) (fun a29 => ?_)
      refine s_chk (fun hk30 => ?_)
      refine s_chk (fun hi31 => ?_)
      refine s_iald dX3_piece_77 hk30 rfl hi31 ?_
      refine s_iload_n dX3_piece_78 4 rfl ?_
      refine s_icmp_eq 85 dX3_piece_79 (by decide) (fun c32 => ?_) (fun c32 => ?_)
      · refine s_iload dX3_piece_85 2 rfl (by decide) ?_
        refine s_iconst (-1 : Int32) dX3_piece_87 (by decide) ?_
        refine s_icmp_ne 96 dX3_piece_88 (by decide) (fun c33 => ?_) (fun c33 => ?_)
        · refine s_iload dX3_piece_96 2 rfl (by decide) ?_
          refine s_istore [(5, .int x21), (7, .int x19), (6, .int x20), (0, .ref y22), (3, .int y23), (4, .int y24)] dX3_piece_98 (by decide) (by decide) rfl ?_
          refine s_iinc (1 : Int32) [(6, .int (x20 + (1 : Int32))), (5, .int x21), (7, .int x19), (0, .ref y22), (3, .int y23), (4, .int y24)] dX3_piece_100 2 rfl (by decide) (by decide) (by decide) rfl ?_
          refine s_iinc (1 : Int32) [(7, .int (x19 + (1 : Int32))), (6, .int (x20 + (1 : Int32))), (5, .int x21), (0, .ref y22), (3, .int y23), (4, .int y24)] dX3_piece_103 2 rfl (by decide) (by decide) (by decide) rfl ?_
          refine s_goto 63 dX3_piece_106 (by decide) ?_
          exact ih (x19 + (1 : Int32)) (x20 + (1 : Int32)) x21
        · refine s_iload dX3_piece_91 0 rfl (by decide) ?_
          refine s_goto 98 dX3_piece_93 (by decide) ?_
          refine s_istore [(5, .int x19), (7, .int x19), (6, .int x20), (0, .ref y22), (3, .int y23), (4, .int y24)] dX3_piece_98 (by decide) (by decide) rfl ?_
          refine s_iinc (1 : Int32) [(6, .int (x20 + (1 : Int32))), (5, .int x19), (7, .int x19), (0, .ref y22), (3, .int y23), (4, .int y24)] dX3_piece_100 2 rfl (by decide) (by decide) (by decide) rfl ?_
          refine s_iinc (1 : Int32) [(7, .int (x19 + (1 : Int32))), (6, .int (x20 + (1 : Int32))), (5, .int x19), (0, .ref y22), (3, .int y23), (4, .int y24)] dX3_piece_103 2 rfl (by decide) (by decide) (by decide) rfl ?_
          refine s_goto 63 dX3_piece_106 (by decide) ?_
          exact ih (x19 + (1 : Int32)) (x20 + (1 : Int32)) x19
      · refine s_goto 103 dX3_piece_82 (by decide) ?_
        refine s_iinc (1 : Int32) [(7, .int (x19 + (1 : Int32))), (6, .int x20), (5, .int x21), (0, .ref y22), (3, .int y23), (4, .int y24)] dX3_piece_103 0 rfl (by decide) (by decide) (by decide) rfl ?_
        refine s_goto 63 dX3_piece_106 (by decide) ?_
        exact ih (x19 + (1 : Int32)) x20 x21
theorem kX3_piece (G : Gl) (n : Nat) (K : Nat → Nat) (hK : K = G.ad) (p0 : Nat) (p1 : Int32) (p2 : Int32) (p3 : Int32) (p4 : Int32) (h : AH) : OkM G yX3_piece cX3_piece 8 (some .int) 6 cvI [.ref p0, .int p1, .int p2, .int p3, .int p4] h (F_X3_piece n K p0 p1 p2 p3 p4 h) := by
  refine ok_of_sim [(0, .ref p0), (1, .int p1), (2, .int p2), (3, .int p3), (4, .int p4)] (by decide +kernel) (fun r => ⟨_, rfl⟩) (by simp [uns, lv_args, lg_sl, catI, catL, catA, va_rfc]) (by simp [uns, lv_args, lg_sl, catI, catL, catA, va_rfc]) (by simp [uns, lv_args, lg_sl, catI, catL, catA, va_rfc]) ?_
  unfold F_X3_piece
  refine s_aload_n dX3_piece_0 0 rfl ?_
  refine s_chk (fun hk3 => ?_)
  refine s_callV_I 4 (kX3_voters G n K hK p0 h) (by decide) (by decide) dX3_piece_1 hk3 rfl rfl q1475 q1477 qs62 q109 q1478 hyX3_voters rfl rfl (Nat.le_of_ble_eq_true rfl) (fun r1 h2 => ?_)
  refine s_if_eq 28 dX3_piece_4 (by decide) (fun c4 => ?_) (fun c4 => ?_)
  · refine s_iconst (-1 : Int32) dX3_piece_28 (by decide) ?_
    exact s_iret dX3_piece_29 rfl rfl
  · refine s_iload_n dX3_piece_7 1 rfl ?_
    refine s_iload_n dX3_piece_8 2 rfl ?_
    refine s_callS_I (kX3_isPoint G n K hK p1 p2 h2) (by decide) (by decide) dX3_piece_9 q1503 q1504 q109 q1505 hyX3_isPoint rfl rfl (Nat.le_of_ble_eq_true rfl) (fun r5 h6 => ?_)
    refine s_if_eq 28 dX3_piece_12 (by decide) (fun c7 => ?_) (fun c7 => ?_)
    · refine s_iconst (-1 : Int32) dX3_piece_28 (by decide) ?_
      exact s_iret dX3_piece_29 rfl rfl
    · refine s_iload dX3_piece_15 4 rfl (by decide) ?_
      refine s_i2l dX3_piece_17 ?_
      refine s_lconst (0 : Int64) dX3_piece_18 (by decide) ?_
      refine s_ldc2 (v := (2 : Int64)) dX3_piece_19 q1609 ?_
      refine s_callS_I (kX3_in G n K hK p4.toInt64 (0 : Int64) (2 : Int64) h6) (by decide) (by decide) dX3_piece_22 q1397 q1398 q109 q1399 hyX3_in rfl rfl (Nat.le_of_ble_eq_true rfl) (fun r8 h9 => ?_)
      refine s_if_ne 30 dX3_piece_25 (by decide) (fun c10 => ?_) (fun c10 => ?_)
      · refine s_aload_n dX3_piece_30 0 rfl ?_
        refine s_iload_n dX3_piece_31 1 rfl ?_
        refine s_iload_n dX3_piece_32 2 rfl ?_
        refine s_chk (fun hk13 => ?_)
        refine s_callV_V 4 (kX3_finds G n K hK p0 p1 p2 h9) (by decide) (by decide) dX3_piece_33 hk13 rfl rfl q1627 q1629 qs85 q109 q1630 hyX3_finds rfl rfl (Nat.le_of_ble_eq_true rfl) (fun r11 h12 => ?_)
        refine s_iload_n dX3_piece_36 3 rfl ?_
        refine s_i2l dX3_piece_37 ?_
        refine s_lconst (0 : Int64) dX3_piece_38 (by decide) ?_
        refine s_aload_n dX3_piece_39 0 rfl ?_
        refine s_chk (fun hk14 => ?_)
        refine s_get (j := 37) 4 (.int (h12.I p0 37)) dX3_piece_40 hk14 rfl (by decide) q1274 (Or.inl rfl) rfl ?_
        refine s_iconst (1 : Int32) dX3_piece_43 (by decide) ?_
        refine s_isub dX3_piece_44 ?_
        refine s_i2l dX3_piece_45 ?_
        refine s_callS_I (kX3_in G n K hK p3.toInt64 (0 : Int64) (((h12.I p0 37) - (1 : Int32)).toInt64) h12) (by decide) (by decide) dX3_piece_46 q1397 q1398 q109 q1399 hyX3_in rfl rfl (Nat.le_of_ble_eq_true rfl) (fun r15 h16 => ?_)
        refine s_if_ne 54 dX3_piece_49 (by decide) (fun c17 => ?_) (fun c17 => ?_)
        · refine s_iconst (-1 : Int32) dX3_piece_54 (by decide) ?_
          refine s_istore [(5, .int (-1 : Int32)), (0, .ref p0), (1, .int p1), (2, .int p2), (3, .int p3), (4, .int p4)] dX3_piece_55 (by decide) (by decide) rfl ?_
          refine s_iconst (0 : Int32) dX3_piece_57 (by decide) ?_
          refine s_istore [(6, .int (0 : Int32)), (5, .int (-1 : Int32)), (0, .ref p0), (1, .int p1), (2, .int p2), (3, .int p3), (4, .int p4)] dX3_piece_58 (by decide) (by decide) rfl ?_
          refine s_iconst (0 : Int32) dX3_piece_60 (by decide) ?_
          refine s_istore [(7, .int (0 : Int32)), (6, .int (0 : Int32)), (5, .int (-1 : Int32)), (0, .ref p0), (1, .int p1), (2, .int p2), (3, .int p3), (4, .int p4)] dX3_piece_61 (by decide) (by decide) rfl ?_
          refine s_sub [0, 1, 2, 3, 6, 7] rfl ?_
          exact sX3_piece_L63 G n K hK p0 p3 p4 h16 n (0 : Int32) (0 : Int32) (-1 : Int32)
        · refine s_iconst (-1 : Int32) dX3_piece_52 (by decide) ?_
          exact s_iret dX3_piece_53 rfl rfl
      · refine s_iconst (-1 : Int32) dX3_piece_28 (by decide) ?_
        exact s_iret dX3_piece_29 rfl rfl
theorem hyX3_leads : yX3_leads.cls ≠ "java/lang/invoke/MethodHandle" ∧ yX3_leads.cls ≠ "java/lang/invoke/VarHandle" ∧ (parseMethodDescriptor yX3_leads.desc).map (fun d => d.parameters.length) = some 1 := by decide +kernel
theorem sX3_leads_L2 (G : Gl) (n : Nat) (K : Nat → Nat) (hK : K = G.ad) (y3 : Nat) (y4 : Int32) : ∀ (f : Nat) (x2 : Int32) (h : AH) (k : AH → Option (Unit × AH)) (hk : ∀ (h : AH), Sim G yX3_leads.cls yX3_leads.name cX3_leads 5 none 6 cvV 30 [(0, .ref y3)] [] h (k h)), Sim G yX3_leads.cls yX3_leads.name cX3_leads 5 none 6 cvV 2 [(2, .int x2), (0, .ref y3), (1, .int y4)] [] h (F_X3_leads_L2 n K y3 y4 f x2 h k) := by
  intro f
  induction f with
  | zero =>
    intro x2 h k hk
    exact s_none
  | succ f ih =>
    intro x2 h k hk
    unfold F_X3_leads_L2
    refine s_iload_n dX3_leads_2 0 rfl ?_
    refine s_bipush (20 : Int32) dX3_leads_3 (by decide) ?_
    refine s_icmp_ge 30 dX3_leads_5 (by decide) (fun c5 => ?_) (fun c5 => ?_)
    · refine s_sub [1] rfl ?_
      exact hk h
    · refine s_aload_n dX3_leads_8 1 rfl ?_
      refine s_chk (fun hk6 => ?_)
      refine s_get (j := 39) 4 (va_rf (h.R y3 39)) dX3_leads_9 hk6 rfl (by decide) q1276 (Or.inl rfl) rfl ?_
      refine s_iload_n dX3_leads_12 0 rfl ?_
      refine s_iload_n dX3_leads_13 0 rfl ?_
      refine s_iload_n dX3_leads_14 2 rfl ?_
      refine s_jn (fun j8 => ∀ (x7 : Int32), Sim G yX3_leads.cls yX3_leads.name cX3_leads 5 none 6 cvV 23 [(2, .int x2), (0, .ref y3), (1, .int y4)] [.int x7, .int x2, va_rf (h.R y3 39)] h (j8 x7)) ?_ (fun j8 hj14 => ?_)
      · intro x7
        refine s_ob (r := h.R y3 39) (fun z => [(2, .int x2), (0, .ref y3), (1, .int y4)]) (fun z => [.int x7, .int x2, z]) (fun a9 => ?_)
        refine s_chk (fun hk10 => ?_)
        refine s_chk (fun hi11 => ?_)
        refine s_iast dX3_leads_23 hk10 rfl (by decide) hi11 ?_
        refine s_hl (fun h12 e13 => ?_)
        refine s_iinc (1 : Int32) [(2, .int (x2 + (1 : Int32))), (0, .ref y3), (1, .int y4)] dX3_leads_24 0 rfl (by decide) (by decide) (by decide) rfl ?_
        refine s_goto 2 dX3_leads_27 (by decide) ?_
        exact ih (x2 + (1 : Int32)) h12 k hk
      refine s_icmp_ne 22 dX3_leads_15 (by decide) (fun c15 => ?_) (fun c15 => ?_)
      · refine s_iconst (-1 : Int32) dX3_leads_22 (by decide) ?_
        exact hj14 (-1 : Int32)
      · refine s_iconst (0 : Int32) dX3_leads_18 (by decide) ?_
        refine s_goto 23 dX3_leads_19 (by decide) ?_
        exact hj14 (0 : Int32)
theorem sX3_leads_L66 (G : Gl) (n : Nat) (K : Nat → Nat) (hK : K = G.ad) (y39 : Int32) (y40 : Int32) (y41 : Nat) : ∀ (f : Nat) (x38 : Int32) (h : AH) (k : AH → Option (Unit × AH)) (hk : ∀ (h : AH), Sim G yX3_leads.cls yX3_leads.name cX3_leads 5 none 6 cvV 111 [(3, .int y39), (2, .int y40), (0, .ref y41)] [] h (k h)), Sim G yX3_leads.cls yX3_leads.name cX3_leads 5 none 6 cvV 66 [(4, .int x38), (3, .int y39), (2, .int y40), (0, .ref y41)] [] h (F_X3_leads_L66 n K y39 y40 y41 f x38 h k) := by
  intro f
  induction f with
  | zero =>
    intro x38 h k hk
    exact s_none
  | succ f ih =>
    intro x38 h k hk
    unfold F_X3_leads_L66
    refine s_iload dX3_leads_66 0 rfl (by decide) ?_
    refine s_aload_n dX3_leads_68 3 rfl ?_
    refine s_chk (fun hk44 => ?_)
    refine s_callV_I 4 (kX3_places G n K hK y41 h) (by decide) (by decide) dX3_leads_69 hk44 rfl rfl q1495 q1497 qs65 q109 q1498 hyX3_places rfl rfl (Nat.le_of_ble_eq_true rfl) (fun r42 h43 => ?_)
    refine s_icmp_ge 111 dX3_leads_72 (by decide) (fun c45 => ?_) (fun c45 => ?_)
    · refine s_sub [1, 2, 3] rfl ?_
      exact hk h43
    · refine s_aload_n dX3_leads_75 3 rfl ?_
      refine s_chk (fun hk46 => ?_)
      refine s_get (j := 39) 4 (va_rf (h43.R y41 39)) dX3_leads_76 hk46 rfl (by decide) q1276 (Or.inl rfl) rfl ?_
      refine s_iload dX3_leads_79 0 rfl (by decide) ?_
      refine s_ob (r := h43.R y41 39) (fun z => [(4, .int x38), (3, .int y39), (2, .int y40), (0, .ref y41)]) (fun z => [.int x38, z]) (fun a47 => ?_)
      refine s_chk (fun hk48 => ?_)
      refine s_chk (fun hi49 => ?_)
      refine s_iald dX3_leads_81 hk48 rfl hi49 ?_
      refine s_iload_n dX3_leads_82 2 rfl ?_
      refine s_icmp_ne 105 dX3_leads_83 (by decide) (fun c50 => ?_) (fun c50 => ?_)
      · refine s_iinc (1 : Int32) [(4, .int (x38 + (1 : Int32))), (3, .int y39), (2, .int y40), (0, .ref y41)] dX3_leads_105 0 rfl (by decide) (by decide) (by decide) rfl ?_
        refine s_goto 66 dX3_leads_108 (by decide) ?_
        exact ih (x38 + (1 : Int32)) h43 k hk
      · refine s_aload_n dX3_leads_86 3 rfl ?_
        refine s_iload dX3_leads_87 0 rfl (by decide) ?_
        refine s_iload_n dX3_leads_89 1 rfl ?_
        refine s_callV_I 4 (kX3_beatsOf G n K hK y41 x38 y39 h43) (by decide) (by decide) dX3_leads_90 hk46 rfl rfl q1536 q1538 qs70 q109 q1539 hyX3_beatsOf rfl rfl (Nat.le_of_ble_eq_true rfl) (fun r51 h52 => ?_)
        refine s_if_eq 105 dX3_leads_93 (by decide) (fun c53 => ?_) (fun c53 => ?_)
        · refine s_iinc (1 : Int32) [(4, .int (x38 + (1 : Int32))), (3, .int y39), (2, .int y40), (0, .ref y41)] dX3_leads_105 0 rfl (by decide) (by decide) (by decide) rfl ?_
          refine s_goto 66 dX3_leads_108 (by decide) ?_
          exact ih (x38 + (1 : Int32)) h52 k hk
        · refine s_aload_n dX3_leads_96 3 rfl ?_
          refine s_chk (fun hk54 => ?_)
          refine s_get (j := 39) 4 (va_rf (h52.R y41 39)) dX3_leads_97 hk54 rfl (by decide) q1276 (Or.inl rfl) rfl ?_
          refine s_iload_n dX3_leads_100 1 rfl ?_
          refine s_iload_n dX3_leads_101 2 rfl ?_
          refine s_iconst (1 : Int32) dX3_leads_102 (by decide) ?_
          refine s_iadd dX3_leads_103 ?_
          refine s_ob (r := h52.R y41 39) (fun z => [(4, .int x38), (3, .int y39), (2, .int y40), (0, .ref y41)]) (fun z => [.int (y40 + (1 : Int32)), .int y39, z]) (fun a55 => ?_)
          refine s_chk (fun hk56 => ?_)
          refine s_chk (fun hi57 => ?_)
          refine s_iast dX3_leads_104 hk56 rfl (by decide) hi57 ?_
          refine s_hl (fun h58 e59 => ?_)
          refine s_iinc (1 : Int32) [(4, .int (x38 + (1 : Int32))), (3, .int y39), (2, .int y40), (0, .ref y41)] dX3_leads_105 0 rfl (by decide) (by decide) (by decide) rfl ?_
          refine s_goto 66 dX3_leads_108 (by decide) ?_
          exact ih (x38 + (1 : Int32)) h58 k hk
theorem sX3_leads_L42 (G : Gl) (n : Nat) (K : Nat → Nat) (hK : K = G.ad) (y26 : Int32) (y27 : Nat) : ∀ (f : Nat) (x25 : Int32) (h : AH) (k : AH → Option (Unit × AH)) (hk : ∀ (h : AH), Sim G yX3_leads.cls yX3_leads.name cX3_leads 5 none 6 cvV 117 [(2, .int y26), (0, .ref y27)] [] h (k h)), Sim G yX3_leads.cls yX3_leads.name cX3_leads 5 none 6 cvV 42 [(3, .int x25), (2, .int y26), (0, .ref y27)] [] h (F_X3_leads_L42 n K y26 y27 f x25 h k) := by
  intro f
  induction f with
  | zero =>
    intro x25 h k hk
    exact s_none
  | succ f ih =>
    intro x25 h k hk
    unfold F_X3_leads_L42
    refine s_iload_n dX3_leads_42 0 rfl ?_
    refine s_aload_n dX3_leads_43 2 rfl ?_
    refine s_chk (fun hk30 => ?_)
    refine s_callV_I 4 (kX3_places G n K hK y27 h) (by decide) (by decide) dX3_leads_44 hk30 rfl rfl q1495 q1497 qs65 q109 q1498 hyX3_places rfl rfl (Nat.le_of_ble_eq_true rfl) (fun r28 h29 => ?_)
    refine s_icmp_ge 117 dX3_leads_47 (by decide) (fun c31 => ?_) (fun c31 => ?_)
    · refine s_sub [1, 2] rfl ?_
      exact hk h29
    · refine s_aload_n dX3_leads_50 2 rfl ?_
      refine s_chk (fun hk32 => ?_)
      refine s_get (j := 39) 4 (va_rf (h29.R y27 39)) dX3_leads_51 hk32 rfl (by decide) q1276 (Or.inl rfl) rfl ?_
      refine s_iload_n dX3_leads_54 0 rfl ?_
      refine s_ob (r := h29.R y27 39) (fun z => [(3, .int x25), (2, .int y26), (0, .ref y27)]) (fun z => [.int x25, z]) (fun a33 => ?_)
      refine s_chk (fun hk34 => ?_)
      refine s_chk (fun hi35 => ?_)
      refine s_iald dX3_leads_55 hk34 rfl hi35 ?_
      refine s_iconst (-1 : Int32) dX3_leads_56 (by decide) ?_
      refine s_icmp_eq 63 dX3_leads_57 (by decide) (fun c36 => ?_) (fun c36 => ?_)
      · refine s_iconst (0 : Int32) dX3_leads_63 (by decide) ?_
        refine s_istore [(4, .int (0 : Int32)), (3, .int x25), (2, .int y26), (0, .ref y27)] dX3_leads_64 (by decide) (by decide) rfl ?_
        refine sX3_leads_L66 G n K hK x25 y26 y27 n (0 : Int32) h29 _ ?_
        intro h60
        refine s_iinc (1 : Int32) [(3, .int (x25 + (1 : Int32))), (2, .int y26), (0, .ref y27)] dX3_leads_111 0 rfl (by decide) (by decide) (by decide) rfl ?_
        refine s_goto 42 dX3_leads_114 (by decide) ?_
        exact ih (x25 + (1 : Int32)) h60 k hk
      · refine s_goto 111 dX3_leads_60 (by decide) ?_
        refine s_iinc (1 : Int32) [(3, .int (x25 + (1 : Int32))), (2, .int y26), (0, .ref y27)] dX3_leads_111 0 rfl (by decide) (by decide) (by decide) rfl ?_
        refine s_goto 42 dX3_leads_114 (by decide) ?_
        exact ih (x25 + (1 : Int32)) h29 k hk
theorem sX3_leads_L32 (G : Gl) (n : Nat) (K : Nat → Nat) (hK : K = G.ad) (y19 : Nat) : ∀ (f : Nat) (x18 : Int32) (h : AH), Sim G yX3_leads.cls yX3_leads.name cX3_leads 5 none 6 cvV 32 [(2, .int x18), (0, .ref y19)] [] h (F_X3_leads_L32 n K y19 f x18 h) := by
  intro f
  induction f with
  | zero =>
    intro x18 h
    exact s_none
  | succ f ih =>
    intro x18 h
    unfold F_X3_leads_L32
    refine s_iload_n dX3_leads_32 0 rfl ?_
    refine s_aload_n dX3_leads_33 1 rfl ?_
    refine s_chk (fun hk22 => ?_)
    refine s_callV_I 4 (kX3_places G n K hK y19 h) (by decide) (by decide) dX3_leads_34 hk22 rfl rfl q1495 q1497 qs65 q109 q1498 hyX3_places rfl rfl (Nat.le_of_ble_eq_true rfl) (fun r20 h21 => ?_)
    refine s_icmp_ge 123 dX3_leads_37 (by decide) (fun c23 => ?_) (fun c23 => ?_)
    · exact s_vret dX3_leads_123 rfl rfl
    · refine s_iconst (0 : Int32) dX3_leads_40 (by decide) ?_
      refine s_istore_n [(3, .int (0 : Int32)), (2, .int x18), (0, .ref y19)] dX3_leads_41 (by decide) (by decide) rfl ?_
      refine sX3_leads_L42 G n K hK x18 y19 n (0 : Int32) h21 _ ?_
      intro h61
      refine s_iinc (1 : Int32) [(2, .int (x18 + (1 : Int32))), (0, .ref y19)] dX3_leads_117 0 rfl (by decide) (by decide) (by decide) rfl ?_
      refine s_goto 32 dX3_leads_120 (by decide) ?_
      exact ih (x18 + (1 : Int32)) h61
theorem kX3_leads (G : Gl) (n : Nat) (K : Nat → Nat) (hK : K = G.ad) (p0 : Nat) (p1 : Int32) (h : AH) : OkM G yX3_leads cX3_leads 5 none 6 cvV [.ref p0, .int p1] h (F_X3_leads n K p0 p1 h) := by
  refine ok_of_sim [(0, .ref p0), (1, .int p1)] (by decide +kernel) (fun r => ⟨_, rfl⟩) (by simp [uns, lv_args, lg_sl, catI, catL, catA, va_rfc]) (by simp [uns, lv_args, lg_sl, catI, catL, catA, va_rfc]) (by simp [uns, lv_args, lg_sl, catI, catL, catA, va_rfc]) ?_
  unfold F_X3_leads
  refine s_iconst (0 : Int32) dX3_leads_0 (by decide) ?_
  refine s_istore_n [(2, .int (0 : Int32)), (0, .ref p0), (1, .int p1)] dX3_leads_1 (by decide) (by decide) rfl ?_
  refine sX3_leads_L2 G n K hK p0 p1 n (0 : Int32) h _ ?_
  intro h16
  refine s_iconst (0 : Int32) dX3_leads_30 (by decide) ?_
  refine s_istore_n [(2, .int (0 : Int32)), (0, .ref p0)] dX3_leads_31 (by decide) (by decide) rfl ?_
  exact sX3_leads_L32 G n K hK p0 n (0 : Int32) h16
theorem hyX3_led : yX3_led.cls ≠ "java/lang/invoke/MethodHandle" ∧ yX3_led.cls ≠ "java/lang/invoke/VarHandle" ∧ (parseMethodDescriptor yX3_led.desc).map (fun d => d.parameters.length) = some 3 := by decide +kernel
theorem sX3_led_L80 (G : Gl) (n : Nat) (K : Nat → Nat) (hK : K = G.ad) (y32 : Int32) (y33 : Int32) (y34 : Nat) (y35 : Int32) : ∀ (f : Nat) (x31 : Int32) (h : AH) (k : Int32 → AH → Option (Int32 × AH)) (hk : ∀ (x31 : Int32) (h : AH), Sim G yX3_led.cls yX3_led.name cX3_led 7 (some .int) 7 cvI 116 [(6, .int x31), (5, .int y32), (0, .ref y34), (3, .int y35)] [] h (k x31 h)), Sim G yX3_led.cls yX3_led.name cX3_led 7 (some .int) 7 cvI 80 [(6, .int x31), (5, .int y32), (4, .int y33), (0, .ref y34), (3, .int y35)] [] h (F_X3_led_L80 n K y32 y33 y34 y35 f x31 h k) := by
  intro f
  induction f with
  | zero =>
    intro x31 h k hk
    exact s_none
  | succ f ih =>
    intro x31 h k hk
    unfold F_X3_led_L80
    refine s_aload_n dX3_led_80 3 rfl ?_
    refine s_chk (fun hk36 => ?_)
    refine s_get (j := 39) 4 (va_rf (h.R y34 39)) dX3_led_81 hk36 rfl (by decide) q1276 (Or.inl rfl) rfl ?_
    refine s_iload dX3_led_84 0 rfl (by decide) ?_
    refine s_ob (r := h.R y34 39) (fun z => [(6, .int x31), (5, .int y32), (4, .int y33), (0, .ref y34), (3, .int y35)]) (fun z => [.int x31, z]) (fun a37 => ?_)
    refine s_chk (fun hk38 => ?_)
    refine s_chk (fun hi39 => ?_)
    refine s_iald dX3_led_86 hk38 rfl hi39 ?_
    refine s_aload_n dX3_led_87 3 rfl ?_
    refine s_get (j := 39) 4 (va_rf (h.R y34 39)) dX3_led_88 hk36 rfl (by decide) q1276 (Or.inl rfl) rfl ?_
    refine s_iload dX3_led_91 2 rfl (by decide) ?_
    refine s_ob (r := h.R y34 39) (fun z => [(6, .int x31), (5, .int y32), (4, .int y33), (0, .ref y34), (3, .int y35)]) (fun z => [.int y33, z, .int (h.I a37 (ix x31))]) (fun a40 => ?_)
    refine s_chk (fun hk41 => ?_)
    refine s_chk (fun hi42 => ?_)
    refine s_iald dX3_led_93 hk41 rfl hi42 ?_
    refine s_iconst (1 : Int32) dX3_led_94 (by decide) ?_
    refine s_isub dX3_led_95 ?_
    refine s_icmp_ne 110 dX3_led_96 (by decide) (fun c43 => ?_) (fun c43 => ?_)
    · refine s_iinc (1 : Int32) [(6, .int (x31 + (1 : Int32))), (5, .int y32), (4, .int y33), (0, .ref y34), (3, .int y35)] dX3_led_110 0 rfl (by decide) (by decide) (by decide) rfl ?_
      refine s_goto 80 dX3_led_113 (by decide) ?_
      exact ih (x31 + (1 : Int32)) h k hk
    · refine s_aload_n dX3_led_99 3 rfl ?_
      refine s_iload dX3_led_100 0 rfl (by decide) ?_
      refine s_iload dX3_led_102 2 rfl (by decide) ?_
      refine s_callV_I 4 (kX3_beatsOf G n K hK y34 x31 y33 h) (by decide) (by decide) dX3_led_104 hk36 rfl rfl q1536 q1538 qs70 q109 q1539 hyX3_beatsOf rfl rfl (Nat.le_of_ble_eq_true rfl) (fun r44 h45 => ?_)
      refine s_if_ne 116 dX3_led_107 (by decide) (fun c46 => ?_) (fun c46 => ?_)
      · refine s_sub [0, 1, 3, 4] rfl ?_
        exact hk x31 h45
      · refine s_iinc (1 : Int32) [(6, .int (x31 + (1 : Int32))), (5, .int y32), (4, .int y33), (0, .ref y34), (3, .int y35)] dX3_led_110 0 rfl (by decide) (by decide) (by decide) rfl ?_
        refine s_goto 80 dX3_led_113 (by decide) ?_
        exact ih (x31 + (1 : Int32)) h45 k hk
theorem sX3_led_L71 (G : Gl) (n : Nat) (K : Nat → Nat) (hK : K = G.ad) (y27 : Nat) (y28 : Int32) : ∀ (f : Nat) (x25 : Int32) (x26 : Int32) (h : AH), Sim G yX3_led.cls yX3_led.name cX3_led 7 (some .int) 7 cvI 71 [(5, .int x25), (4, .int x26), (0, .ref y27), (3, .int y28)] [] h (F_X3_led_L71 n K y27 y28 f x25 x26 h) := by
  intro f
  induction f with
  | zero =>
    intro x25 x26 h
    exact s_none
  | succ f ih =>
    intro x25 x26 h
    unfold F_X3_led_L71
    refine s_iload dX3_led_71 0 rfl (by decide) ?_
    refine s_iload_n dX3_led_73 3 rfl ?_
    refine s_icmp_ge 126 dX3_led_74 (by decide) (fun c29 => ?_) (fun c29 => ?_)
    · refine s_iload dX3_led_126 1 rfl (by decide) ?_
      exact s_iret dX3_led_128 rfl rfl
    · refine s_iconst (0 : Int32) dX3_led_77 (by decide) ?_
      refine s_istore [(6, .int (0 : Int32)), (5, .int x25), (4, .int x26), (0, .ref y27), (3, .int y28)] dX3_led_78 (by decide) (by decide) rfl ?_
      refine sX3_led_L80 G n K hK x25 x26 y27 y28 n (0 : Int32) h _ ?_
      intro x47 h48
      refine s_iload dX3_led_116 0 rfl (by decide) ?_
      refine s_istore [(4, .int x47), (6, .int x47), (5, .int x25), (0, .ref y27), (3, .int y28)] dX3_led_118 (by decide) (by decide) rfl ?_
      refine s_iinc (1 : Int32) [(5, .int (x25 + (1 : Int32))), (4, .int x47), (6, .int x47), (0, .ref y27), (3, .int y28)] dX3_led_120 2 rfl (by decide) (by decide) (by decide) rfl ?_
      refine s_goto 71 dX3_led_123 (by decide) ?_
      refine s_sub [0, 1, 3, 4] rfl ?_
      exact ih (x25 + (1 : Int32)) x47 h48
theorem kX3_led (G : Gl) (n : Nat) (K : Nat → Nat) (hK : K = G.ad) (p0 : Nat) (p1 : Int32) (p2 : Int32) (p3 : Int32) (h : AH) : OkM G yX3_led cX3_led 7 (some .int) 7 cvI [.ref p0, .int p1, .int p2, .int p3] h (F_X3_led n K p0 p1 p2 p3 h) := by
  refine ok_of_sim [(0, .ref p0), (1, .int p1), (2, .int p2), (3, .int p3)] (by decide +kernel) (fun r => ⟨_, rfl⟩) (by simp [uns, lv_args, lg_sl, catI, catL, catA, va_rfc]) (by simp [uns, lv_args, lg_sl, catI, catL, catA, va_rfc]) (by simp [uns, lv_args, lg_sl, catI, catL, catA, va_rfc]) ?_
  unfold F_X3_led
  refine s_aload_n dX3_led_0 0 rfl ?_
  refine s_iload_n dX3_led_1 1 rfl ?_
  refine s_chk (fun hk3 => ?_)
  refine s_callV_I 4 (kX3_isPlace G n K hK p0 p1 h) (by decide) (by decide) dX3_led_2 hk3 rfl rfl q1491 q1493 qs64 q109 q1494 hyX3_isPlace rfl rfl (Nat.le_of_ble_eq_true rfl) (fun r1 h2 => ?_)
  refine s_if_eq 16 dX3_led_5 (by decide) (fun c4 => ?_) (fun c4 => ?_)
  · refine s_iconst (-1 : Int32) dX3_led_16 (by decide) ?_
    exact s_iret dX3_led_17 rfl rfl
  · refine s_aload_n dX3_led_8 0 rfl ?_
    refine s_iload_n dX3_led_9 2 rfl ?_
    refine s_chk (fun hk7 => ?_)
    refine s_callV_I 4 (kX3_isPlace G n K hK p0 p2 h2) (by decide) (by decide) dX3_led_10 hk7 rfl rfl q1491 q1493 qs64 q109 q1494 hyX3_isPlace rfl rfl (Nat.le_of_ble_eq_true rfl) (fun r5 h6 => ?_)
    refine s_if_ne 18 dX3_led_13 (by decide) (fun c8 => ?_) (fun c8 => ?_)
    · refine s_aload_n dX3_led_18 0 rfl ?_
      refine s_iload_n dX3_led_19 2 rfl ?_
      refine s_chk (fun hk11 => ?_)
      refine s_callV_V 4 (kX3_leads G n K hK p0 p2 h6) (by decide) (by decide) dX3_led_20 hk11 rfl rfl q1643 q1645 qs87 q109 q1646 hyX3_leads rfl rfl (Nat.le_of_ble_eq_true rfl) (fun r9 h10 => ?_)
      refine s_aload_n dX3_led_23 0 rfl ?_
      refine s_chk (fun hk12 => ?_)
      refine s_get (j := 39) 4 (va_rf (h10.R p0 39)) dX3_led_24 hk12 rfl (by decide) q1276 (Or.inl rfl) rfl ?_
      refine s_iload_n dX3_led_27 1 rfl ?_
      refine s_ob (r := h10.R p0 39) (fun z => [(0, .ref p0), (1, .int p1), (2, .int p2), (3, .int p3)]) (fun z => [.int p1, z]) (fun a13 => ?_)
      refine s_chk (fun hk14 => ?_)
      refine s_chk (fun hi15 => ?_)
      refine s_iald dX3_led_28 hk14 rfl hi15 ?_
      refine s_iconst (-1 : Int32) dX3_led_29 (by decide) ?_
      refine s_icmp_ne 35 dX3_led_30 (by decide) (fun c16 => ?_) (fun c16 => ?_)
      · refine s_iload_n dX3_led_35 3 rfl ?_
        refine s_iconst (-1 : Int32) dX3_led_36 (by decide) ?_
        refine s_icmp_ne 47 dX3_led_37 (by decide) (fun c17 => ?_) (fun c17 => ?_)
        · refine s_iload_n dX3_led_47 3 rfl ?_
          refine s_i2l dX3_led_48 ?_
          refine s_lconst (0 : Int64) dX3_led_49 (by decide) ?_
          refine s_aload_n dX3_led_50 0 rfl ?_
          refine s_get (j := 39) 4 (va_rf (h10.R p0 39)) dX3_led_51 hk12 rfl (by decide) q1276 (Or.inl rfl) rfl ?_
          refine s_iload_n dX3_led_54 1 rfl ?_
          refine s_ob (r := h10.R p0 39) (fun z => [(0, .ref p0), (1, .int p1), (2, .int p2), (3, .int p3)]) (fun z => [.int p1, z, .long (0 : Int64), .long p3.toInt64]) (fun a18 => ?_)
          refine s_chk (fun hk19 => ?_)
          refine s_chk (fun hi20 => ?_)
          refine s_iald dX3_led_55 hk19 rfl hi20 ?_
          refine s_i2l dX3_led_56 ?_
          refine s_callS_I (kX3_in G n K hK p3.toInt64 (0 : Int64) ((h10.I a18 (ix p1)).toInt64) h10) (by decide) (by decide) dX3_led_57 q1397 q1398 q109 q1399 hyX3_in rfl rfl (Nat.le_of_ble_eq_true rfl) (fun r21 h22 => ?_)
          refine s_if_ne 65 dX3_led_60 (by decide) (fun c23 => ?_) (fun c23 => ?_)
          · refine s_iload_n dX3_led_65 1 rfl ?_
            refine s_istore [(4, .int p1), (0, .ref p0), (1, .int p1), (2, .int p2), (3, .int p3)] dX3_led_66 (by decide) (by decide) rfl ?_
            refine s_iconst (0 : Int32) dX3_led_68 (by decide) ?_
            refine s_istore [(5, .int (0 : Int32)), (4, .int p1), (0, .ref p0), (1, .int p1), (2, .int p2), (3, .int p3)] dX3_led_69 (by decide) (by decide) rfl ?_
            refine s_sub [0, 1, 2, 5] rfl ?_
            exact sX3_led_L71 G n K hK p0 p3 n (0 : Int32) p1 h22
          · refine s_iconst (-1 : Int32) dX3_led_63 (by decide) ?_
            exact s_iret dX3_led_64 rfl rfl
        · refine s_aload_n dX3_led_40 0 rfl ?_
          refine s_get (j := 39) 4 (va_rf (h10.R p0 39)) dX3_led_41 hk12 rfl (by decide) q1276 (Or.inl rfl) rfl ?_
          refine s_iload_n dX3_led_44 1 rfl ?_
          refine s_ob (r := h10.R p0 39) (fun z => [(0, .ref p0), (1, .int p1), (2, .int p2), (3, .int p3)]) (fun z => [.int p1, z]) (fun a49 => ?_)
          refine s_chk (fun hk50 => ?_)
          refine s_chk (fun hi51 => ?_)
          refine s_iald dX3_led_45 hk50 rfl hi51 ?_
          exact s_iret dX3_led_46 rfl rfl
      · refine s_iconst (-1 : Int32) dX3_led_33 (by decide) ?_
        exact s_iret dX3_led_34 rfl rfl
    · refine s_iconst (-1 : Int32) dX3_led_16 (by decide) ?_
      exact s_iret dX3_led_17 rfl rfl
theorem hyX3_isReached : yX3_isReached.cls ≠ "java/lang/invoke/MethodHandle" ∧ yX3_isReached.cls ≠ "java/lang/invoke/VarHandle" ∧ (parseMethodDescriptor yX3_isReached.desc).map (fun d => d.parameters.length) = some 1 := by decide +kernel
theorem sX3_isReached_L7 (G : Gl) (n : Nat) (K : Nat → Nat) (hK : K = G.ad) (y6 : Nat) : ∀ (f : Nat) (x5 : Int32) (h : AH), Sim G yX3_isReached.cls yX3_isReached.name cX3_isReached 3 (some .boolean) 7 cvI 7 [(2, .int x5), (0, .ref y6)] [] h (F_X3_isReached_L7 n K y6 f x5 h) := by
  intro f
  induction f with
  | zero =>
    intro x5 h
    exact s_none
  | succ f ih =>
    intro x5 h
    unfold F_X3_isReached_L7
    refine s_iload_n dX3_isReached_7 0 rfl ?_
    refine s_aload_n dX3_isReached_8 1 rfl ?_
    refine s_chk (fun hk9 => ?_)
    refine s_callV_I 4 (kX3_places G n K hK y6 h) (by decide) (by decide) dX3_isReached_9 hk9 rfl rfl q1495 q1497 qs65 q109 q1498 hyX3_places rfl rfl (Nat.le_of_ble_eq_true rfl) (fun r7 h8 => ?_)
    refine s_icmp_ge 33 dX3_isReached_12 (by decide) (fun c10 => ?_) (fun c10 => ?_)
    · refine s_iconst (1 : Int32) dX3_isReached_33 (by decide) ?_
      exact s_zret dX3_isReached_34 rfl rfl rfl
    · refine s_aload_n dX3_isReached_15 1 rfl ?_
      refine s_chk (fun hk11 => ?_)
      refine s_get (j := 39) 4 (va_rf (h8.R y6 39)) dX3_isReached_16 hk11 rfl (by decide) q1276 (Or.inl rfl) rfl ?_
      refine s_iload_n dX3_isReached_19 0 rfl ?_
      refine s_ob (r := h8.R y6 39) (fun z => [(2, .int x5), (0, .ref y6)]) (fun z => [.int x5, z]) (fun a12 => ?_)
      refine s_chk (fun hk13 => ?_)
      refine s_chk (fun hi14 => ?_)
      refine s_iald dX3_isReached_20 hk13 rfl hi14 ?_
      refine s_iconst (-1 : Int32) dX3_isReached_21 (by decide) ?_
      refine s_icmp_ne 27 dX3_isReached_22 (by decide) (fun c15 => ?_) (fun c15 => ?_)
      · refine s_iinc (1 : Int32) [(2, .int (x5 + (1 : Int32))), (0, .ref y6)] dX3_isReached_27 0 rfl (by decide) (by decide) (by decide) rfl ?_
        refine s_goto 7 dX3_isReached_30 (by decide) ?_
        exact ih (x5 + (1 : Int32)) h8
      · refine s_iconst (0 : Int32) dX3_isReached_25 (by decide) ?_
        exact s_zret dX3_isReached_26 rfl rfl rfl
theorem kX3_isReached (G : Gl) (n : Nat) (K : Nat → Nat) (hK : K = G.ad) (p0 : Nat) (p1 : Int32) (h : AH) : OkM G yX3_isReached cX3_isReached 3 (some .boolean) 7 cvI [.ref p0, .int p1] h (F_X3_isReached n K p0 p1 h) := by
  refine ok_of_sim [(0, .ref p0), (1, .int p1)] (by decide +kernel) (fun r => ⟨_, rfl⟩) (by simp [uns, lv_args, lg_sl, catI, catL, catA, va_rfc]) (by simp [uns, lv_args, lg_sl, catI, catL, catA, va_rfc]) (by simp [uns, lv_args, lg_sl, catI, catL, catA, va_rfc]) ?_
  unfold F_X3_isReached
  refine s_aload_n dX3_isReached_0 0 rfl ?_
  refine s_iload_n dX3_isReached_1 1 rfl ?_
  refine s_chk (fun hk3 => ?_)
  refine s_callV_V 4 (kX3_leads G n K hK p0 p1 h) (by decide) (by decide) dX3_isReached_2 hk3 rfl rfl q1643 q1645 qs87 q109 q1646 hyX3_leads rfl rfl (Nat.le_of_ble_eq_true rfl) (fun r1 h2 => ?_)
  refine s_iconst (0 : Int32) dX3_isReached_5 (by decide) ?_
  refine s_istore_n [(2, .int (0 : Int32)), (0, .ref p0), (1, .int p1)] dX3_isReached_6 (by decide) (by decide) rfl ?_
  refine s_sub [0, 1] rfl ?_
  exact sX3_isReached_L7 G n K hK p0 n (0 : Int32) h2
theorem hyX3_covers : yX3_covers.cls ≠ "java/lang/invoke/MethodHandle" ∧ yX3_covers.cls ≠ "java/lang/invoke/VarHandle" ∧ (parseMethodDescriptor yX3_covers.desc).map (fun d => d.parameters.length) = some 2 := by decide +kernel
theorem sX3_covers_L13 (G : Gl) (n : Nat) (K : Nat → Nat) (hK : K = G.ad) (y7 : Nat) (y8 : Int32) (y9 : Int32) : ∀ (f : Nat) (x6 : Int32) (h : AH), Sim G yX3_covers.cls yX3_covers.name cX3_covers 4 (some .boolean) 6 cvI 13 [(3, .int x6), (0, .ref y7), (1, .int y8), (2, .int y9)] [] h (F_X3_covers_L13 n K y7 y8 y9 f x6 h) := by
  intro f
  induction f with
  | zero =>
    intro x6 h
    exact s_none
  | succ f ih =>
    intro x6 h
    unfold F_X3_covers_L13
    refine s_iload_n dX3_covers_13 0 rfl ?_
    refine s_aload_n dX3_covers_14 1 rfl ?_
    refine s_chk (fun hk12 => ?_)
    refine s_callV_I 4 (kX3_places G n K hK y7 h) (by decide) (by decide) dX3_covers_15 hk12 rfl rfl q1495 q1497 qs65 q109 q1498 hyX3_places rfl rfl (Nat.le_of_ble_eq_true rfl) (fun r10 h11 => ?_)
    refine s_icmp_ge 47 dX3_covers_18 (by decide) (fun c13 => ?_) (fun c13 => ?_)
    · refine s_iconst (1 : Int32) dX3_covers_47 (by decide) ?_
      exact s_zret dX3_covers_48 rfl rfl rfl
    · refine s_aload_n dX3_covers_21 1 rfl ?_
      refine s_iload_n dX3_covers_22 0 rfl ?_
      refine s_iload_n dX3_covers_23 2 rfl ?_
      refine s_chk (fun hk16 => ?_)
      refine s_callV_I 4 (kX3_beatsOf G n K hK y7 x6 y8 h11) (by decide) (by decide) dX3_covers_24 hk16 rfl rfl q1536 q1538 qs70 q109 q1539 hyX3_beatsOf rfl rfl (Nat.le_of_ble_eq_true rfl) (fun r14 h15 => ?_)
      refine s_if_eq 41 dX3_covers_27 (by decide) (fun c17 => ?_) (fun c17 => ?_)
      · refine s_iinc (1 : Int32) [(3, .int (x6 + (1 : Int32))), (0, .ref y7), (1, .int y8), (2, .int y9)] dX3_covers_41 0 rfl (by decide) (by decide) (by decide) rfl ?_
        refine s_goto 13 dX3_covers_44 (by decide) ?_
        exact ih (x6 + (1 : Int32)) h15
      · refine s_aload_n dX3_covers_30 1 rfl ?_
        refine s_iload_n dX3_covers_31 0 rfl ?_
        refine s_iload_n dX3_covers_32 3 rfl ?_
        refine s_chk (fun hk20 => ?_)
        refine s_callV_I 4 (kX3_beatsOf G n K hK y7 x6 y9 h15) (by decide) (by decide) dX3_covers_33 hk20 rfl rfl q1536 q1538 qs70 q109 q1539 hyX3_beatsOf rfl rfl (Nat.le_of_ble_eq_true rfl) (fun r18 h19 => ?_)
        refine s_if_ne 41 dX3_covers_36 (by decide) (fun c21 => ?_) (fun c21 => ?_)
        · refine s_iinc (1 : Int32) [(3, .int (x6 + (1 : Int32))), (0, .ref y7), (1, .int y8), (2, .int y9)] dX3_covers_41 0 rfl (by decide) (by decide) (by decide) rfl ?_
          refine s_goto 13 dX3_covers_44 (by decide) ?_
          exact ih (x6 + (1 : Int32)) h19
        · refine s_iconst (0 : Int32) dX3_covers_39 (by decide) ?_
          exact s_zret dX3_covers_40 rfl rfl rfl
theorem kX3_covers (G : Gl) (n : Nat) (K : Nat → Nat) (hK : K = G.ad) (p0 : Nat) (p1 : Int32) (p2 : Int32) (h : AH) : OkM G yX3_covers cX3_covers 4 (some .boolean) 6 cvI [.ref p0, .int p1, .int p2] h (F_X3_covers n K p0 p1 p2 h) := by
  refine ok_of_sim [(0, .ref p0), (1, .int p1), (2, .int p2)] (by decide +kernel) (fun r => ⟨_, rfl⟩) (by simp [uns, lv_args, lg_sl, catI, catL, catA, va_rfc]) (by simp [uns, lv_args, lg_sl, catI, catL, catA, va_rfc]) (by simp [uns, lv_args, lg_sl, catI, catL, catA, va_rfc]) ?_
  unfold F_X3_covers
  refine s_aload_n dX3_covers_0 0 rfl ?_
  refine s_iload_n dX3_covers_1 1 rfl ?_
  refine s_iload_n dX3_covers_2 2 rfl ?_
  refine s_chk (fun hk3 => ?_)
  refine s_callV_I 4 (kX3_beatsOf G n K hK p0 p1 p2 h) (by decide) (by decide) dX3_covers_3 hk3 rfl rfl q1536 q1538 qs70 q109 q1539 hyX3_beatsOf rfl rfl (Nat.le_of_ble_eq_true rfl) (fun r1 h2 => ?_)
  refine s_if_ne 11 dX3_covers_6 (by decide) (fun c4 => ?_) (fun c4 => ?_)
  · refine s_iconst (0 : Int32) dX3_covers_11 (by decide) ?_
    refine s_istore_n [(3, .int (0 : Int32)), (0, .ref p0), (1, .int p1), (2, .int p2)] dX3_covers_12 (by decide) (by decide) rfl ?_
    exact sX3_covers_L13 G n K hK p0 p1 p2 n (0 : Int32) h2
  · refine s_iconst (0 : Int32) dX3_covers_9 (by decide) ?_
    exact s_zret dX3_covers_10 rfl rfl rfl
theorem hyX3_isOpen : yX3_isOpen.cls ≠ "java/lang/invoke/MethodHandle" ∧ yX3_isOpen.cls ≠ "java/lang/invoke/VarHandle" ∧ (parseMethodDescriptor yX3_isOpen.desc).map (fun d => d.parameters.length) = some 1 := by decide +kernel
theorem sX3_isOpen_L2 (G : Gl) (n : Nat) (K : Nat → Nat) (hK : K = G.ad) (y3 : Nat) (y4 : Int32) : ∀ (f : Nat) (x2 : Int32) (h : AH), Sim G yX3_isOpen.cls yX3_isOpen.name cX3_isOpen 3 (some .boolean) 7 cvI 2 [(2, .int x2), (0, .ref y3), (1, .int y4)] [] h (F_X3_isOpen_L2 n K y3 y4 f x2 h) := by
  intro f
  induction f with
  | zero =>
    intro x2 h
    exact s_none
  | succ f ih =>
    intro x2 h
    unfold F_X3_isOpen_L2
    refine s_iload_n dX3_isOpen_2 0 rfl ?_
    refine s_aload_n dX3_isOpen_3 1 rfl ?_
    refine s_chk (fun hk7 => ?_)
    refine s_callV_I 4 (kX3_places G n K hK y3 h) (by decide) (by decide) dX3_isOpen_4 hk7 rfl rfl q1495 q1497 qs65 q109 q1498 hyX3_places rfl rfl (Nat.le_of_ble_eq_true rfl) (fun r5 h6 => ?_)
    refine s_icmp_ge 32 dX3_isOpen_7 (by decide) (fun c8 => ?_) (fun c8 => ?_)
    · refine s_iconst (1 : Int32) dX3_isOpen_32 (by decide) ?_
      exact s_zret dX3_isOpen_33 rfl rfl rfl
    · refine s_iload_n dX3_isOpen_10 0 rfl ?_
      refine s_iload_n dX3_isOpen_11 2 rfl ?_
      refine s_icmp_eq 26 dX3_isOpen_12 (by decide) (fun c9 => ?_) (fun c9 => ?_)
      · refine s_iinc (1 : Int32) [(2, .int (x2 + (1 : Int32))), (0, .ref y3), (1, .int y4)] dX3_isOpen_26 0 rfl (by decide) (by decide) (by decide) rfl ?_
        refine s_goto 2 dX3_isOpen_29 (by decide) ?_
        exact ih (x2 + (1 : Int32)) h6
      · refine s_aload_n dX3_isOpen_15 1 rfl ?_
        refine s_iload_n dX3_isOpen_16 0 rfl ?_
        refine s_iload_n dX3_isOpen_17 2 rfl ?_
        refine s_chk (fun hk12 => ?_)
        refine s_callV_I 4 (kX3_covers G n K hK y3 x2 y4 h6) (by decide) (by decide) dX3_isOpen_18 hk12 rfl rfl q1659 q1661 qs90 q109 q1662 hyX3_covers rfl rfl (Nat.le_of_ble_eq_true rfl) (fun r10 h11 => ?_)
        refine s_if_eq 26 dX3_isOpen_21 (by decide) (fun c13 => ?_) (fun c13 => ?_)
        · refine s_iinc (1 : Int32) [(2, .int (x2 + (1 : Int32))), (0, .ref y3), (1, .int y4)] dX3_isOpen_26 0 rfl (by decide) (by decide) (by decide) rfl ?_
          refine s_goto 2 dX3_isOpen_29 (by decide) ?_
          exact ih (x2 + (1 : Int32)) h11
        · refine s_iconst (0 : Int32) dX3_isOpen_24 (by decide) ?_
          exact s_zret dX3_isOpen_25 rfl rfl rfl
theorem kX3_isOpen (G : Gl) (n : Nat) (K : Nat → Nat) (hK : K = G.ad) (p0 : Nat) (p1 : Int32) (h : AH) : OkM G yX3_isOpen cX3_isOpen 3 (some .boolean) 7 cvI [.ref p0, .int p1] h (F_X3_isOpen n K p0 p1 h) := by
  refine ok_of_sim [(0, .ref p0), (1, .int p1)] (by decide +kernel) (fun r => ⟨_, rfl⟩) (by simp [uns, lv_args, lg_sl, catI, catL, catA, va_rfc]) (by simp [uns, lv_args, lg_sl, catI, catL, catA, va_rfc]) (by simp [uns, lv_args, lg_sl, catI, catL, catA, va_rfc]) ?_
  unfold F_X3_isOpen
  refine s_iconst (0 : Int32) dX3_isOpen_0 (by decide) ?_
  refine s_istore_n [(2, .int (0 : Int32)), (0, .ref p0), (1, .int p1)] dX3_isOpen_1 (by decide) (by decide) rfl ?_
  exact sX3_isOpen_L2 G n K hK p0 p1 n (0 : Int32) h
theorem hyX3_best : yX3_best.cls ≠ "java/lang/invoke/MethodHandle" ∧ yX3_best.cls ≠ "java/lang/invoke/VarHandle" ∧ (parseMethodDescriptor yX3_best.desc).map (fun d => d.parameters.length) = some 1 := by decide +kernel
theorem sX3_best_L23 (G : Gl) (n : Nat) (K : Nat → Nat) (hK : K = G.ad) (y11 : Nat) (y12 : Int32) : ∀ (f : Nat) (x9 : Int32) (x10 : Int32) (h : AH), Sim G yX3_best.cls yX3_best.name cX3_best 4 (some .int) 8 cvI 23 [(3, .int x9), (2, .int x10), (0, .ref y11), (1, .int y12)] [] h (F_X3_best_L23 n K y11 y12 f x9 x10 h) := by
  intro f
  induction f with
  | zero =>
    intro x9 x10 h
    exact s_none
  | succ f ih =>
    intro x9 x10 h
    unfold F_X3_best_L23
    refine s_iload_n dX3_best_23 0 rfl ?_
    refine s_aload_n dX3_best_24 2 rfl ?_
    refine s_chk (fun hk15 => ?_)
    refine s_callV_I 4 (kX3_places G n K hK y11 h) (by decide) (by decide) dX3_best_25 hk15 rfl rfl q1495 q1497 qs65 q109 q1498 hyX3_places rfl rfl (Nat.le_of_ble_eq_true rfl) (fun r13 h14 => ?_)
    refine s_icmp_ge 70 dX3_best_28 (by decide) (fun c16 => ?_) (fun c16 => ?_)
    · refine s_iload_n dX3_best_70 1 rfl ?_
      exact s_iret dX3_best_71 rfl rfl
    · refine s_iload_n dX3_best_31 1 rfl ?_
      refine s_iload_n dX3_best_32 3 rfl ?_
      refine s_jn (fun j18 => ∀ (h17 : AH), Sim G yX3_best.cls yX3_best.name cX3_best 4 (some .int) 8 cvI 55 [(3, .int x9), (0, .ref y11), (1, .int y12)] [.int x10] h17 (j18 h17)) ?_ (fun j18 hj19 => ?_)
      · intro h17
        refine s_iconst (1 : Int32) dX3_best_55 (by decide) ?_
        refine s_iload_n dX3_best_56 0 rfl ?_
        refine s_ishl dX3_best_57 ?_
        refine s_goto 62 dX3_best_58 (by decide) ?_
        refine s_ior dX3_best_62 ?_
        refine s_istore_n [(2, .int (x10 ||| ((1 : Int32) <<< (x9 &&& 31)))), (3, .int x9), (0, .ref y11), (1, .int y12)] dX3_best_63 (by decide) (by decide) rfl ?_
        refine s_iinc (1 : Int32) [(3, .int (x9 + (1 : Int32))), (2, .int (x10 ||| ((1 : Int32) <<< (x9 &&& 31)))), (0, .ref y11), (1, .int y12)] dX3_best_64 1 rfl (by decide) (by decide) (by decide) rfl ?_
        refine s_goto 23 dX3_best_67 (by decide) ?_
        exact ih (x9 + (1 : Int32)) (x10 ||| ((1 : Int32) <<< (x9 &&& 31))) h17
      refine s_if_ne 47 dX3_best_33 (by decide) (fun c20 => ?_) (fun c20 => ?_)
      · refine s_aload_n dX3_best_47 2 rfl ?_
        refine s_iload_n dX3_best_48 0 rfl ?_
        refine s_chk (fun hk23 => ?_)
        refine s_callV_I 4 (kX3_isOpen G n K hK y11 x9 h14) (by decide) (by decide) dX3_best_49 hk23 rfl rfl q1655 q1657 qs89 q109 q1658 hyX3_isOpen rfl rfl (Nat.le_of_ble_eq_true rfl) (fun r21 h22 => ?_)
        refine s_if_eq 61 dX3_best_52 (by decide) (fun c24 => ?_) (fun c24 => ?_)
        · refine s_iconst (0 : Int32) dX3_best_61 (by decide) ?_
          refine s_ior dX3_best_62 ?_
          refine s_istore_n [(2, .int (x10 ||| (0 : Int32))), (3, .int x9), (0, .ref y11), (1, .int y12)] dX3_best_63 (by decide) (by decide) rfl ?_
          refine s_iinc (1 : Int32) [(3, .int (x9 + (1 : Int32))), (2, .int (x10 ||| (0 : Int32))), (0, .ref y11), (1, .int y12)] dX3_best_64 1 rfl (by decide) (by decide) (by decide) rfl ?_
          refine s_goto 23 dX3_best_67 (by decide) ?_
          exact ih (x9 + (1 : Int32)) (x10 ||| (0 : Int32)) h22
        · refine s_sub [0, 2, 3] rfl ?_
          exact hj19 h22
      · refine s_aload_n dX3_best_36 2 rfl ?_
        refine s_iload_n dX3_best_37 0 rfl ?_
        refine s_chk (fun hk27 => ?_)
        refine s_callV_I 4 (kX3_isReached G n K hK y11 x9 h14) (by decide) (by decide) dX3_best_38 hk27 rfl rfl q1651 q1653 qs88 q109 q1654 hyX3_isReached rfl rfl (Nat.le_of_ble_eq_true rfl) (fun r25 h26 => ?_)
        refine s_if_eq 61 dX3_best_41 (by decide) (fun c28 => ?_) (fun c28 => ?_)
        · refine s_iconst (0 : Int32) dX3_best_61 (by decide) ?_
          refine s_ior dX3_best_62 ?_
          refine s_istore_n [(2, .int (x10 ||| (0 : Int32))), (3, .int x9), (0, .ref y11), (1, .int y12)] dX3_best_63 (by decide) (by decide) rfl ?_
          refine s_iinc (1 : Int32) [(3, .int (x9 + (1 : Int32))), (2, .int (x10 ||| (0 : Int32))), (0, .ref y11), (1, .int y12)] dX3_best_64 1 rfl (by decide) (by decide) (by decide) rfl ?_
          refine s_goto 23 dX3_best_67 (by decide) ?_
          exact ih (x9 + (1 : Int32)) (x10 ||| (0 : Int32)) h26
        · refine s_goto 55 dX3_best_44 (by decide) ?_
          refine s_sub [0, 2, 3] rfl ?_
          exact hj19 h26
theorem kX3_best (G : Gl) (n : Nat) (K : Nat → Nat) (hK : K = G.ad) (p0 : Nat) (p1 : Int32) (h : AH) : OkM G yX3_best cX3_best 4 (some .int) 8 cvI [.ref p0, .int p1] h (F_X3_best n K p0 p1 h) := by
  refine ok_of_sim [(0, .ref p0), (1, .int p1)] (by decide +kernel) (fun r => ⟨_, rfl⟩) (by simp [uns, lv_args, lg_sl, catI, catL, catA, va_rfc]) (by simp [uns, lv_args, lg_sl, catI, catL, catA, va_rfc]) (by simp [uns, lv_args, lg_sl, catI, catL, catA, va_rfc]) ?_
  unfold F_X3_best
  refine s_aload_n dX3_best_0 0 rfl ?_
  refine s_chk (fun hk3 => ?_)
  refine s_callV_I 4 (kX3_voters G n K hK p0 h) (by decide) (by decide) dX3_best_1 hk3 rfl rfl q1475 q1477 qs62 q109 q1478 hyX3_voters rfl rfl (Nat.le_of_ble_eq_true rfl) (fun r1 h2 => ?_)
  refine s_if_eq 17 dX3_best_4 (by decide) (fun c4 => ?_) (fun c4 => ?_)
  · refine s_iconst (-1 : Int32) dX3_best_17 (by decide) ?_
    exact s_iret dX3_best_18 rfl rfl
  · refine s_iload_n dX3_best_7 1 rfl ?_
    refine s_i2l dX3_best_8 ?_
    refine s_lconst (0 : Int64) dX3_best_9 (by decide) ?_
    refine s_lconst (1 : Int64) dX3_best_10 (by decide) ?_
    refine s_callS_I (kX3_in G n K hK p1.toInt64 (0 : Int64) (1 : Int64) h2) (by decide) (by decide) dX3_best_11 q1397 q1398 q109 q1399 hyX3_in rfl rfl (Nat.le_of_ble_eq_true rfl) (fun r5 h6 => ?_)
    refine s_if_ne 19 dX3_best_14 (by decide) (fun c7 => ?_) (fun c7 => ?_)
    · refine s_iconst (0 : Int32) dX3_best_19 (by decide) ?_
      refine s_istore_n [(2, .int (0 : Int32)), (0, .ref p0), (1, .int p1)] dX3_best_20 (by decide) (by decide) rfl ?_
      refine s_iconst (0 : Int32) dX3_best_21 (by decide) ?_
      refine s_istore_n [(3, .int (0 : Int32)), (2, .int (0 : Int32)), (0, .ref p0), (1, .int p1)] dX3_best_22 (by decide) (by decide) rfl ?_
      exact sX3_best_L23 G n K hK p0 p1 n (0 : Int32) (0 : Int32) h6
    · refine s_iconst (-1 : Int32) dX3_best_17 (by decide) ?_
      exact s_iret dX3_best_18 rfl rfl
