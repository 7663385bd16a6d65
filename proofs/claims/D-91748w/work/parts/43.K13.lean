set_option maxRecDepth 100000
theorem hyX3_isAhead : yX3_isAhead.cls ≠ "java/lang/invoke/MethodHandle" ∧ yX3_isAhead.cls ≠ "java/lang/invoke/VarHandle" ∧ (parseMethodDescriptor yX3_isAhead.desc).map (fun d => d.parameters.length) = some 4 := by decide +kernel
theorem kX3_isAhead (G : Gl) (n : Nat) (K : Nat → Nat) (hK : K = G.ad) (p0 : Nat) (p1 : Int32) (p2 : Int32) (p3 : Int32) (p4 : Int32) (h : AH) : OkM G yX3_isAhead cX3_isAhead 6 (some .boolean) 1 cvI [.ref p0, .int p1, .int p2, .int p3, .int p4] h (F_X3_isAhead n K p0 p1 p2 p3 p4 h) := by
  refine ok_of_sim [(0, .ref p0), (1, .int p1), (2, .int p2), (3, .int p3), (4, .int p4)] (by decide +kernel) (fun r => ⟨_, rfl⟩) (by simp [uns, lv_args, lg_sl, catI, catL, catA, va_rfc]) (by simp [uns, lv_args, lg_sl, catI, catL, catA, va_rfc]) (by simp [uns, lv_args, lg_sl, catI, catL, catA, va_rfc]) ?_
  unfold F_X3_isAhead
  refine s_iload_n dX3_isAhead_0 1 rfl ?_
  refine s_jn (fun j2 => ∀ (x1 : Int32), Sim G yX3_isAhead.cls yX3_isAhead.name cX3_isAhead 6 (some .boolean) 1 cvI 9 [(0, .ref p0), (1, .int p1), (2, .int p2), (3, .int p3), (4, .int p4)] [.int x1] h (j2 x1)) ?_ (fun j2 hj25 => ?_)
  · intro x1
    refine s_aload_n dX3_isAhead_9 0 rfl ?_
    refine s_chk (fun hk3 => ?_)
    refine s_get (j := 24) 4 (va_rf (h.R p0 24)) dX3_isAhead_10 hk3 rfl (by decide) q1261 (Or.inl rfl) rfl ?_
    refine s_iload dX3_isAhead_13 4 rfl (by decide) ?_
    refine s_ob (r := h.R p0 24) (fun z => [(0, .ref p0), (1, .int p1), (2, .int p2), (3, .int p3), (4, .int p4)]) (fun z => [.int p4, z, .int x1]) (fun a4 => ?_)
    refine s_chk (fun hk5 => ?_)
    refine s_chk (fun hi6 => ?_)
    refine s_iald dX3_isAhead_15 hk5 rfl hi6 ?_
    refine s_jn (fun j8 => ∀ (x7 : Int32), Sim G yX3_isAhead.cls yX3_isAhead.name cX3_isAhead 6 (some .boolean) 1 cvI 24 [(0, .ref p0), (1, .int p1), (2, .int p2), (3, .int p3), (4, .int p4)] [.int x7, .int x1] h (j8 x7)) ?_ (fun j8 hj23 => ?_)
    · intro x7
      refine s_icmp_eq 37 dX3_isAhead_24 (by decide) (fun c9 => ?_) (fun c9 => ?_)
      · refine s_iload_n dX3_isAhead_37 2 rfl ?_
        refine s_aload_n dX3_isAhead_38 0 rfl ?_
        refine s_get (j := 24) 4 (va_rf (h.R p0 24)) dX3_isAhead_39 hk3 rfl (by decide) q1261 (Or.inl rfl) rfl ?_
        refine s_iload dX3_isAhead_42 4 rfl (by decide) ?_
        refine s_ob (r := h.R p0 24) (fun z => [(0, .ref p0), (1, .int p1), (2, .int p2), (3, .int p3), (4, .int p4)]) (fun z => [.int p4, z, .int p2]) (fun a10 => ?_)
        refine s_chk (fun hk11 => ?_)
        refine s_chk (fun hi12 => ?_)
        refine s_iald dX3_isAhead_44 hk11 rfl hi12 ?_
        refine s_imul dX3_isAhead_45 ?_
        refine s_aload_n dX3_isAhead_46 0 rfl ?_
        refine s_get (j := 25) 4 (va_rf (h.R p0 25)) dX3_isAhead_47 hk3 rfl (by decide) q1262 (Or.inl rfl) rfl ?_
        refine s_iload dX3_isAhead_50 4 rfl (by decide) ?_
        refine s_ob (r := h.R p0 25) (fun z => [(0, .ref p0), (1, .int p1), (2, .int p2), (3, .int p3), (4, .int p4)]) (fun z => [.int p4, z, .int (p2 * (h.I a10 (ix p4)))]) (fun a13 => ?_)
        refine s_chk (fun hk14 => ?_)
        refine s_chk (fun hi15 => ?_)
        refine s_iald dX3_isAhead_52 hk14 rfl hi15 ?_
        refine s_iload_n dX3_isAhead_53 1 rfl ?_
        refine s_imul dX3_isAhead_54 ?_
        refine s_isub dX3_isAhead_55 ?_
        refine s_istore [(5, .int ((p2 * (h.I a10 (ix p4))) - ((h.I a13 (ix p4)) * p1))), (0, .ref p0), (1, .int p1), (2, .int p2), (3, .int p3), (4, .int p4)] dX3_isAhead_56 (by decide) (by decide) rfl ?_
        refine s_iload dX3_isAhead_58 0 rfl (by decide) ?_
        refine s_if_eq 76 dX3_isAhead_60 (by decide) (fun c16 => ?_) (fun c16 => ?_)
        · refine s_iload_n dX3_isAhead_76 4 rfl ?_
          refine s_aload_n dX3_isAhead_77 1 rfl ?_
          refine s_get (j := 26) 4 (va_rf (h.R p0 26)) dX3_isAhead_78 hk3 rfl (by decide) q1263 (Or.inl rfl) rfl ?_
          refine s_iload dX3_isAhead_81 5 rfl (by decide) ?_
          refine s_ob (r := h.R p0 26) (fun z => [(5, .int ((p2 * (h.I a10 (ix p4))) - ((h.I a13 (ix p4)) * p1))), (0, .ref p0), (1, .int p1), (2, .int p2), (3, .int p3), (4, .int p4)]) (fun z => [.int p4, z, .int p3]) (fun a17 => ?_)
          refine s_chk (fun hk18 => ?_)
          refine s_chk (fun hi19 => ?_)
          refine s_iald dX3_isAhead_83 hk18 rfl hi19 ?_
          refine s_icmp_ge 91 dX3_isAhead_84 (by decide) (fun c20 => ?_) (fun c20 => ?_)
          · refine s_iconst (0 : Int32) dX3_isAhead_91 (by decide) ?_
            exact s_zret dX3_isAhead_92 rfl rfl rfl
          · refine s_iconst (1 : Int32) dX3_isAhead_87 (by decide) ?_
            refine s_goto 92 dX3_isAhead_88 (by decide) ?_
            exact s_zret dX3_isAhead_92 rfl rfl rfl
        · refine s_iload dX3_isAhead_63 0 rfl (by decide) ?_
          refine s_if_ge 72 dX3_isAhead_65 (by decide) (fun c21 => ?_) (fun c21 => ?_)
          · refine s_iconst (0 : Int32) dX3_isAhead_72 (by decide) ?_
            refine s_goto 92 dX3_isAhead_73 (by decide) ?_
            exact s_zret dX3_isAhead_92 rfl rfl rfl
          · refine s_iconst (1 : Int32) dX3_isAhead_68 (by decide) ?_
            refine s_goto 92 dX3_isAhead_69 (by decide) ?_
            exact s_zret dX3_isAhead_92 rfl rfl rfl
      · refine s_iload_n dX3_isAhead_27 1 rfl ?_
        refine s_if_eq 35 dX3_isAhead_28 (by decide) (fun c22 => ?_) (fun c22 => ?_)
        · refine s_iconst (0 : Int32) dX3_isAhead_35 (by decide) ?_
          exact s_zret dX3_isAhead_36 rfl rfl rfl
        · refine s_iconst (1 : Int32) dX3_isAhead_31 (by decide) ?_
          refine s_goto 36 dX3_isAhead_32 (by decide) ?_
          exact s_zret dX3_isAhead_36 rfl rfl rfl
    refine s_if_ne 23 dX3_isAhead_16 (by decide) (fun c24 => ?_) (fun c24 => ?_)
    · refine s_iconst (0 : Int32) dX3_isAhead_23 (by decide) ?_
      exact hj23 (0 : Int32)
    · refine s_iconst (1 : Int32) dX3_isAhead_19 (by decide) ?_
      refine s_goto 24 dX3_isAhead_20 (by decide) ?_
      exact hj23 (1 : Int32)
  refine s_if_ne 8 dX3_isAhead_1 (by decide) (fun c26 => ?_) (fun c26 => ?_)
  · refine s_iconst (0 : Int32) dX3_isAhead_8 (by decide) ?_
    exact hj25 (0 : Int32)
  · refine s_iconst (1 : Int32) dX3_isAhead_4 (by decide) ?_
    refine s_goto 9 dX3_isAhead_5 (by decide) ?_
    exact hj25 (1 : Int32)
theorem hyX3_addsLine : yX3_addsLine.cls ≠ "java/lang/invoke/MethodHandle" ∧ yX3_addsLine.cls ≠ "java/lang/invoke/VarHandle" ∧ (parseMethodDescriptor yX3_addsLine.desc).map (fun d => d.parameters.length) = some 3 := by decide +kernel
theorem sX3_addsLine_L3 (G : Gl) (n : Nat) (K : Nat → Nat) (hK : K = G.ad) (y3 : Nat) (y4 : Int32) (y5 : Int32) (y6 : Int32) (h : AH) : ∀ (f : Nat) (x2 : Int32) (k : Option (Unit × AH)) (hk : Sim G yX3_addsLine.cls yX3_addsLine.name cX3_addsLine 5 none 2 cvV 52 [(0, .ref y3), (1, .int y4), (2, .int y5), (3, .int y6)] [] h (k)), Sim G yX3_addsLine.cls yX3_addsLine.name cX3_addsLine 5 none 2 cvV 3 [(4, .int x2), (0, .ref y3), (1, .int y4), (2, .int y5), (3, .int y6)] [] h (F_X3_addsLine_L3 n K y3 y4 y5 y6 h f x2 k) := by
  intro f
  induction f with
  | zero =>
    intro x2 k hk
    exact s_none
  | succ f ih =>
    intro x2 k hk
    unfold F_X3_addsLine_L3
    refine s_iload dX3_addsLine_3 0 rfl (by decide) ?_
    refine s_aload_n dX3_addsLine_5 1 rfl ?_
    refine s_chk (fun hk7 => ?_)
    refine s_get (j := 27) 4 (.int (h.I y3 27)) dX3_addsLine_6 hk7 rfl (by decide) q1264 (Or.inl rfl) rfl ?_
    refine s_icmp_ge 52 dX3_addsLine_9 (by decide) (fun c8 => ?_) (fun c8 => ?_)
    · refine s_sub [1, 2, 3, 4] rfl ?_
      exact hk
    · refine s_aload_n dX3_addsLine_12 1 rfl ?_
      refine s_get (j := 24) 4 (va_rf (h.R y3 24)) dX3_addsLine_13 hk7 rfl (by decide) q1261 (Or.inl rfl) rfl ?_
      refine s_iload dX3_addsLine_16 0 rfl (by decide) ?_
      refine s_ob (r := h.R y3 24) (fun z => [(4, .int x2), (0, .ref y3), (1, .int y4), (2, .int y5), (3, .int y6)]) (fun z => [.int x2, z]) (fun a9 => ?_)
      refine s_chk (fun hk10 => ?_)
      refine s_chk (fun hi11 => ?_)
      refine s_iald dX3_addsLine_18 hk10 rfl hi11 ?_
      refine s_iload_n dX3_addsLine_19 2 rfl ?_
      refine s_icmp_ne 46 dX3_addsLine_20 (by decide) (fun c12 => ?_) (fun c12 => ?_)
      · refine s_iinc (1 : Int32) [(4, .int (x2 + (1 : Int32))), (0, .ref y3), (1, .int y4), (2, .int y5), (3, .int y6)] dX3_addsLine_46 0 rfl (by decide) (by decide) (by decide) rfl ?_
        refine s_goto 3 dX3_addsLine_49 (by decide) ?_
        exact ih (x2 + (1 : Int32)) k hk
      · refine s_aload_n dX3_addsLine_23 1 rfl ?_
        refine s_get (j := 25) 4 (va_rf (h.R y3 25)) dX3_addsLine_24 hk7 rfl (by decide) q1262 (Or.inl rfl) rfl ?_
        refine s_iload dX3_addsLine_27 0 rfl (by decide) ?_
        refine s_ob (r := h.R y3 25) (fun z => [(4, .int x2), (0, .ref y3), (1, .int y4), (2, .int y5), (3, .int y6)]) (fun z => [.int x2, z]) (fun a13 => ?_)
        refine s_chk (fun hk14 => ?_)
        refine s_chk (fun hi15 => ?_)
        refine s_iald dX3_addsLine_29 hk14 rfl hi15 ?_
        refine s_iload_n dX3_addsLine_30 3 rfl ?_
        refine s_icmp_ne 46 dX3_addsLine_31 (by decide) (fun c16 => ?_) (fun c16 => ?_)
        · refine s_iinc (1 : Int32) [(4, .int (x2 + (1 : Int32))), (0, .ref y3), (1, .int y4), (2, .int y5), (3, .int y6)] dX3_addsLine_46 0 rfl (by decide) (by decide) (by decide) rfl ?_
          refine s_goto 3 dX3_addsLine_49 (by decide) ?_
          exact ih (x2 + (1 : Int32)) k hk
        · refine s_aload_n dX3_addsLine_34 1 rfl ?_
          refine s_get (j := 26) 4 (va_rf (h.R y3 26)) dX3_addsLine_35 hk7 rfl (by decide) q1263 (Or.inl rfl) rfl ?_
          refine s_iload dX3_addsLine_38 0 rfl (by decide) ?_
          refine s_ob (r := h.R y3 26) (fun z => [(4, .int x2), (0, .ref y3), (1, .int y4), (2, .int y5), (3, .int y6)]) (fun z => [.int x2, z]) (fun a17 => ?_)
          refine s_chk (fun hk18 => ?_)
          refine s_chk (fun hi19 => ?_)
          refine s_iald dX3_addsLine_40 hk18 rfl hi19 ?_
          refine s_iload_n dX3_addsLine_41 4 rfl ?_
          refine s_icmp_ne 46 dX3_addsLine_42 (by decide) (fun c20 => ?_) (fun c20 => ?_)
          · refine s_iinc (1 : Int32) [(4, .int (x2 + (1 : Int32))), (0, .ref y3), (1, .int y4), (2, .int y5), (3, .int y6)] dX3_addsLine_46 0 rfl (by decide) (by decide) (by decide) rfl ?_
            refine s_goto 3 dX3_addsLine_49 (by decide) ?_
            exact ih (x2 + (1 : Int32)) k hk
          · exact s_vret dX3_addsLine_45 rfl rfl
theorem sX3_addsLine_L58 (G : Gl) (n : Nat) (K : Nat → Nat) (hK : K = G.ad) (y24 : Nat) (y25 : Int32) (y26 : Int32) (y27 : Int32) : ∀ (f : Nat) (x23 : Int32) (h : AH), Sim G yX3_addsLine.cls yX3_addsLine.name cX3_addsLine 5 none 2 cvV 58 [(4, .int x23), (0, .ref y24), (1, .int y25), (2, .int y26), (3, .int y27)] [] h (F_X3_addsLine_L58 n K y24 y25 y26 y27 f x23 h) := by
  intro f
  induction f with
  | zero =>
    intro x23 h
    exact s_none
  | succ f ih =>
    intro x23 h
    unfold F_X3_addsLine_L58
    refine s_iload dX3_addsLine_58 0 rfl (by decide) ?_
    refine s_jn (fun j29 => ∀ (h28 : AH), Sim G yX3_addsLine.cls yX3_addsLine.name cX3_addsLine 5 none 2 cvV 131 [(4, .int x23), (0, .ref y24), (1, .int y25), (2, .int y26), (3, .int y27)] [] h28 (j29 h28)) ?_ (fun j29 hj48 => ?_)
    · intro h28
      refine s_aload_n dX3_addsLine_131 1 rfl ?_
      refine s_chk (fun hk30 => ?_)
      refine s_get (j := 24) 4 (va_rf (h28.R y24 24)) dX3_addsLine_132 hk30 rfl (by decide) q1261 (Or.inl rfl) rfl ?_
      refine s_iload dX3_addsLine_135 0 rfl (by decide) ?_
      refine s_iload_n dX3_addsLine_137 2 rfl ?_
      refine s_ob (r := h28.R y24 24) (fun z => [(4, .int x23), (0, .ref y24), (1, .int y25), (2, .int y26), (3, .int y27)]) (fun z => [.int y25, .int x23, z]) (fun a31 => ?_)
      refine s_chk (fun hk32 => ?_)
      refine s_chk (fun hi33 => ?_)
      refine s_iast dX3_addsLine_138 hk32 rfl (by decide) hi33 ?_
      refine s_hl (fun h34 e35 => ?_)
      refine s_aload_n dX3_addsLine_139 1 rfl ?_
      refine s_get (j := 25) 4 (va_rf (h34.R y24 25)) dX3_addsLine_140 (show h34.kind y24 = 5 by rw [e35]; exact hk30) rfl (by decide) q1262 (Or.inl rfl) rfl ?_
      refine s_iload dX3_addsLine_143 0 rfl (by decide) ?_
      refine s_iload_n dX3_addsLine_145 3 rfl ?_
      refine s_ob (r := h34.R y24 25) (fun z => [(4, .int x23), (0, .ref y24), (1, .int y25), (2, .int y26), (3, .int y27)]) (fun z => [.int y26, .int x23, z]) (fun a36 => ?_)
      refine s_chk (fun hk37 => ?_)
      refine s_chk (fun hi38 => ?_)
      refine s_iast dX3_addsLine_146 hk37 rfl (by decide) hi38 ?_
      refine s_hl (fun h39 e40 => ?_)
      refine s_aload_n dX3_addsLine_147 1 rfl ?_
      refine s_get (j := 26) 4 (va_rf (h39.R y24 26)) dX3_addsLine_148 (show h39.kind y24 = 5 by rw [e40, e35]; exact hk30) rfl (by decide) q1263 (Or.inl rfl) rfl ?_
      refine s_iload dX3_addsLine_151 0 rfl (by decide) ?_
      refine s_iload_n dX3_addsLine_153 4 rfl ?_
      refine s_ob (r := h39.R y24 26) (fun z => [(4, .int x23), (0, .ref y24), (1, .int y25), (2, .int y26), (3, .int y27)]) (fun z => [.int y27, .int x23, z]) (fun a41 => ?_)
      refine s_chk (fun hk42 => ?_)
      refine s_chk (fun hi43 => ?_)
      refine s_iast dX3_addsLine_154 hk42 rfl (by decide) hi43 ?_
      refine s_hl (fun h44 e45 => ?_)
      refine s_aload_n dX3_addsLine_155 1 rfl ?_
      refine s_dup dX3_addsLine_156 rfl ?_
      refine s_get (j := 27) 4 (.int (h44.I y24 27)) dX3_addsLine_157 (show h44.kind y24 = 5 by rw [e45, e40, e35]; exact hk30) rfl (by decide) q1264 (Or.inl rfl) rfl ?_
      refine s_iconst (1 : Int32) dX3_addsLine_160 (by decide) ?_
      refine s_iadd dX3_addsLine_161 ?_
      refine s_put (j := 27) 4 (v := .int ((h44.I y24 27) + (1 : Int32))) dX3_addsLine_162 (show h44.kind y24 = 5 by rw [e45, e40, e35]; exact hk30) rfl (by decide) q1264 (Or.inl rfl) rfl rfl rfl (Upd.i (fun _ => rfl)) ?_
      refine s_hl (fun h46 e47 => ?_)
      exact s_vret dX3_addsLine_165 rfl rfl
    refine s_if_le 131 dX3_addsLine_60 (by decide) (fun c49 => ?_) (fun c49 => ?_)
    · exact hj48 h
    · refine s_aload_n dX3_addsLine_63 1 rfl ?_
      refine s_iload_n dX3_addsLine_64 2 rfl ?_
      refine s_iload_n dX3_addsLine_65 3 rfl ?_
      refine s_iload_n dX3_addsLine_66 4 rfl ?_
      refine s_iload dX3_addsLine_67 0 rfl (by decide) ?_
      refine s_iconst (1 : Int32) dX3_addsLine_69 (by decide) ?_
      refine s_isub dX3_addsLine_70 ?_
      refine s_chk (fun hk52 => ?_)
      refine s_callV_I 4 (kX3_isAhead G n K hK y24 y25 y26 y27 (x23 - (1 : Int32)) h) (by decide) (by decide) dX3_addsLine_71 hk52 rfl rfl q1580 q1582 qs78 q109 q1583 hyX3_isAhead rfl rfl (Nat.le_of_ble_eq_true rfl) (fun r50 h51 => ?_)
      refine s_if_eq 131 dX3_addsLine_74 (by decide) (fun c53 => ?_) (fun c53 => ?_)
      · exact hj48 h51
      · refine s_aload_n dX3_addsLine_77 1 rfl ?_
        refine s_chk (fun hk54 => ?_)
        refine s_get (j := 24) 4 (va_rf (h51.R y24 24)) dX3_addsLine_78 hk54 rfl (by decide) q1261 (Or.inl rfl) rfl ?_
        refine s_iload dX3_addsLine_81 0 rfl (by decide) ?_
        refine s_aload_n dX3_addsLine_83 1 rfl ?_
        refine s_get (j := 24) 4 (va_rf (h51.R y24 24)) dX3_addsLine_84 hk54 rfl (by decide) q1261 (Or.inl rfl) rfl ?_
        refine s_iload dX3_addsLine_87 0 rfl (by decide) ?_
        refine s_iconst (1 : Int32) dX3_addsLine_89 (by decide) ?_
        refine s_isub dX3_addsLine_90 ?_
        refine s_ob (r := h51.R y24 24) (fun z => [(4, .int x23), (0, .ref y24), (1, .int y25), (2, .int y26), (3, .int y27)]) (fun z => [.int (x23 - (1 : Int32)), z, .int x23, z]) (fun a55 => ?_)
        refine s_chk (fun hk56 => ?_)
        refine s_chk (fun hi57 => ?_)
        refine s_iald dX3_addsLine_91 hk56 rfl hi57 ?_
        refine s_chk (fun hi58 => ?_)
        refine s_iast dX3_addsLine_92 hk56 rfl (by decide) hi58 ?_
        refine s_hl (fun h59 e60 => ?_)
        refine s_aload_n dX3_addsLine_93 1 rfl ?_
        refine s_get (j := 25) 4 (va_rf (h59.R y24 25)) dX3_addsLine_94 (show h59.kind y24 = 5 by rw [e60]; exact hk54) rfl (by decide) q1262 (Or.inl rfl) rfl ?_
        refine s_iload dX3_addsLine_97 0 rfl (by decide) ?_
        refine s_aload_n dX3_addsLine_99 1 rfl ?_
        refine s_get (j := 25) 4 (va_rf (h59.R y24 25)) dX3_addsLine_100 (show h59.kind y24 = 5 by rw [e60]; exact hk54) rfl (by decide) q1262 (Or.inl rfl) rfl ?_
        refine s_iload dX3_addsLine_103 0 rfl (by decide) ?_
        refine s_iconst (1 : Int32) dX3_addsLine_105 (by decide) ?_
        refine s_isub dX3_addsLine_106 ?_
        refine s_ob (r := h59.R y24 25) (fun z => [(4, .int x23), (0, .ref y24), (1, .int y25), (2, .int y26), (3, .int y27)]) (fun z => [.int (x23 - (1 : Int32)), z, .int x23, z]) (fun a61 => ?_)
        refine s_chk (fun hk62 => ?_)
        refine s_chk (fun hi63 => ?_)
        refine s_iald dX3_addsLine_107 hk62 rfl hi63 ?_
        refine s_chk (fun hi64 => ?_)
        refine s_iast dX3_addsLine_108 hk62 rfl (by decide) hi64 ?_
        refine s_hl (fun h65 e66 => ?_)
        refine s_aload_n dX3_addsLine_109 1 rfl ?_
        refine s_get (j := 26) 4 (va_rf (h65.R y24 26)) dX3_addsLine_110 (show h65.kind y24 = 5 by rw [e66, e60]; exact hk54) rfl (by decide) q1263 (Or.inl rfl) rfl ?_
        refine s_iload dX3_addsLine_113 0 rfl (by decide) ?_
        refine s_aload_n dX3_addsLine_115 1 rfl ?_
        refine s_get (j := 26) 4 (va_rf (h65.R y24 26)) dX3_addsLine_116 (show h65.kind y24 = 5 by rw [e66, e60]; exact hk54) rfl (by decide) q1263 (Or.inl rfl) rfl ?_
        refine s_iload dX3_addsLine_119 0 rfl (by decide) ?_
        refine s_iconst (1 : Int32) dX3_addsLine_121 (by decide) ?_
        refine s_isub dX3_addsLine_122 ?_
        refine s_ob (r := h65.R y24 26) (fun z => [(4, .int x23), (0, .ref y24), (1, .int y25), (2, .int y26), (3, .int y27)]) (fun z => [.int (x23 - (1 : Int32)), z, .int x23, z]) (fun a67 => ?_)
        refine s_chk (fun hk68 => ?_)
        refine s_chk (fun hi69 => ?_)
        refine s_iald dX3_addsLine_123 hk68 rfl hi69 ?_
        refine s_chk (fun hi70 => ?_)
        refine s_iast dX3_addsLine_124 hk68 rfl (by decide) hi70 ?_
        refine s_hl (fun h71 e72 => ?_)
        refine s_iinc (-1 : Int32) [(4, .int (x23 + (-1 : Int32))), (0, .ref y24), (1, .int y25), (2, .int y26), (3, .int y27)] dX3_addsLine_125 0 rfl (by decide) (by decide) (by decide) rfl ?_
        refine s_goto 58 dX3_addsLine_128 (by decide) ?_
        exact ih (x23 + (-1 : Int32)) h71
theorem kX3_addsLine (G : Gl) (n : Nat) (K : Nat → Nat) (hK : K = G.ad) (p0 : Nat) (p1 : Int32) (p2 : Int32) (p3 : Int32) (h : AH) : OkM G yX3_addsLine cX3_addsLine 5 none 2 cvV [.ref p0, .int p1, .int p2, .int p3] h (F_X3_addsLine n K p0 p1 p2 p3 h) := by
  refine ok_of_sim [(0, .ref p0), (1, .int p1), (2, .int p2), (3, .int p3)] (by decide +kernel) (fun r => ⟨_, rfl⟩) (by simp [uns, lv_args, lg_sl, catI, catL, catA, va_rfc]) (by simp [uns, lv_args, lg_sl, catI, catL, catA, va_rfc]) (by simp [uns, lv_args, lg_sl, catI, catL, catA, va_rfc]) ?_
  unfold F_X3_addsLine
  refine s_iconst (0 : Int32) dX3_addsLine_0 (by decide) ?_
  refine s_istore [(4, .int (0 : Int32)), (0, .ref p0), (1, .int p1), (2, .int p2), (3, .int p3)] dX3_addsLine_1 (by decide) (by decide) rfl ?_
  refine sX3_addsLine_L3 G n K hK p0 p1 p2 p3 h n (0 : Int32) _ ?_
  refine s_aload_n dX3_addsLine_52 0 rfl ?_
  refine s_chk (fun hk21 => ?_)
  refine s_get (j := 27) 4 (.int (h.I p0 27)) dX3_addsLine_53 hk21 rfl (by decide) q1264 (Or.inl rfl) rfl ?_
  refine s_istore [(4, .int (h.I p0 27)), (0, .ref p0), (1, .int p1), (2, .int p2), (3, .int p3)] dX3_addsLine_56 (by decide) (by decide) rfl ?_
  exact sX3_addsLine_L58 G n K hK p0 p1 p2 p3 n (h.I p0 27) h
theorem hyX3_through : yX3_through.cls ≠ "java/lang/invoke/MethodHandle" ∧ yX3_through.cls ≠ "java/lang/invoke/VarHandle" ∧ (parseMethodDescriptor yX3_through.desc).map (fun d => d.parameters.length) = some 2 := by decide +kernel
theorem kX3_through (G : Gl) (n : Nat) (K : Nat → Nat) (hK : K = G.ad) (p0 : Nat) (p1 : Int32) (p2 : Int32) (h : AH) : OkM G yX3_through cX3_through 7 none 4 cvV [.ref p0, .int p1, .int p2] h (F_X3_through n K p0 p1 p2 h) := by
  refine ok_of_sim [(0, .ref p0), (1, .int p1), (2, .int p2)] (by decide +kernel) (fun r => ⟨_, rfl⟩) (by simp [uns, lv_args, lg_sl, catI, catL, catA, va_rfc]) (by simp [uns, lv_args, lg_sl, catI, catL, catA, va_rfc]) (by simp [uns, lv_args, lg_sl, catI, catL, catA, va_rfc]) ?_
  unfold F_X3_through
  refine s_aload_n dX3_through_0 0 rfl ?_
  refine s_chk (fun hk1 => ?_)
  refine s_get (j := 7) 4 (va_rf (h.R p0 7)) dX3_through_1 hk1 rfl (by decide) q1244 (Or.inl rfl) rfl ?_
  refine s_iconst (0 : Int32) dX3_through_4 (by decide) ?_
  refine s_ob (r := h.R p0 7) (fun z => [(0, .ref p0), (1, .int p1), (2, .int p2)]) (fun z => [.int (0 : Int32), z]) (fun a2 => ?_)
  refine s_chk (fun hk3 => ?_)
  refine s_chk (fun hi4 => ?_)
  refine s_aald dX3_through_5 hk3 rfl rfl rfl hi4 ?_
  refine s_iload_n dX3_through_6 2 rfl ?_
  refine s_ob (r := h.R a2 (ix (0 : Int32))) (fun z => [(0, .ref p0), (1, .int p1), (2, .int p2)]) (fun z => [.int p2, z]) (fun a5 => ?_)
  refine s_chk (fun hk6 => ?_)
  refine s_chk (fun hi7 => ?_)
  refine s_iald dX3_through_7 hk6 rfl hi7 ?_
  refine s_aload_n dX3_through_8 0 rfl ?_
  refine s_get (j := 7) 4 (va_rf (h.R p0 7)) dX3_through_9 hk1 rfl (by decide) q1244 (Or.inl rfl) rfl ?_
  refine s_iconst (0 : Int32) dX3_through_12 (by decide) ?_
  refine s_ob (r := h.R p0 7) (fun z => [(0, .ref p0), (1, .int p1), (2, .int p2)]) (fun z => [.int (0 : Int32), z, .int (h.I a5 (ix p2))]) (fun a8 => ?_)
  refine s_chk (fun hk9 => ?_)
  refine s_chk (fun hi10 => ?_)
  refine s_aald dX3_through_13 hk9 rfl rfl rfl hi10 ?_
  refine s_iload_n dX3_through_14 1 rfl ?_
  refine s_ob (r := h.R a8 (ix (0 : Int32))) (fun z => [(0, .ref p0), (1, .int p1), (2, .int p2)]) (fun z => [.int p1, z, .int (h.I a5 (ix p2))]) (fun a11 => ?_)
  refine s_chk (fun hk12 => ?_)
  refine s_chk (fun hi13 => ?_)
  refine s_iald dX3_through_15 hk12 rfl hi13 ?_
  refine s_isub dX3_through_16 ?_
  refine s_istore_n [(3, .int ((h.I a5 (ix p2)) - (h.I a11 (ix p1)))), (0, .ref p0), (1, .int p1), (2, .int p2)] dX3_through_17 (by decide) (by decide) rfl ?_
  refine s_aload_n dX3_through_18 1 rfl ?_
  refine s_get (j := 6) 4 (va_rf (h.R p0 6)) dX3_through_19 hk1 rfl (by decide) q1243 (Or.inl rfl) rfl ?_
  refine s_iconst (0 : Int32) dX3_through_22 (by decide) ?_
  refine s_ob (r := h.R p0 6) (fun z => [(3, .int ((h.I a5 (ix p2)) - (h.I a11 (ix p1)))), (0, .ref p0), (1, .int p1), (2, .int p2)]) (fun z => [.int (0 : Int32), z]) (fun a14 => ?_)
  refine s_chk (fun hk15 => ?_)
  refine s_chk (fun hi16 => ?_)
  refine s_aald dX3_through_23 hk15 rfl rfl rfl hi16 ?_
  refine s_iload_n dX3_through_24 2 rfl ?_
  refine s_ob (r := h.R a14 (ix (0 : Int32))) (fun z => [(3, .int ((h.I a5 (ix p2)) - (h.I a11 (ix p1)))), (0, .ref p0), (1, .int p1), (2, .int p2)]) (fun z => [.int p1, z]) (fun a17 => ?_)
  refine s_chk (fun hk18 => ?_)
  refine s_chk (fun hi19 => ?_)
  refine s_iald dX3_through_25 hk18 rfl hi19 ?_
  refine s_aload_n dX3_through_26 1 rfl ?_
  refine s_get (j := 6) 4 (va_rf (h.R p0 6)) dX3_through_27 hk1 rfl (by decide) q1243 (Or.inl rfl) rfl ?_
  refine s_iconst (0 : Int32) dX3_through_30 (by decide) ?_
  refine s_ob (r := h.R p0 6) (fun z => [(3, .int ((h.I a5 (ix p2)) - (h.I a11 (ix p1)))), (0, .ref p0), (1, .int p1), (2, .int p2)]) (fun z => [.int (0 : Int32), z, .int (h.I a17 (ix p1))]) (fun a20 => ?_)
  refine s_chk (fun hk21 => ?_)
  refine s_chk (fun hi22 => ?_)
  refine s_aald dX3_through_31 hk21 rfl rfl rfl hi22 ?_
  refine s_iload_n dX3_through_32 3 rfl ?_
  refine s_ob (r := h.R a20 (ix (0 : Int32))) (fun z => [(3, .int ((h.I a5 (ix p2)) - (h.I a11 (ix p1)))), (0, .ref p0), (1, .int p1), (2, .int p2)]) (fun z => [.int p2, z, .int (h.I a17 (ix p1))]) (fun a23 => ?_)
  refine s_chk (fun hk24 => ?_)
  refine s_chk (fun hi25 => ?_)
  refine s_iald dX3_through_33 hk24 rfl hi25 ?_
  refine s_isub dX3_through_34 ?_
  refine s_istore [(4, .int ((h.I a17 (ix p1)) - (h.I a23 (ix p2)))), (3, .int ((h.I a5 (ix p2)) - (h.I a11 (ix p1)))), (0, .ref p0), (1, .int p1), (2, .int p2)] dX3_through_35 (by decide) (by decide) rfl ?_
  refine s_iload_n dX3_through_37 1 rfl ?_
  refine s_jn (fun j26 => Sim G yX3_through.cls yX3_through.name cX3_through 7 none 4 cvV 47 [(4, .int ((h.I a17 (ix p1)) - (h.I a23 (ix p2)))), (3, .int ((h.I a5 (ix p2)) - (h.I a11 (ix p1)))), (0, .ref p0), (1, .int p1)] [] h (j26 )) ?_ (fun j26 hj56 => ?_)
  · skip
    refine s_iload_n dX3_through_47 1 rfl ?_
    refine s_i2l dX3_through_48 ?_
    refine s_iload dX3_through_49 0 rfl (by decide) ?_
    refine s_i2l dX3_through_51 ?_
    refine s_callS_L (kX3_gcd G n K hK (((h.I a5 (ix p2)) - (h.I a11 (ix p1))).toInt64) (((h.I a17 (ix p1)) - (h.I a23 (ix p2))).toInt64) h) (by decide) (by decide) dX3_through_52 q1569 q1570 q109 q1571 hyX3_gcd rfl rfl (Nat.le_of_ble_eq_true rfl) (fun r27 h28 => ?_)
    refine s_l2i dX3_through_55 ?_
    refine s_istore [(5, .int r27.toInt32), (4, .int ((h.I a17 (ix p1)) - (h.I a23 (ix p2)))), (3, .int ((h.I a5 (ix p2)) - (h.I a11 (ix p1)))), (0, .ref p0), (1, .int p1)] dX3_through_56 (by decide) (by decide) rfl ?_
    refine s_iload_n dX3_through_58 2 rfl ?_
    refine s_jn (fun j30 => ∀ (x29 : Int32), Sim G yX3_through.cls yX3_through.name cX3_through 7 none 4 cvV 76 [(4, .int ((h.I a17 (ix p1)) - (h.I a23 (ix p2)))), (3, .int ((h.I a5 (ix p2)) - (h.I a11 (ix p1)))), (0, .ref p0), (1, .int p1), (5, .int x29)] [] h28 (j30 x29)) ?_ (fun j30 hj52 => ?_)
    · intro x29
      refine s_iload_n dX3_through_76 1 rfl ?_
      refine s_iload dX3_through_77 4 rfl (by decide) ?_
      refine s_chk (fun hz31 => ?_)
      refine s_idiv dX3_through_79 hz31 ?_
      refine s_istore_n [(3, .int (((h.I a5 (ix p2)) - (h.I a11 (ix p1))) / x29)), (4, .int ((h.I a17 (ix p1)) - (h.I a23 (ix p2)))), (0, .ref p0), (1, .int p1), (5, .int x29)] dX3_through_80 (by decide) (by decide) rfl ?_
      refine s_iload dX3_through_81 1 rfl (by decide) ?_
      refine s_iload dX3_through_83 4 rfl (by decide) ?_
      refine s_chk (fun hz32 => ?_)
      refine s_idiv dX3_through_85 hz32 ?_
      refine s_istore [(4, .int (((h.I a17 (ix p1)) - (h.I a23 (ix p2))) / x29)), (3, .int (((h.I a5 (ix p2)) - (h.I a11 (ix p1))) / x29)), (0, .ref p0), (1, .int p1), (5, .int x29)] dX3_through_86 (by decide) (by decide) rfl ?_
      refine s_iload_n dX3_through_88 1 rfl ?_
      refine s_aload_n dX3_through_89 2 rfl ?_
      refine s_chk (fun hk33 => ?_)
      refine s_get (j := 6) 4 (va_rf (h28.R p0 6)) dX3_through_90 hk33 rfl (by decide) q1243 (Or.inl rfl) rfl ?_
      refine s_iconst (0 : Int32) dX3_through_93 (by decide) ?_
      refine s_ob (r := h28.R p0 6) (fun z => [(4, .int (((h.I a17 (ix p1)) - (h.I a23 (ix p2))) / x29)), (3, .int (((h.I a5 (ix p2)) - (h.I a11 (ix p1))) / x29)), (0, .ref p0), (1, .int p1), (5, .int x29)]) (fun z => [.int (0 : Int32), z, .int (((h.I a5 (ix p2)) - (h.I a11 (ix p1))) / x29)]) (fun a34 => ?_)
      refine s_chk (fun hk35 => ?_)
      refine s_chk (fun hi36 => ?_)
      refine s_aald dX3_through_94 hk35 rfl rfl rfl hi36 ?_
      refine s_iload_n dX3_through_95 3 rfl ?_
      refine s_ob (r := h28.R a34 (ix (0 : Int32))) (fun z => [(4, .int (((h.I a17 (ix p1)) - (h.I a23 (ix p2))) / x29)), (3, .int (((h.I a5 (ix p2)) - (h.I a11 (ix p1))) / x29)), (0, .ref p0), (1, .int p1), (5, .int x29)]) (fun z => [.int p1, z, .int (((h.I a5 (ix p2)) - (h.I a11 (ix p1))) / x29)]) (fun a37 => ?_)
      refine s_chk (fun hk38 => ?_)
      refine s_chk (fun hi39 => ?_)
      refine s_iald dX3_through_96 hk38 rfl hi39 ?_
      refine s_imul dX3_through_97 ?_
      refine s_iload dX3_through_98 0 rfl (by decide) ?_
      refine s_aload_n dX3_through_100 2 rfl ?_
      refine s_get (j := 7) 4 (va_rf (h28.R p0 7)) dX3_through_101 hk33 rfl (by decide) q1244 (Or.inl rfl) rfl ?_
      refine s_iconst (0 : Int32) dX3_through_104 (by decide) ?_
      refine s_ob (r := h28.R p0 7) (fun z => [(4, .int (((h.I a17 (ix p1)) - (h.I a23 (ix p2))) / x29)), (3, .int (((h.I a5 (ix p2)) - (h.I a11 (ix p1))) / x29)), (0, .ref p0), (1, .int p1), (5, .int x29)]) (fun z => [.int (0 : Int32), z, .int (((h.I a17 (ix p1)) - (h.I a23 (ix p2))) / x29), .int ((((h.I a5 (ix p2)) - (h.I a11 (ix p1))) / x29) * (h28.I a37 (ix p1)))]) (fun a40 => ?_)
      refine s_chk (fun hk41 => ?_)
      refine s_chk (fun hi42 => ?_)
      refine s_aald dX3_through_105 hk41 rfl rfl rfl hi42 ?_
      refine s_iload_n dX3_through_106 3 rfl ?_
      refine s_ob (r := h28.R a40 (ix (0 : Int32))) (fun z => [(4, .int (((h.I a17 (ix p1)) - (h.I a23 (ix p2))) / x29)), (3, .int (((h.I a5 (ix p2)) - (h.I a11 (ix p1))) / x29)), (0, .ref p0), (1, .int p1), (5, .int x29)]) (fun z => [.int p1, z, .int (((h.I a17 (ix p1)) - (h.I a23 (ix p2))) / x29), .int ((((h.I a5 (ix p2)) - (h.I a11 (ix p1))) / x29) * (h28.I a37 (ix p1)))]) (fun a43 => ?_)
      refine s_chk (fun hk44 => ?_)
      refine s_chk (fun hi45 => ?_)
      refine s_iald dX3_through_107 hk44 rfl hi45 ?_
      refine s_imul dX3_through_108 ?_
      refine s_iadd dX3_through_109 ?_
      refine s_istore [(6, .int (((((h.I a5 (ix p2)) - (h.I a11 (ix p1))) / x29) * (h28.I a37 (ix p1))) + ((((h.I a17 (ix p1)) - (h.I a23 (ix p2))) / x29) * (h28.I a43 (ix p1))))), (4, .int (((h.I a17 (ix p1)) - (h.I a23 (ix p2))) / x29)), (3, .int (((h.I a5 (ix p2)) - (h.I a11 (ix p1))) / x29)), (0, .ref p0), (1, .int p1), (5, .int x29)] dX3_through_110 (by decide) (by decide) rfl ?_
      refine s_aload_n dX3_through_112 3 rfl ?_
      refine s_iload_n dX3_through_113 2 rfl ?_
      refine s_iload dX3_through_114 1 rfl (by decide) ?_
      refine s_iload dX3_through_116 0 rfl (by decide) ?_
      refine s_callV_I 4 (kX3_halves G n K hK p0 (((h.I a5 (ix p2)) - (h.I a11 (ix p1))) / x29) (((h.I a17 (ix p1)) - (h.I a23 (ix p2))) / x29) (((((h.I a5 (ix p2)) - (h.I a11 (ix p1))) / x29) * (h28.I a37 (ix p1))) + ((((h.I a17 (ix p1)) - (h.I a23 (ix p2))) / x29) * (h28.I a43 (ix p1)))) h28) (by decide) (by decide) dX3_through_118 hk33 rfl rfl q1572 q1574 qs76 q109 q1575 hyX3_halves rfl rfl (Nat.le_of_ble_eq_true rfl) (fun r46 h47 => ?_)
      refine s_if_eq 133 dX3_through_121 (by decide) (fun c48 => ?_) (fun c48 => ?_)
      · exact s_vret dX3_through_133 rfl rfl
      · refine s_aload_n dX3_through_124 3 rfl ?_
        refine s_iload_n dX3_through_125 2 rfl ?_
        refine s_iload dX3_through_126 1 rfl (by decide) ?_
        refine s_iload dX3_through_128 0 rfl (by decide) ?_
        refine s_chk (fun hk51 => ?_)
        refine s_callV_V 4 (kX3_addsLine G n K hK p0 (((h.I a5 (ix p2)) - (h.I a11 (ix p1))) / x29) (((h.I a17 (ix p1)) - (h.I a23 (ix p2))) / x29) (((((h.I a5 (ix p2)) - (h.I a11 (ix p1))) / x29) * (h28.I a37 (ix p1))) + ((((h.I a17 (ix p1)) - (h.I a23 (ix p2))) / x29) * (h28.I a43 (ix p1)))) h47) (by decide) (by decide) dX3_through_130 hk51 rfl rfl q1576 q1578 qs77 q109 q1579 hyX3_addsLine rfl rfl (Nat.le_of_ble_eq_true rfl) (fun r49 h50 => ?_)
        exact s_vret dX3_through_133 rfl rfl
    refine s_if_lt 71 dX3_through_59 (by decide) (fun c53 => ?_) (fun c53 => ?_)
    · refine s_iload dX3_through_71 0 rfl (by decide) ?_
      refine s_ineg dX3_through_73 ?_
      refine s_istore [(5, .int (-r27.toInt32)), (4, .int ((h.I a17 (ix p1)) - (h.I a23 (ix p2)))), (3, .int ((h.I a5 (ix p2)) - (h.I a11 (ix p1)))), (0, .ref p0), (1, .int p1)] dX3_through_74 (by decide) (by decide) rfl ?_
      refine s_sub [1, 2, 3, 4, 0] rfl ?_
      exact hj52 (-r27.toInt32)
    · refine s_iload_n dX3_through_62 2 rfl ?_
      refine s_if_ne 76 dX3_through_63 (by decide) (fun c54 => ?_) (fun c54 => ?_)
      · refine s_sub [1, 2, 3, 4, 0] rfl ?_
        exact hj52 r27.toInt32
      · refine s_iload dX3_through_66 1 rfl (by decide) ?_
        refine s_if_ge 76 dX3_through_68 (by decide) (fun c55 => ?_) (fun c55 => ?_)
        · refine s_sub [1, 2, 3, 4, 0] rfl ?_
          exact hj52 r27.toInt32
        · refine s_iload dX3_through_71 0 rfl (by decide) ?_
          refine s_ineg dX3_through_73 ?_
          refine s_istore [(5, .int (-r27.toInt32)), (4, .int ((h.I a17 (ix p1)) - (h.I a23 (ix p2)))), (3, .int ((h.I a5 (ix p2)) - (h.I a11 (ix p1)))), (0, .ref p0), (1, .int p1)] dX3_through_74 (by decide) (by decide) rfl ?_
          refine s_sub [1, 2, 3, 4, 0] rfl ?_
          exact hj52 (-r27.toInt32)
  refine s_if_ne 47 dX3_through_38 (by decide) (fun c57 => ?_) (fun c57 => ?_)
  · refine s_sub [0, 1, 2, 3] rfl ?_
    exact hj56
  · refine s_iload dX3_through_41 0 rfl (by decide) ?_
    refine s_if_ne 47 dX3_through_43 (by decide) (fun c58 => ?_) (fun c58 => ?_)
    · refine s_sub [0, 1, 2, 3] rfl ?_
      exact hj56
    · exact s_vret dX3_through_46 rfl rfl
theorem hyX3_isMiddle : yX3_isMiddle.cls ≠ "java/lang/invoke/MethodHandle" ∧ yX3_isMiddle.cls ≠ "java/lang/invoke/VarHandle" ∧ (parseMethodDescriptor yX3_isMiddle.desc).map (fun d => d.parameters.length) = some 3 := by decide +kernel
theorem sX3_isMiddle_L84 (G : Gl) (n : Nat) (K : Nat → Nat) (hK : K = G.ad) (y35 : Int64) (y36 : Int64) (y37 : Int32) (y38 : Int32) (y39 : Nat) (y40 : Int64) (y41 : Int64) (y42 : Int64) : ∀ (f : Nat) (x30 : Int32) (x31 : Int32) (x32 : Int32) (x33 : Int32) (x34 : Int32) (h : AH) (k : Int32 → Int32 → Int32 → Int32 → AH → Option (Int32 × AH)) (hk : ∀ (x31 : Int32) (x32 : Int32) (x33 : Int32) (x34 : Int32) (h : AH), Sim G yX3_isMiddle.cls yX3_isMiddle.name cX3_isMiddle 27 (some .boolean) 3 cvI 235 [(16, .int x31), (15, .int x32), (14, .int x33), (13, .int x34), (8, .int y37), (7, .int y38), (0, .ref y39), (1001, .long y40), (1003, .long y41), (1005, .long y42)] [] h (k x31 x32 x33 x34 h)), Sim G yX3_isMiddle.cls yX3_isMiddle.name cX3_isMiddle 27 (some .boolean) 3 cvI 84 [(17, .int x30), (16, .int x31), (15, .int x32), (14, .int x33), (13, .int x34), (1011, .long y35), (1009, .long y36), (8, .int y37), (7, .int y38), (0, .ref y39), (1001, .long y40), (1003, .long y41), (1005, .long y42)] [] h (F_X3_isMiddle_L84 n K y35 y36 y37 y38 y39 y40 y41 y42 f x30 x31 x32 x33 x34 h k) := by
  intro f
  induction f with
  | zero =>
    intro x30 x31 x32 x33 x34 h k hk
    exact s_none
  | succ f ih =>
    intro x30 x31 x32 x33 x34 h k hk
    unfold F_X3_isMiddle_L84
    refine s_iload dX3_isMiddle_84 0 rfl (by decide) ?_
    refine s_aload_n dX3_isMiddle_86 9 rfl ?_
    refine s_chk (fun hk45 => ?_)
    refine s_callV_I 4 (kX3_voters G n K hK y39 h) (by decide) (by decide) dX3_isMiddle_87 hk45 rfl rfl q1475 q1477 qs62 q109 q1478 hyX3_voters rfl rfl (Nat.le_of_ble_eq_true rfl) (fun r43 h44 => ?_)
    refine s_icmp_ge 235 dX3_isMiddle_90 (by decide) (fun c46 => ?_) (fun c46 => ?_)
    · refine s_sub [1, 2, 3, 4, 7, 8, 9, 10, 11, 12] rfl ?_
      exact hk x31 x32 x33 x34 h44
    · refine s_lload dX3_isMiddle_93 12 rfl ?_
      refine s_aload_n dX3_isMiddle_95 9 rfl ?_
      refine s_chk (fun hk47 => ?_)
      refine s_get (j := 6) 4 (va_rf (h44.R y39 6)) dX3_isMiddle_96 hk47 rfl (by decide) q1243 (Or.inl rfl) rfl ?_
      refine s_iconst (0 : Int32) dX3_isMiddle_99 (by decide) ?_
      refine s_ob (r := h44.R y39 6) (fun z => [(17, .int x30), (16, .int x31), (15, .int x32), (14, .int x33), (13, .int x34), (1011, .long y35), (1009, .long y36), (8, .int y37), (7, .int y38), (0, .ref y39), (1001, .long y40), (1003, .long y41), (1005, .long y42)]) (fun z => [.int (0 : Int32), z, .long y42]) (fun a48 => ?_)
      refine s_chk (fun hk49 => ?_)
      refine s_chk (fun hi50 => ?_)
      refine s_aald dX3_isMiddle_100 hk49 rfl rfl rfl hi50 ?_
      refine s_iload dX3_isMiddle_101 0 rfl (by decide) ?_
      refine s_ob (r := h44.R a48 (ix (0 : Int32))) (fun z => [(17, .int x30), (16, .int x31), (15, .int x32), (14, .int x33), (13, .int x34), (1011, .long y35), (1009, .long y36), (8, .int y37), (7, .int y38), (0, .ref y39), (1001, .long y40), (1003, .long y41), (1005, .long y42)]) (fun z => [.int x30, z, .long y42]) (fun a51 => ?_)
      refine s_chk (fun hk52 => ?_)
      refine s_chk (fun hi53 => ?_)
      refine s_iald dX3_isMiddle_103 hk52 rfl hi53 ?_
      refine s_i2l dX3_isMiddle_104 ?_
      refine s_lmul dX3_isMiddle_105 ?_
      refine s_lload_n dX3_isMiddle_106 10 rfl ?_
      refine s_lsub dX3_isMiddle_107 ?_
      refine s_lstore [(1018, .long ((y42 * ((h44.I a51 (ix x30)).toInt64)) - y40)), (17, .int x30), (16, .int x31), (15, .int x32), (14, .int x33), (13, .int x34), (1011, .long y35), (1009, .long y36), (8, .int y37), (7, .int y38), (0, .ref y39), (1001, .long y40), (1003, .long y41), (1005, .long y42)] dX3_isMiddle_108 (by decide) (by decide) rfl ?_
      refine s_lload dX3_isMiddle_110 13 rfl ?_
      refine s_aload_n dX3_isMiddle_112 10 rfl ?_
      refine s_get (j := 7) 4 (va_rf (h44.R y39 7)) dX3_isMiddle_113 hk47 rfl (by decide) q1244 (Or.inl rfl) rfl ?_
      refine s_iconst (0 : Int32) dX3_isMiddle_116 (by decide) ?_
      refine s_ob (r := h44.R y39 7) (fun z => [(1018, .long ((y42 * ((h44.I a51 (ix x30)).toInt64)) - y40)), (17, .int x30), (16, .int x31), (15, .int x32), (14, .int x33), (13, .int x34), (1011, .long y35), (1009, .long y36), (8, .int y37), (7, .int y38), (0, .ref y39), (1001, .long y40), (1003, .long y41), (1005, .long y42)]) (fun z => [.int (0 : Int32), z, .long y42]) (fun a54 => ?_)
      refine s_chk (fun hk55 => ?_)
      refine s_chk (fun hi56 => ?_)
      refine s_aald dX3_isMiddle_117 hk55 rfl rfl rfl hi56 ?_
      refine s_iload dX3_isMiddle_118 1 rfl (by decide) ?_
      refine s_ob (r := h44.R a54 (ix (0 : Int32))) (fun z => [(1018, .long ((y42 * ((h44.I a51 (ix x30)).toInt64)) - y40)), (17, .int x30), (16, .int x31), (15, .int x32), (14, .int x33), (13, .int x34), (1011, .long y35), (1009, .long y36), (8, .int y37), (7, .int y38), (0, .ref y39), (1001, .long y40), (1003, .long y41), (1005, .long y42)]) (fun z => [.int x30, z, .long y42]) (fun a57 => ?_)
      refine s_chk (fun hk58 => ?_)
      refine s_chk (fun hi59 => ?_)
      refine s_iald dX3_isMiddle_120 hk58 rfl hi59 ?_
      refine s_i2l dX3_isMiddle_121 ?_
      refine s_lmul dX3_isMiddle_122 ?_
      refine s_lload_n dX3_isMiddle_123 12 rfl ?_
      refine s_lsub dX3_isMiddle_124 ?_
      refine s_lstore [(1020, .long ((y42 * ((h44.I a57 (ix x30)).toInt64)) - y41)), (1018, .long ((y42 * ((h44.I a51 (ix x30)).toInt64)) - y40)), (17, .int x30), (16, .int x31), (15, .int x32), (14, .int x33), (13, .int x34), (1011, .long y35), (1009, .long y36), (8, .int y37), (7, .int y38), (0, .ref y39), (1001, .long y40), (1003, .long y41), (1005, .long y42)] dX3_isMiddle_125 (by decide) (by decide) rfl ?_
      refine s_lload dX3_isMiddle_127 8 rfl ?_
      refine s_lload dX3_isMiddle_129 0 rfl ?_
      refine s_lmul dX3_isMiddle_131 ?_
      refine s_lload dX3_isMiddle_132 7 rfl ?_
      refine s_lload dX3_isMiddle_134 1 rfl ?_
      refine s_lmul dX3_isMiddle_136 ?_
      refine s_lsub dX3_isMiddle_137 ?_
      refine s_lstore [(1022, .long ((y36 * ((y42 * ((h44.I a57 (ix x30)).toInt64)) - y41)) - (y35 * ((y42 * ((h44.I a51 (ix x30)).toInt64)) - y40)))), (1020, .long ((y42 * ((h44.I a57 (ix x30)).toInt64)) - y41)), (1018, .long ((y42 * ((h44.I a51 (ix x30)).toInt64)) - y40)), (17, .int x30), (16, .int x31), (15, .int x32), (14, .int x33), (13, .int x34), (1011, .long y35), (1009, .long y36), (8, .int y37), (7, .int y38), (0, .ref y39), (1001, .long y40), (1003, .long y41), (1005, .long y42)] dX3_isMiddle_138 (by decide) (by decide) rfl ?_
      refine s_lload dX3_isMiddle_140 9 rfl ?_
      refine s_lload dX3_isMiddle_142 2 rfl ?_
      refine s_lmul dX3_isMiddle_144 ?_
      refine s_lload dX3_isMiddle_145 8 rfl ?_
      refine s_lload dX3_isMiddle_147 1 rfl ?_
      refine s_lmul dX3_isMiddle_149 ?_
      refine s_ladd dX3_isMiddle_150 ?_
      refine s_lstore [(1024, .long ((y36 * ((y42 * ((h44.I a51 (ix x30)).toInt64)) - y40)) + (y35 * ((y42 * ((h44.I a57 (ix x30)).toInt64)) - y41)))), (1022, .long ((y36 * ((y42 * ((h44.I a57 (ix x30)).toInt64)) - y41)) - (y35 * ((y42 * ((h44.I a51 (ix x30)).toInt64)) - y40)))), (1020, .long ((y42 * ((h44.I a57 (ix x30)).toInt64)) - y41)), (1018, .long ((y42 * ((h44.I a51 (ix x30)).toInt64)) - y40)), (17, .int x30), (16, .int x31), (15, .int x32), (14, .int x33), (13, .int x34), (1011, .long y35), (1009, .long y36), (8, .int y37), (7, .int y38), (0, .ref y39), (1001, .long y40), (1003, .long y41), (1005, .long y42)] dX3_isMiddle_151 (by decide) (by decide) rfl ?_
      refine s_aload_n dX3_isMiddle_153 13 rfl ?_
      refine s_get (j := 8) 4 (va_rf (h44.R y39 8)) dX3_isMiddle_154 hk47 rfl (by decide) q1245 (Or.inl rfl) rfl ?_
      refine s_iconst (0 : Int32) dX3_isMiddle_157 (by decide) ?_
      refine s_ob (r := h44.R y39 8) (fun z => [(1024, .long ((y36 * ((y42 * ((h44.I a51 (ix x30)).toInt64)) - y40)) + (y35 * ((y42 * ((h44.I a57 (ix x30)).toInt64)) - y41)))), (1022, .long ((y36 * ((y42 * ((h44.I a57 (ix x30)).toInt64)) - y41)) - (y35 * ((y42 * ((h44.I a51 (ix x30)).toInt64)) - y40)))), (1020, .long ((y42 * ((h44.I a57 (ix x30)).toInt64)) - y41)), (1018, .long ((y42 * ((h44.I a51 (ix x30)).toInt64)) - y40)), (17, .int x30), (16, .int x31), (15, .int x32), (14, .int x33), (13, .int x34), (1011, .long y35), (1009, .long y36), (8, .int y37), (7, .int y38), (0, .ref y39), (1001, .long y40), (1003, .long y41), (1005, .long y42)]) (fun z => [.int (0 : Int32), z]) (fun a60 => ?_)
      refine s_chk (fun hk61 => ?_)
      refine s_chk (fun hi62 => ?_)
      refine s_aald dX3_isMiddle_158 hk61 rfl rfl rfl hi62 ?_
      refine s_iload dX3_isMiddle_159 4 rfl (by decide) ?_
      refine s_ob (r := h44.R a60 (ix (0 : Int32))) (fun z => [(1024, .long ((y36 * ((y42 * ((h44.I a51 (ix x30)).toInt64)) - y40)) + (y35 * ((y42 * ((h44.I a57 (ix x30)).toInt64)) - y41)))), (1022, .long ((y36 * ((y42 * ((h44.I a57 (ix x30)).toInt64)) - y41)) - (y35 * ((y42 * ((h44.I a51 (ix x30)).toInt64)) - y40)))), (1020, .long ((y42 * ((h44.I a57 (ix x30)).toInt64)) - y41)), (1018, .long ((y42 * ((h44.I a51 (ix x30)).toInt64)) - y40)), (17, .int x30), (16, .int x31), (15, .int x32), (14, .int x33), (13, .int x34), (1011, .long y35), (1009, .long y36), (8, .int y37), (7, .int y38), (0, .ref y39), (1001, .long y40), (1003, .long y41), (1005, .long y42)]) (fun z => [.int x30, z]) (fun a63 => ?_)
      refine s_chk (fun hk64 => ?_)
      refine s_chk (fun hi65 => ?_)
      refine s_iald dX3_isMiddle_161 hk64 rfl hi65 ?_
      refine s_istore [(26, .int (h44.I a63 (ix x30))), (1024, .long ((y36 * ((y42 * ((h44.I a51 (ix x30)).toInt64)) - y40)) + (y35 * ((y42 * ((h44.I a57 (ix x30)).toInt64)) - y41)))), (1022, .long ((y36 * ((y42 * ((h44.I a57 (ix x30)).toInt64)) - y41)) - (y35 * ((y42 * ((h44.I a51 (ix x30)).toInt64)) - y40)))), (1020, .long ((y42 * ((h44.I a57 (ix x30)).toInt64)) - y41)), (1018, .long ((y42 * ((h44.I a51 (ix x30)).toInt64)) - y40)), (17, .int x30), (16, .int x31), (15, .int x32), (14, .int x33), (13, .int x34), (1011, .long y35), (1009, .long y36), (8, .int y37), (7, .int y38), (0, .ref y39), (1001, .long y40), (1003, .long y41), (1005, .long y42)] dX3_isMiddle_162 (by decide) (by decide) rfl ?_
      refine s_lload dX3_isMiddle_164 2 rfl ?_
      refine s_lconst (0 : Int64) dX3_isMiddle_166 (by decide) ?_
      refine s_lcmp dX3_isMiddle_167 ?_
      refine s_if_le 181 dX3_isMiddle_168 (by decide) (fun c66 => ?_) (fun c66 => ?_)
      · refine s_lload dX3_isMiddle_181 2 rfl ?_
        refine s_lconst (0 : Int64) dX3_isMiddle_183 (by decide) ?_
        refine s_lcmp dX3_isMiddle_184 ?_
        refine s_if_ge 198 dX3_isMiddle_185 (by decide) (fun c67 => ?_) (fun c67 => ?_)
        · refine s_lload dX3_isMiddle_198 1 rfl ?_
          refine s_lconst (0 : Int64) dX3_isMiddle_200 (by decide) ?_
          refine s_lcmp dX3_isMiddle_201 ?_
          refine s_if_le 215 dX3_isMiddle_202 (by decide) (fun c68 => ?_) (fun c68 => ?_)
          · refine s_lload dX3_isMiddle_215 1 rfl ?_
            refine s_lconst (0 : Int64) dX3_isMiddle_217 (by decide) ?_
            refine s_lcmp dX3_isMiddle_218 ?_
            refine s_if_ge 229 dX3_isMiddle_219 (by decide) (fun c69 => ?_) (fun c69 => ?_)
            · refine s_iinc (1 : Int32) [(17, .int (x30 + (1 : Int32))), (26, .int (h44.I a63 (ix x30))), (1024, .long ((y36 * ((y42 * ((h44.I a51 (ix x30)).toInt64)) - y40)) + (y35 * ((y42 * ((h44.I a57 (ix x30)).toInt64)) - y41)))), (1022, .long ((y36 * ((y42 * ((h44.I a57 (ix x30)).toInt64)) - y41)) - (y35 * ((y42 * ((h44.I a51 (ix x30)).toInt64)) - y40)))), (1020, .long ((y42 * ((h44.I a57 (ix x30)).toInt64)) - y41)), (1018, .long ((y42 * ((h44.I a51 (ix x30)).toInt64)) - y40)), (16, .int x31), (15, .int x32), (14, .int x33), (13, .int x34), (1011, .long y35), (1009, .long y36), (8, .int y37), (7, .int y38), (0, .ref y39), (1001, .long y40), (1003, .long y41), (1005, .long y42)] dX3_isMiddle_229 5 rfl (by decide) (by decide) (by decide) rfl ?_
              refine s_goto 84 dX3_isMiddle_232 (by decide) ?_
              refine s_sub [0, 6, 7, 8, 9, 10, 11, 12, 13, 14, 15, 16, 17] rfl ?_
              exact ih (x30 + (1 : Int32)) x31 x32 x33 x34 h44 k hk
            · refine s_iload dX3_isMiddle_222 6 rfl (by decide) ?_
              refine s_iload dX3_isMiddle_224 0 rfl (by decide) ?_
              refine s_iadd dX3_isMiddle_226 ?_
              refine s_istore [(16, .int (x31 + (h44.I a63 (ix x30)))), (26, .int (h44.I a63 (ix x30))), (1024, .long ((y36 * ((y42 * ((h44.I a51 (ix x30)).toInt64)) - y40)) + (y35 * ((y42 * ((h44.I a57 (ix x30)).toInt64)) - y41)))), (1022, .long ((y36 * ((y42 * ((h44.I a57 (ix x30)).toInt64)) - y41)) - (y35 * ((y42 * ((h44.I a51 (ix x30)).toInt64)) - y40)))), (1020, .long ((y42 * ((h44.I a57 (ix x30)).toInt64)) - y41)), (1018, .long ((y42 * ((h44.I a51 (ix x30)).toInt64)) - y40)), (17, .int x30), (15, .int x32), (14, .int x33), (13, .int x34), (1011, .long y35), (1009, .long y36), (8, .int y37), (7, .int y38), (0, .ref y39), (1001, .long y40), (1003, .long y41), (1005, .long y42)] dX3_isMiddle_227 (by decide) (by decide) rfl ?_
              refine s_iinc (1 : Int32) [(17, .int (x30 + (1 : Int32))), (16, .int (x31 + (h44.I a63 (ix x30)))), (26, .int (h44.I a63 (ix x30))), (1024, .long ((y36 * ((y42 * ((h44.I a51 (ix x30)).toInt64)) - y40)) + (y35 * ((y42 * ((h44.I a57 (ix x30)).toInt64)) - y41)))), (1022, .long ((y36 * ((y42 * ((h44.I a57 (ix x30)).toInt64)) - y41)) - (y35 * ((y42 * ((h44.I a51 (ix x30)).toInt64)) - y40)))), (1020, .long ((y42 * ((h44.I a57 (ix x30)).toInt64)) - y41)), (1018, .long ((y42 * ((h44.I a51 (ix x30)).toInt64)) - y40)), (15, .int x32), (14, .int x33), (13, .int x34), (1011, .long y35), (1009, .long y36), (8, .int y37), (7, .int y38), (0, .ref y39), (1001, .long y40), (1003, .long y41), (1005, .long y42)] dX3_isMiddle_229 6 rfl (by decide) (by decide) (by decide) rfl ?_
              refine s_goto 84 dX3_isMiddle_232 (by decide) ?_
              refine s_sub [0, 1, 7, 8, 9, 10, 11, 12, 13, 14, 15, 16, 17] rfl ?_
              exact ih (x30 + (1 : Int32)) (x31 + (h44.I a63 (ix x30))) x32 x33 x34 h44 k hk
          · refine s_iload dX3_isMiddle_205 7 rfl (by decide) ?_
            refine s_iload dX3_isMiddle_207 0 rfl (by decide) ?_
            refine s_iadd dX3_isMiddle_209 ?_
            refine s_istore [(15, .int (x32 + (h44.I a63 (ix x30)))), (26, .int (h44.I a63 (ix x30))), (1024, .long ((y36 * ((y42 * ((h44.I a51 (ix x30)).toInt64)) - y40)) + (y35 * ((y42 * ((h44.I a57 (ix x30)).toInt64)) - y41)))), (1022, .long ((y36 * ((y42 * ((h44.I a57 (ix x30)).toInt64)) - y41)) - (y35 * ((y42 * ((h44.I a51 (ix x30)).toInt64)) - y40)))), (1020, .long ((y42 * ((h44.I a57 (ix x30)).toInt64)) - y41)), (1018, .long ((y42 * ((h44.I a51 (ix x30)).toInt64)) - y40)), (17, .int x30), (16, .int x31), (14, .int x33), (13, .int x34), (1011, .long y35), (1009, .long y36), (8, .int y37), (7, .int y38), (0, .ref y39), (1001, .long y40), (1003, .long y41), (1005, .long y42)] dX3_isMiddle_210 (by decide) (by decide) rfl ?_
            refine s_goto 229 dX3_isMiddle_212 (by decide) ?_
            refine s_iinc (1 : Int32) [(17, .int (x30 + (1 : Int32))), (15, .int (x32 + (h44.I a63 (ix x30)))), (26, .int (h44.I a63 (ix x30))), (1024, .long ((y36 * ((y42 * ((h44.I a51 (ix x30)).toInt64)) - y40)) + (y35 * ((y42 * ((h44.I a57 (ix x30)).toInt64)) - y41)))), (1022, .long ((y36 * ((y42 * ((h44.I a57 (ix x30)).toInt64)) - y41)) - (y35 * ((y42 * ((h44.I a51 (ix x30)).toInt64)) - y40)))), (1020, .long ((y42 * ((h44.I a57 (ix x30)).toInt64)) - y41)), (1018, .long ((y42 * ((h44.I a51 (ix x30)).toInt64)) - y40)), (16, .int x31), (14, .int x33), (13, .int x34), (1011, .long y35), (1009, .long y36), (8, .int y37), (7, .int y38), (0, .ref y39), (1001, .long y40), (1003, .long y41), (1005, .long y42)] dX3_isMiddle_229 6 rfl (by decide) (by decide) (by decide) rfl ?_
            refine s_goto 84 dX3_isMiddle_232 (by decide) ?_
            refine s_sub [0, 7, 1, 8, 9, 10, 11, 12, 13, 14, 15, 16, 17] rfl ?_
            exact ih (x30 + (1 : Int32)) x31 (x32 + (h44.I a63 (ix x30))) x33 x34 h44 k hk
        · refine s_iload dX3_isMiddle_188 8 rfl (by decide) ?_
          refine s_iload dX3_isMiddle_190 0 rfl (by decide) ?_
          refine s_iadd dX3_isMiddle_192 ?_
          refine s_istore [(14, .int (x33 + (h44.I a63 (ix x30)))), (26, .int (h44.I a63 (ix x30))), (1024, .long ((y36 * ((y42 * ((h44.I a51 (ix x30)).toInt64)) - y40)) + (y35 * ((y42 * ((h44.I a57 (ix x30)).toInt64)) - y41)))), (1022, .long ((y36 * ((y42 * ((h44.I a57 (ix x30)).toInt64)) - y41)) - (y35 * ((y42 * ((h44.I a51 (ix x30)).toInt64)) - y40)))), (1020, .long ((y42 * ((h44.I a57 (ix x30)).toInt64)) - y41)), (1018, .long ((y42 * ((h44.I a51 (ix x30)).toInt64)) - y40)), (17, .int x30), (16, .int x31), (15, .int x32), (13, .int x34), (1011, .long y35), (1009, .long y36), (8, .int y37), (7, .int y38), (0, .ref y39), (1001, .long y40), (1003, .long y41), (1005, .long y42)] dX3_isMiddle_193 (by decide) (by decide) rfl ?_
          refine s_goto 229 dX3_isMiddle_195 (by decide) ?_
          refine s_iinc (1 : Int32) [(17, .int (x30 + (1 : Int32))), (14, .int (x33 + (h44.I a63 (ix x30)))), (26, .int (h44.I a63 (ix x30))), (1024, .long ((y36 * ((y42 * ((h44.I a51 (ix x30)).toInt64)) - y40)) + (y35 * ((y42 * ((h44.I a57 (ix x30)).toInt64)) - y41)))), (1022, .long ((y36 * ((y42 * ((h44.I a57 (ix x30)).toInt64)) - y41)) - (y35 * ((y42 * ((h44.I a51 (ix x30)).toInt64)) - y40)))), (1020, .long ((y42 * ((h44.I a57 (ix x30)).toInt64)) - y41)), (1018, .long ((y42 * ((h44.I a51 (ix x30)).toInt64)) - y40)), (16, .int x31), (15, .int x32), (13, .int x34), (1011, .long y35), (1009, .long y36), (8, .int y37), (7, .int y38), (0, .ref y39), (1001, .long y40), (1003, .long y41), (1005, .long y42)] dX3_isMiddle_229 6 rfl (by decide) (by decide) (by decide) rfl ?_
          refine s_goto 84 dX3_isMiddle_232 (by decide) ?_
          refine s_sub [0, 7, 8, 1, 9, 10, 11, 12, 13, 14, 15, 16, 17] rfl ?_
          exact ih (x30 + (1 : Int32)) x31 x32 (x33 + (h44.I a63 (ix x30))) x34 h44 k hk
      · refine s_iload dX3_isMiddle_171 9 rfl (by decide) ?_
        refine s_iload dX3_isMiddle_173 0 rfl (by decide) ?_
        refine s_iadd dX3_isMiddle_175 ?_
        refine s_istore [(13, .int (x34 + (h44.I a63 (ix x30)))), (26, .int (h44.I a63 (ix x30))), (1024, .long ((y36 * ((y42 * ((h44.I a51 (ix x30)).toInt64)) - y40)) + (y35 * ((y42 * ((h44.I a57 (ix x30)).toInt64)) - y41)))), (1022, .long ((y36 * ((y42 * ((h44.I a57 (ix x30)).toInt64)) - y41)) - (y35 * ((y42 * ((h44.I a51 (ix x30)).toInt64)) - y40)))), (1020, .long ((y42 * ((h44.I a57 (ix x30)).toInt64)) - y41)), (1018, .long ((y42 * ((h44.I a51 (ix x30)).toInt64)) - y40)), (17, .int x30), (16, .int x31), (15, .int x32), (14, .int x33), (1011, .long y35), (1009, .long y36), (8, .int y37), (7, .int y38), (0, .ref y39), (1001, .long y40), (1003, .long y41), (1005, .long y42)] dX3_isMiddle_176 (by decide) (by decide) rfl ?_
        refine s_goto 229 dX3_isMiddle_178 (by decide) ?_
        refine s_iinc (1 : Int32) [(17, .int (x30 + (1 : Int32))), (13, .int (x34 + (h44.I a63 (ix x30)))), (26, .int (h44.I a63 (ix x30))), (1024, .long ((y36 * ((y42 * ((h44.I a51 (ix x30)).toInt64)) - y40)) + (y35 * ((y42 * ((h44.I a57 (ix x30)).toInt64)) - y41)))), (1022, .long ((y36 * ((y42 * ((h44.I a57 (ix x30)).toInt64)) - y41)) - (y35 * ((y42 * ((h44.I a51 (ix x30)).toInt64)) - y40)))), (1020, .long ((y42 * ((h44.I a57 (ix x30)).toInt64)) - y41)), (1018, .long ((y42 * ((h44.I a51 (ix x30)).toInt64)) - y40)), (16, .int x31), (15, .int x32), (14, .int x33), (1011, .long y35), (1009, .long y36), (8, .int y37), (7, .int y38), (0, .ref y39), (1001, .long y40), (1003, .long y41), (1005, .long y42)] dX3_isMiddle_229 6 rfl (by decide) (by decide) (by decide) rfl ?_
        refine s_goto 84 dX3_isMiddle_232 (by decide) ?_
        refine s_sub [0, 7, 8, 9, 1, 10, 11, 12, 13, 14, 15, 16, 17] rfl ?_
        exact ih (x30 + (1 : Int32)) x31 x32 x33 (x34 + (h44.I a63 (ix x30))) h44 k hk
theorem sX3_isMiddle_L9 (G : Gl) (n : Nat) (K : Nat → Nat) (hK : K = G.ad) (y6 : Int32) (y7 : Nat) (y8 : Int64) (y9 : Int64) (y10 : Int64) : ∀ (f : Nat) (x5 : Int32) (h : AH), Sim G yX3_isMiddle.cls yX3_isMiddle.name cX3_isMiddle 27 (some .boolean) 3 cvI 9 [(8, .int x5), (7, .int y6), (0, .ref y7), (1001, .long y8), (1003, .long y9), (1005, .long y10)] [] h (F_X3_isMiddle_L9 n K y6 y7 y8 y9 y10 f x5 h) := by
  intro f
  induction f with
  | zero =>
    intro x5 h
    exact s_none
  | succ f ih =>
    intro x5 h
    unfold F_X3_isMiddle_L9
    refine s_iload dX3_isMiddle_9 0 rfl (by decide) ?_
    refine s_aload_n dX3_isMiddle_11 2 rfl ?_
    refine s_chk (fun hk13 => ?_)
    refine s_callV_I 4 (kX3_voters G n K hK y7 h) (by decide) (by decide) dX3_isMiddle_12 hk13 rfl rfl q1475 q1477 qs62 q109 q1478 hyX3_voters rfl rfl (Nat.le_of_ble_eq_true rfl) (fun r11 h12 => ?_)
    refine s_icmp_ge 265 dX3_isMiddle_15 (by decide) (fun c14 => ?_) (fun c14 => ?_)
    · refine s_iconst (1 : Int32) dX3_isMiddle_265 (by decide) ?_
      exact s_zret dX3_isMiddle_266 rfl rfl rfl
    · refine s_lload dX3_isMiddle_18 5 rfl ?_
      refine s_aload_n dX3_isMiddle_20 2 rfl ?_
      refine s_chk (fun hk15 => ?_)
      refine s_get (j := 6) 4 (va_rf (h12.R y7 6)) dX3_isMiddle_21 hk15 rfl (by decide) q1243 (Or.inl rfl) rfl ?_
      refine s_iconst (0 : Int32) dX3_isMiddle_24 (by decide) ?_
      refine s_ob (r := h12.R y7 6) (fun z => [(8, .int x5), (7, .int y6), (0, .ref y7), (1001, .long y8), (1003, .long y9), (1005, .long y10)]) (fun z => [.int (0 : Int32), z, .long y10]) (fun a16 => ?_)
      refine s_chk (fun hk17 => ?_)
      refine s_chk (fun hi18 => ?_)
      refine s_aald dX3_isMiddle_25 hk17 rfl rfl rfl hi18 ?_
      refine s_iload dX3_isMiddle_26 0 rfl (by decide) ?_
      refine s_ob (r := h12.R a16 (ix (0 : Int32))) (fun z => [(8, .int x5), (7, .int y6), (0, .ref y7), (1001, .long y8), (1003, .long y9), (1005, .long y10)]) (fun z => [.int x5, z, .long y10]) (fun a19 => ?_)
      refine s_chk (fun hk20 => ?_)
      refine s_chk (fun hi21 => ?_)
      refine s_iald dX3_isMiddle_28 hk20 rfl hi21 ?_
      refine s_i2l dX3_isMiddle_29 ?_
      refine s_lmul dX3_isMiddle_30 ?_
      refine s_lload_n dX3_isMiddle_31 3 rfl ?_
      refine s_lsub dX3_isMiddle_32 ?_
      refine s_lstore [(1009, .long ((y10 * ((h12.I a19 (ix x5)).toInt64)) - y8)), (8, .int x5), (7, .int y6), (0, .ref y7), (1001, .long y8), (1003, .long y9), (1005, .long y10)] dX3_isMiddle_33 (by decide) (by decide) rfl ?_
      refine s_lload dX3_isMiddle_35 6 rfl ?_
      refine s_aload_n dX3_isMiddle_37 3 rfl ?_
      refine s_get (j := 7) 4 (va_rf (h12.R y7 7)) dX3_isMiddle_38 hk15 rfl (by decide) q1244 (Or.inl rfl) rfl ?_
      refine s_iconst (0 : Int32) dX3_isMiddle_41 (by decide) ?_
      refine s_ob (r := h12.R y7 7) (fun z => [(1009, .long ((y10 * ((h12.I a19 (ix x5)).toInt64)) - y8)), (8, .int x5), (7, .int y6), (0, .ref y7), (1001, .long y8), (1003, .long y9), (1005, .long y10)]) (fun z => [.int (0 : Int32), z, .long y10]) (fun a22 => ?_)
      refine s_chk (fun hk23 => ?_)
      refine s_chk (fun hi24 => ?_)
      refine s_aald dX3_isMiddle_42 hk23 rfl rfl rfl hi24 ?_
      refine s_iload dX3_isMiddle_43 1 rfl (by decide) ?_
      refine s_ob (r := h12.R a22 (ix (0 : Int32))) (fun z => [(1009, .long ((y10 * ((h12.I a19 (ix x5)).toInt64)) - y8)), (8, .int x5), (7, .int y6), (0, .ref y7), (1001, .long y8), (1003, .long y9), (1005, .long y10)]) (fun z => [.int x5, z, .long y10]) (fun a25 => ?_)
      refine s_chk (fun hk26 => ?_)
      refine s_chk (fun hi27 => ?_)
      refine s_iald dX3_isMiddle_45 hk26 rfl hi27 ?_
      refine s_i2l dX3_isMiddle_46 ?_
      refine s_lmul dX3_isMiddle_47 ?_
      refine s_lload_n dX3_isMiddle_48 5 rfl ?_
      refine s_lsub dX3_isMiddle_49 ?_
      refine s_lstore [(1011, .long ((y10 * ((h12.I a25 (ix x5)).toInt64)) - y9)), (1009, .long ((y10 * ((h12.I a19 (ix x5)).toInt64)) - y8)), (8, .int x5), (7, .int y6), (0, .ref y7), (1001, .long y8), (1003, .long y9), (1005, .long y10)] dX3_isMiddle_50 (by decide) (by decide) rfl ?_
      refine s_lload dX3_isMiddle_52 1 rfl ?_
      refine s_lconst (0 : Int64) dX3_isMiddle_54 (by decide) ?_
      refine s_lcmp dX3_isMiddle_55 ?_
      refine s_jn (fun j28 => Sim G yX3_isMiddle.cls yX3_isMiddle.name cX3_isMiddle 27 (some .boolean) 3 cvI 69 [(1011, .long ((y10 * ((h12.I a25 (ix x5)).toInt64)) - y9)), (1009, .long ((y10 * ((h12.I a19 (ix x5)).toInt64)) - y8)), (8, .int x5), (7, .int y6), (0, .ref y7), (1001, .long y8), (1003, .long y9), (1005, .long y10)] [] h12 (j28 )) ?_ (fun j28 hj76 => ?_)
      · skip
        refine s_iconst (0 : Int32) dX3_isMiddle_69 (by decide) ?_
        refine s_istore [(13, .int (0 : Int32)), (1011, .long ((y10 * ((h12.I a25 (ix x5)).toInt64)) - y9)), (1009, .long ((y10 * ((h12.I a19 (ix x5)).toInt64)) - y8)), (8, .int x5), (7, .int y6), (0, .ref y7), (1001, .long y8), (1003, .long y9), (1005, .long y10)] dX3_isMiddle_70 (by decide) (by decide) rfl ?_
        refine s_iconst (0 : Int32) dX3_isMiddle_72 (by decide) ?_
        refine s_istore [(14, .int (0 : Int32)), (13, .int (0 : Int32)), (1011, .long ((y10 * ((h12.I a25 (ix x5)).toInt64)) - y9)), (1009, .long ((y10 * ((h12.I a19 (ix x5)).toInt64)) - y8)), (8, .int x5), (7, .int y6), (0, .ref y7), (1001, .long y8), (1003, .long y9), (1005, .long y10)] dX3_isMiddle_73 (by decide) (by decide) rfl ?_
        refine s_iconst (0 : Int32) dX3_isMiddle_75 (by decide) ?_
        refine s_istore [(15, .int (0 : Int32)), (14, .int (0 : Int32)), (13, .int (0 : Int32)), (1011, .long ((y10 * ((h12.I a25 (ix x5)).toInt64)) - y9)), (1009, .long ((y10 * ((h12.I a19 (ix x5)).toInt64)) - y8)), (8, .int x5), (7, .int y6), (0, .ref y7), (1001, .long y8), (1003, .long y9), (1005, .long y10)] dX3_isMiddle_76 (by decide) (by decide) rfl ?_
        refine s_iconst (0 : Int32) dX3_isMiddle_78 (by decide) ?_
        refine s_istore [(16, .int (0 : Int32)), (15, .int (0 : Int32)), (14, .int (0 : Int32)), (13, .int (0 : Int32)), (1011, .long ((y10 * ((h12.I a25 (ix x5)).toInt64)) - y9)), (1009, .long ((y10 * ((h12.I a19 (ix x5)).toInt64)) - y8)), (8, .int x5), (7, .int y6), (0, .ref y7), (1001, .long y8), (1003, .long y9), (1005, .long y10)] dX3_isMiddle_79 (by decide) (by decide) rfl ?_
        refine s_iconst (0 : Int32) dX3_isMiddle_81 (by decide) ?_
        refine s_istore [(17, .int (0 : Int32)), (16, .int (0 : Int32)), (15, .int (0 : Int32)), (14, .int (0 : Int32)), (13, .int (0 : Int32)), (1011, .long ((y10 * ((h12.I a25 (ix x5)).toInt64)) - y9)), (1009, .long ((y10 * ((h12.I a19 (ix x5)).toInt64)) - y8)), (8, .int x5), (7, .int y6), (0, .ref y7), (1001, .long y8), (1003, .long y9), (1005, .long y10)] dX3_isMiddle_82 (by decide) (by decide) rfl ?_
        refine sX3_isMiddle_L84 G n K hK ((y10 * ((h12.I a25 (ix x5)).toInt64)) - y9) ((y10 * ((h12.I a19 (ix x5)).toInt64)) - y8) x5 y6 y7 y8 y9 y10 n (0 : Int32) (0 : Int32) (0 : Int32) (0 : Int32) (0 : Int32) h12 _ ?_
        intro x70 x71 x72 x73 h74
        refine s_iconst (2 : Int32) dX3_isMiddle_235 (by decide) ?_
        refine s_iload dX3_isMiddle_236 3 rfl (by decide) ?_
        refine s_iload dX3_isMiddle_238 2 rfl (by decide) ?_
        refine s_mmax dX3_isMiddle_240 (by decide) q1469 q474 q116 q475 (Nat.le_of_ble_eq_true rfl) ?_
        refine s_iload dX3_isMiddle_243 1 rfl (by decide) ?_
        refine s_iload dX3_isMiddle_245 0 rfl (by decide) ?_
        refine s_mmax dX3_isMiddle_247 (by decide) q1469 q474 q116 q475 (Nat.le_of_ble_eq_true rfl) ?_
        refine s_iadd dX3_isMiddle_250 ?_
        refine s_imul dX3_isMiddle_251 ?_
        refine s_iload dX3_isMiddle_252 5 rfl (by decide) ?_
        refine s_icmp_le 259 dX3_isMiddle_254 (by decide) (fun c75 => ?_) (fun c75 => ?_)
        · refine s_iinc (1 : Int32) [(8, .int (x5 + (1 : Int32))), (16, .int x70), (15, .int x71), (14, .int x72), (13, .int x73), (7, .int y6), (0, .ref y7), (1001, .long y8), (1003, .long y9), (1005, .long y10)] dX3_isMiddle_259 4 rfl (by decide) (by decide) (by decide) rfl ?_
          refine s_goto 9 dX3_isMiddle_262 (by decide) ?_
          refine s_sub [0, 5, 6, 7, 8, 9] rfl ?_
          exact ih (x5 + (1 : Int32)) h74
        · refine s_iconst (0 : Int32) dX3_isMiddle_257 (by decide) ?_
          exact s_zret dX3_isMiddle_258 rfl rfl rfl
      refine s_if_ne 69 dX3_isMiddle_56 (by decide) (fun c77 => ?_) (fun c77 => ?_)
      · exact hj76
      · refine s_lload dX3_isMiddle_59 0 rfl ?_
        refine s_lconst (0 : Int64) dX3_isMiddle_61 (by decide) ?_
        refine s_lcmp dX3_isMiddle_62 ?_
        refine s_if_ne 69 dX3_isMiddle_63 (by decide) (fun c78 => ?_) (fun c78 => ?_)
        · exact hj76
        · refine s_goto 259 dX3_isMiddle_66 (by decide) ?_
          refine s_iinc (1 : Int32) [(8, .int (x5 + (1 : Int32))), (1011, .long ((y10 * ((h12.I a25 (ix x5)).toInt64)) - y9)), (1009, .long ((y10 * ((h12.I a19 (ix x5)).toInt64)) - y8)), (7, .int y6), (0, .ref y7), (1001, .long y8), (1003, .long y9), (1005, .long y10)] dX3_isMiddle_259 2 rfl (by decide) (by decide) (by decide) rfl ?_
          refine s_goto 9 dX3_isMiddle_262 (by decide) ?_
          refine s_sub [0, 3, 4, 5, 6, 7] rfl ?_
          exact ih (x5 + (1 : Int32)) h12
theorem kX3_isMiddle (G : Gl) (n : Nat) (K : Nat → Nat) (hK : K = G.ad) (p0 : Nat) (p1 : Int64) (p3 : Int64) (p5 : Int64) (h : AH) : OkM G yX3_isMiddle cX3_isMiddle 27 (some .boolean) 3 cvI [.ref p0, .long p1, .long p3, .long p5] h (F_X3_isMiddle n K p0 p1 p3 p5 h) := by
  refine ok_of_sim [(0, .ref p0), (1001, .long p1), (1003, .long p3), (1005, .long p5)] (by decide +kernel) (fun r => ⟨_, rfl⟩) (by simp [uns, lv_args, lg_sl, catI, catL, catA, va_rfc]) (by simp [uns, lv_args, lg_sl, catI, catL, catA, va_rfc]) (by simp [uns, lv_args, lg_sl, catI, catL, catA, va_rfc]) ?_
  unfold F_X3_isMiddle
  refine s_aload_n dX3_isMiddle_0 0 rfl ?_
  refine s_chk (fun hk3 => ?_)
  refine s_callV_I 4 (kX3_total G n K hK p0 h) (by decide) (by decide) dX3_isMiddle_1 hk3 rfl rfl q1548 q1550 qs73 q109 q1551 hyX3_total rfl rfl (Nat.le_of_ble_eq_true rfl) (fun r1 h2 => ?_)
  refine s_istore [(7, .int r1), (0, .ref p0), (1001, .long p1), (1003, .long p3), (1005, .long p5)] dX3_isMiddle_4 (by decide) (by decide) rfl ?_
  refine s_iconst (0 : Int32) dX3_isMiddle_6 (by decide) ?_
  refine s_istore [(8, .int (0 : Int32)), (7, .int r1), (0, .ref p0), (1001, .long p1), (1003, .long p3), (1005, .long p5)] dX3_isMiddle_7 (by decide) (by decide) rfl ?_
  exact sX3_isMiddle_L9 G n K hK r1 p0 p1 p3 p5 n (0 : Int32) h2
theorem hyX3_isBehind : yX3_isBehind.cls ≠ "java/lang/invoke/MethodHandle" ∧ yX3_isBehind.cls ≠ "java/lang/invoke/VarHandle" ∧ (parseMethodDescriptor yX3_isBehind.desc).map (fun d => d.parameters.length) = some 4 := by decide +kernel
theorem kX3_isBehind (G : Gl) (n : Nat) (K : Nat → Nat) (hK : K = G.ad) (p0 : Nat) (p1 : Int32) (p2 : Int64) (p4 : Int64) (p6 : Int64) (h : AH) : OkM G yX3_isBehind cX3_isBehind 10 (some .boolean) 1 cvI [.ref p0, .int p1, .long p2, .long p4, .long p6] h (F_X3_isBehind n K p0 p1 p2 p4 p6 h) := by
  refine ok_of_sim [(0, .ref p0), (1, .int p1), (1002, .long p2), (1004, .long p4), (1006, .long p6)] (by decide +kernel) (fun r => ⟨_, rfl⟩) (by simp [uns, lv_args, lg_sl, catI, catL, catA, va_rfc]) (by simp [uns, lv_args, lg_sl, catI, catL, catA, va_rfc]) (by simp [uns, lv_args, lg_sl, catI, catL, catA, va_rfc]) ?_
  unfold F_X3_isBehind
  refine s_aload_n dX3_isBehind_0 0 rfl ?_
  refine s_chk (fun hk1 => ?_)
  refine s_get (j := 30) 4 (va_rf (h.R p0 30)) dX3_isBehind_1 hk1 rfl (by decide) q1267 (Or.inl rfl) rfl ?_
  refine s_iload_n dX3_isBehind_4 1 rfl ?_
  refine s_ob (r := h.R p0 30) (fun z => [(0, .ref p0), (1, .int p1), (1002, .long p2), (1004, .long p4), (1006, .long p6)]) (fun z => [.int p1, z]) (fun a2 => ?_)
  refine s_chk (fun hk3 => ?_)
  refine s_chk (fun hi4 => ?_)
  refine s_lald dX3_isBehind_5 hk3 rfl hi4 ?_
  refine s_lload dX3_isBehind_6 4 rfl ?_
  refine s_lmul dX3_isBehind_8 ?_
  refine s_lload_n dX3_isBehind_9 2 rfl ?_
  refine s_aload_n dX3_isBehind_10 0 rfl ?_
  refine s_get (j := 32) 4 (va_rf (h.R p0 32)) dX3_isBehind_11 hk1 rfl (by decide) q1269 (Or.inl rfl) rfl ?_
  refine s_iload_n dX3_isBehind_14 1 rfl ?_
  refine s_ob (r := h.R p0 32) (fun z => [(0, .ref p0), (1, .int p1), (1002, .long p2), (1004, .long p4), (1006, .long p6)]) (fun z => [.int p1, z, .long p2, .long ((h.L a2 (ix p1)) * p6)]) (fun a5 => ?_)
  refine s_chk (fun hk6 => ?_)
  refine s_chk (fun hi7 => ?_)
  refine s_lald dX3_isBehind_15 hk6 rfl hi7 ?_
  refine s_lmul dX3_isBehind_16 ?_
  refine s_lsub dX3_isBehind_17 ?_
  refine s_lstore [(1008, .long (((h.L a2 (ix p1)) * p6) - (p2 * (h.L a5 (ix p1))))), (0, .ref p0), (1, .int p1), (1002, .long p2), (1004, .long p4), (1006, .long p6)] dX3_isBehind_18 (by decide) (by decide) rfl ?_
  refine s_lload dX3_isBehind_20 0 rfl ?_
  refine s_lconst (0 : Int64) dX3_isBehind_22 (by decide) ?_
  refine s_lcmp dX3_isBehind_23 ?_
  refine s_if_eq 42 dX3_isBehind_24 (by decide) (fun c8 => ?_) (fun c8 => ?_)
  · refine s_aload_n dX3_isBehind_42 1 rfl ?_
    refine s_get (j := 31) 4 (va_rf (h.R p0 31)) dX3_isBehind_43 hk1 rfl (by decide) q1268 (Or.inl rfl) rfl ?_
    refine s_iload_n dX3_isBehind_46 2 rfl ?_
    refine s_ob (r := h.R p0 31) (fun z => [(1008, .long (((h.L a2 (ix p1)) * p6) - (p2 * (h.L a5 (ix p1))))), (0, .ref p0), (1, .int p1), (1002, .long p2), (1004, .long p4), (1006, .long p6)]) (fun z => [.int p1, z]) (fun a9 => ?_)
    refine s_chk (fun hk10 => ?_)
    refine s_chk (fun hi11 => ?_)
    refine s_lald dX3_isBehind_47 hk10 rfl hi11 ?_
    refine s_lload dX3_isBehind_48 5 rfl ?_
    refine s_lmul dX3_isBehind_50 ?_
    refine s_lload dX3_isBehind_51 4 rfl ?_
    refine s_aload_n dX3_isBehind_53 1 rfl ?_
    refine s_get (j := 32) 4 (va_rf (h.R p0 32)) dX3_isBehind_54 hk1 rfl (by decide) q1269 (Or.inl rfl) rfl ?_
    refine s_iload_n dX3_isBehind_57 2 rfl ?_
    refine s_ob (r := h.R p0 32) (fun z => [(1008, .long (((h.L a2 (ix p1)) * p6) - (p2 * (h.L a5 (ix p1))))), (0, .ref p0), (1, .int p1), (1002, .long p2), (1004, .long p4), (1006, .long p6)]) (fun z => [.int p1, z, .long p4, .long ((h.L a9 (ix p1)) * p6)]) (fun a12 => ?_)
    refine s_chk (fun hk13 => ?_)
    refine s_chk (fun hi14 => ?_)
    refine s_lald dX3_isBehind_58 hk13 rfl hi14 ?_
    refine s_lmul dX3_isBehind_59 ?_
    refine s_lcmp dX3_isBehind_60 ?_
    refine s_if_le 68 dX3_isBehind_61 (by decide) (fun c15 => ?_) (fun c15 => ?_)
    · refine s_iconst (0 : Int32) dX3_isBehind_68 (by decide) ?_
      exact s_zret dX3_isBehind_69 rfl rfl rfl
    · refine s_iconst (1 : Int32) dX3_isBehind_64 (by decide) ?_
      refine s_goto 69 dX3_isBehind_65 (by decide) ?_
      exact s_zret dX3_isBehind_69 rfl rfl rfl
  · refine s_lload dX3_isBehind_27 0 rfl ?_
    refine s_lconst (0 : Int64) dX3_isBehind_29 (by decide) ?_
    refine s_lcmp dX3_isBehind_30 ?_
    refine s_if_le 38 dX3_isBehind_31 (by decide) (fun c16 => ?_) (fun c16 => ?_)
    · refine s_iconst (0 : Int32) dX3_isBehind_38 (by decide) ?_
      refine s_goto 69 dX3_isBehind_39 (by decide) ?_
      exact s_zret dX3_isBehind_69 rfl rfl rfl
    · refine s_iconst (1 : Int32) dX3_isBehind_34 (by decide) ?_
      refine s_goto 69 dX3_isBehind_35 (by decide) ?_
      exact s_zret dX3_isBehind_69 rfl rfl rfl
theorem hyX3_addsMiddle : yX3_addsMiddle.cls ≠ "java/lang/invoke/MethodHandle" ∧ yX3_addsMiddle.cls ≠ "java/lang/invoke/VarHandle" ∧ (parseMethodDescriptor yX3_addsMiddle.desc).map (fun d => d.parameters.length) = some 3 := by decide +kernel
theorem sX3_addsMiddle_L51 (G : Gl) (n : Nat) (K : Nat → Nat) (hK : K = G.ad) (y12 : Int64) (y13 : Int64) (y14 : Int64) (y15 : Nat) (h : AH) : ∀ (f : Nat) (x11 : Int32) (k : Option (Unit × AH)) (hk : Sim G yX3_addsMiddle.cls yX3_addsMiddle.name cX3_addsMiddle 16 none 4 cvV 106 [(1013, .long y12), (1011, .long y13), (1009, .long y14), (0, .ref y15)] [] h (k)), Sim G yX3_addsMiddle.cls yX3_addsMiddle.name cX3_addsMiddle 16 none 4 cvV 51 [(15, .int x11), (1013, .long y12), (1011, .long y13), (1009, .long y14), (0, .ref y15)] [] h (F_X3_addsMiddle_L51 n K y12 y13 y14 y15 h f x11 k) := by
  intro f
  induction f with
  | zero =>
    intro x11 k hk
    exact s_none
  | succ f ih =>
    intro x11 k hk
    unfold F_X3_addsMiddle_L51
    refine s_iload dX3_addsMiddle_51 0 rfl (by decide) ?_
    refine s_aload_n dX3_addsMiddle_53 4 rfl ?_
    refine s_chk (fun hk16 => ?_)
    refine s_get (j := 28) 4 (.int (h.I y15 28)) dX3_addsMiddle_54 hk16 rfl (by decide) q1265 (Or.inl rfl) rfl ?_
    refine s_icmp_ge 106 dX3_addsMiddle_57 (by decide) (fun c17 => ?_) (fun c17 => ?_)
    · refine s_sub [1, 2, 3, 4] rfl ?_
      exact hk
    · refine s_aload_n dX3_addsMiddle_60 4 rfl ?_
      refine s_get (j := 30) 4 (va_rf (h.R y15 30)) dX3_addsMiddle_61 hk16 rfl (by decide) q1267 (Or.inl rfl) rfl ?_
      refine s_iload dX3_addsMiddle_64 0 rfl (by decide) ?_
      refine s_ob (r := h.R y15 30) (fun z => [(15, .int x11), (1013, .long y12), (1011, .long y13), (1009, .long y14), (0, .ref y15)]) (fun z => [.int x11, z]) (fun a18 => ?_)
      refine s_chk (fun hk19 => ?_)
      refine s_chk (fun hi20 => ?_)
      refine s_lald dX3_addsMiddle_66 hk19 rfl hi20 ?_
      refine s_lload dX3_addsMiddle_67 3 rfl ?_
      refine s_lcmp dX3_addsMiddle_69 ?_
      refine s_if_ne 100 dX3_addsMiddle_70 (by decide) (fun c21 => ?_) (fun c21 => ?_)
      · refine s_iinc (1 : Int32) [(15, .int (x11 + (1 : Int32))), (1013, .long y12), (1011, .long y13), (1009, .long y14), (0, .ref y15)] dX3_addsMiddle_100 0 rfl (by decide) (by decide) (by decide) rfl ?_
        refine s_goto 51 dX3_addsMiddle_103 (by decide) ?_
        exact ih (x11 + (1 : Int32)) k hk
      · refine s_aload_n dX3_addsMiddle_73 4 rfl ?_
        refine s_get (j := 31) 4 (va_rf (h.R y15 31)) dX3_addsMiddle_74 hk16 rfl (by decide) q1268 (Or.inl rfl) rfl ?_
        refine s_iload dX3_addsMiddle_77 0 rfl (by decide) ?_
        refine s_ob (r := h.R y15 31) (fun z => [(15, .int x11), (1013, .long y12), (1011, .long y13), (1009, .long y14), (0, .ref y15)]) (fun z => [.int x11, z]) (fun a22 => ?_)
        refine s_chk (fun hk23 => ?_)
        refine s_chk (fun hi24 => ?_)
        refine s_lald dX3_addsMiddle_79 hk23 rfl hi24 ?_
        refine s_lload dX3_addsMiddle_80 2 rfl ?_
        refine s_lcmp dX3_addsMiddle_82 ?_
        refine s_if_ne 100 dX3_addsMiddle_83 (by decide) (fun c25 => ?_) (fun c25 => ?_)
        · refine s_iinc (1 : Int32) [(15, .int (x11 + (1 : Int32))), (1013, .long y12), (1011, .long y13), (1009, .long y14), (0, .ref y15)] dX3_addsMiddle_100 0 rfl (by decide) (by decide) (by decide) rfl ?_
          refine s_goto 51 dX3_addsMiddle_103 (by decide) ?_
          exact ih (x11 + (1 : Int32)) k hk
        · refine s_aload_n dX3_addsMiddle_86 4 rfl ?_
          refine s_get (j := 32) 4 (va_rf (h.R y15 32)) dX3_addsMiddle_87 hk16 rfl (by decide) q1269 (Or.inl rfl) rfl ?_
          refine s_iload dX3_addsMiddle_90 0 rfl (by decide) ?_
          refine s_ob (r := h.R y15 32) (fun z => [(15, .int x11), (1013, .long y12), (1011, .long y13), (1009, .long y14), (0, .ref y15)]) (fun z => [.int x11, z]) (fun a26 => ?_)
          refine s_chk (fun hk27 => ?_)
          refine s_chk (fun hi28 => ?_)
          refine s_lald dX3_addsMiddle_92 hk27 rfl hi28 ?_
          refine s_lload dX3_addsMiddle_93 1 rfl ?_
          refine s_lcmp dX3_addsMiddle_95 ?_
          refine s_if_ne 100 dX3_addsMiddle_96 (by decide) (fun c29 => ?_) (fun c29 => ?_)
          · refine s_iinc (1 : Int32) [(15, .int (x11 + (1 : Int32))), (1013, .long y12), (1011, .long y13), (1009, .long y14), (0, .ref y15)] dX3_addsMiddle_100 0 rfl (by decide) (by decide) (by decide) rfl ?_
            refine s_goto 51 dX3_addsMiddle_103 (by decide) ?_
            exact ih (x11 + (1 : Int32)) k hk
          · exact s_vret dX3_addsMiddle_99 rfl rfl
theorem sX3_addsMiddle_L126 (G : Gl) (n : Nat) (K : Nat → Nat) (hK : K = G.ad) (y37 : Int64) (y38 : Int64) (y39 : Int64) (y40 : Nat) : ∀ (f : Nat) (x36 : Int32) (h : AH), Sim G yX3_addsMiddle.cls yX3_addsMiddle.name cX3_addsMiddle 16 none 4 cvV 126 [(15, .int x36), (1013, .long y37), (1011, .long y38), (1009, .long y39), (0, .ref y40)] [] h (F_X3_addsMiddle_L126 n K y37 y38 y39 y40 f x36 h) := by
  intro f
  induction f with
  | zero =>
    intro x36 h
    exact s_none
  | succ f ih =>
    intro x36 h
    unfold F_X3_addsMiddle_L126
    refine s_iload dX3_addsMiddle_126 0 rfl (by decide) ?_
    refine s_jn (fun j42 => ∀ (h41 : AH), Sim G yX3_addsMiddle.cls yX3_addsMiddle.name cX3_addsMiddle 16 none 4 cvV 202 [(15, .int x36), (1013, .long y37), (1011, .long y38), (1009, .long y39), (0, .ref y40)] [] h41 (j42 h41)) ?_ (fun j42 hj61 => ?_)
    · intro h41
      refine s_aload_n dX3_addsMiddle_202 4 rfl ?_
      refine s_chk (fun hk43 => ?_)
      refine s_get (j := 30) 4 (va_rf (h41.R y40 30)) dX3_addsMiddle_203 hk43 rfl (by decide) q1267 (Or.inl rfl) rfl ?_
      refine s_iload dX3_addsMiddle_206 0 rfl (by decide) ?_
      refine s_lload dX3_addsMiddle_208 3 rfl ?_
      refine s_ob (r := h41.R y40 30) (fun z => [(15, .int x36), (1013, .long y37), (1011, .long y38), (1009, .long y39), (0, .ref y40)]) (fun z => [.long y39, .int x36, z]) (fun a44 => ?_)
      refine s_chk (fun hk45 => ?_)
      refine s_chk (fun hi46 => ?_)
      refine s_last dX3_addsMiddle_210 hk45 rfl (by decide) hi46 ?_
      refine s_hl (fun h47 e48 => ?_)
      refine s_aload_n dX3_addsMiddle_211 4 rfl ?_
      refine s_get (j := 31) 4 (va_rf (h47.R y40 31)) dX3_addsMiddle_212 (show h47.kind y40 = 5 by rw [e48]; exact hk43) rfl (by decide) q1268 (Or.inl rfl) rfl ?_
      refine s_iload dX3_addsMiddle_215 0 rfl (by decide) ?_
      refine s_lload dX3_addsMiddle_217 2 rfl ?_
      refine s_ob (r := h47.R y40 31) (fun z => [(15, .int x36), (1013, .long y37), (1011, .long y38), (1009, .long y39), (0, .ref y40)]) (fun z => [.long y38, .int x36, z]) (fun a49 => ?_)
      refine s_chk (fun hk50 => ?_)
      refine s_chk (fun hi51 => ?_)
      refine s_last dX3_addsMiddle_219 hk50 rfl (by decide) hi51 ?_
      refine s_hl (fun h52 e53 => ?_)
      refine s_aload_n dX3_addsMiddle_220 4 rfl ?_
      refine s_get (j := 32) 4 (va_rf (h52.R y40 32)) dX3_addsMiddle_221 (show h52.kind y40 = 5 by rw [e53, e48]; exact hk43) rfl (by decide) q1269 (Or.inl rfl) rfl ?_
      refine s_iload dX3_addsMiddle_224 0 rfl (by decide) ?_
      refine s_lload dX3_addsMiddle_226 1 rfl ?_
      refine s_ob (r := h52.R y40 32) (fun z => [(15, .int x36), (1013, .long y37), (1011, .long y38), (1009, .long y39), (0, .ref y40)]) (fun z => [.long y37, .int x36, z]) (fun a54 => ?_)
      refine s_chk (fun hk55 => ?_)
      refine s_chk (fun hi56 => ?_)
      refine s_last dX3_addsMiddle_228 hk55 rfl (by decide) hi56 ?_
      refine s_hl (fun h57 e58 => ?_)
      refine s_aload_n dX3_addsMiddle_229 4 rfl ?_
      refine s_dup dX3_addsMiddle_230 rfl ?_
      refine s_get (j := 28) 4 (.int (h57.I y40 28)) dX3_addsMiddle_231 (show h57.kind y40 = 5 by rw [e58, e53, e48]; exact hk43) rfl (by decide) q1265 (Or.inl rfl) rfl ?_
      refine s_iconst (1 : Int32) dX3_addsMiddle_234 (by decide) ?_
      refine s_iadd dX3_addsMiddle_235 ?_
      refine s_put (j := 28) 4 (v := .int ((h57.I y40 28) + (1 : Int32))) dX3_addsMiddle_236 (show h57.kind y40 = 5 by rw [e58, e53, e48]; exact hk43) rfl (by decide) q1265 (Or.inl rfl) rfl rfl rfl (Upd.i (fun _ => rfl)) ?_
      refine s_hl (fun h59 e60 => ?_)
      exact s_vret dX3_addsMiddle_239 rfl rfl
    refine s_if_le 202 dX3_addsMiddle_128 (by decide) (fun c62 => ?_) (fun c62 => ?_)
    · exact hj61 h
    · refine s_aload_n dX3_addsMiddle_131 4 rfl ?_
      refine s_iload dX3_addsMiddle_132 0 rfl (by decide) ?_
      refine s_iconst (1 : Int32) dX3_addsMiddle_134 (by decide) ?_
      refine s_isub dX3_addsMiddle_135 ?_
      refine s_lload dX3_addsMiddle_136 3 rfl ?_
      refine s_lload dX3_addsMiddle_138 2 rfl ?_
      refine s_lload dX3_addsMiddle_140 1 rfl ?_
      refine s_chk (fun hk65 => ?_)
      refine s_callV_I 4 (kX3_isBehind G n K hK y40 (x36 - (1 : Int32)) y39 y38 y37 h) (by decide) (by decide) dX3_addsMiddle_142 hk65 rfl rfl q1596 q1598 qs82 q109 q1599 hyX3_isBehind rfl rfl (Nat.le_of_ble_eq_true rfl) (fun r63 h64 => ?_)
      refine s_if_eq 202 dX3_addsMiddle_145 (by decide) (fun c66 => ?_) (fun c66 => ?_)
      · exact hj61 h64
      · refine s_aload_n dX3_addsMiddle_148 4 rfl ?_
        refine s_chk (fun hk67 => ?_)
        refine s_get (j := 30) 4 (va_rf (h64.R y40 30)) dX3_addsMiddle_149 hk67 rfl (by decide) q1267 (Or.inl rfl) rfl ?_
        refine s_iload dX3_addsMiddle_152 0 rfl (by decide) ?_
        refine s_aload_n dX3_addsMiddle_154 4 rfl ?_
        refine s_get (j := 30) 4 (va_rf (h64.R y40 30)) dX3_addsMiddle_155 hk67 rfl (by decide) q1267 (Or.inl rfl) rfl ?_
        refine s_iload dX3_addsMiddle_158 0 rfl (by decide) ?_
        refine s_iconst (1 : Int32) dX3_addsMiddle_160 (by decide) ?_
        refine s_isub dX3_addsMiddle_161 ?_
        refine s_ob (r := h64.R y40 30) (fun z => [(15, .int x36), (1013, .long y37), (1011, .long y38), (1009, .long y39), (0, .ref y40)]) (fun z => [.int (x36 - (1 : Int32)), z, .int x36, z]) (fun a68 => ?_)
        refine s_chk (fun hk69 => ?_)
        refine s_chk (fun hi70 => ?_)
        refine s_lald dX3_addsMiddle_162 hk69 rfl hi70 ?_
        refine s_chk (fun hi71 => ?_)
        refine s_last dX3_addsMiddle_163 hk69 rfl (by decide) hi71 ?_
        refine s_hl (fun h72 e73 => ?_)
        refine s_aload_n dX3_addsMiddle_164 4 rfl ?_
        refine s_get (j := 31) 4 (va_rf (h72.R y40 31)) dX3_addsMiddle_165 (show h72.kind y40 = 5 by rw [e73]; exact hk67) rfl (by decide) q1268 (Or.inl rfl) rfl ?_
        refine s_iload dX3_addsMiddle_168 0 rfl (by decide) ?_
        refine s_aload_n dX3_addsMiddle_170 4 rfl ?_
        refine s_get (j := 31) 4 (va_rf (h72.R y40 31)) dX3_addsMiddle_171 (show h72.kind y40 = 5 by rw [e73]; exact hk67) rfl (by decide) q1268 (Or.inl rfl) rfl ?_
        refine s_iload dX3_addsMiddle_174 0 rfl (by decide) ?_
        refine s_iconst (1 : Int32) dX3_addsMiddle_176 (by decide) ?_
        refine s_isub dX3_addsMiddle_177 ?_
        refine s_ob (r := h72.R y40 31) (fun z => [(15, .int x36), (1013, .long y37), (1011, .long y38), (1009, .long y39), (0, .ref y40)]) (fun z => [.int (x36 - (1 : Int32)), z, .int x36, z]) (fun a74 => ?_)
        refine s_chk (fun hk75 => ?_)
        refine s_chk (fun hi76 => ?_)
        refine s_lald dX3_addsMiddle_178 hk75 rfl hi76 ?_
        refine s_chk (fun hi77 => ?_)
        refine s_last dX3_addsMiddle_179 hk75 rfl (by decide) hi77 ?_
        refine s_hl (fun h78 e79 => ?_)
        refine s_aload_n dX3_addsMiddle_180 4 rfl ?_
        refine s_get (j := 32) 4 (va_rf (h78.R y40 32)) dX3_addsMiddle_181 (show h78.kind y40 = 5 by rw [e79, e73]; exact hk67) rfl (by decide) q1269 (Or.inl rfl) rfl ?_
        refine s_iload dX3_addsMiddle_184 0 rfl (by decide) ?_
        refine s_aload_n dX3_addsMiddle_186 4 rfl ?_
        refine s_get (j := 32) 4 (va_rf (h78.R y40 32)) dX3_addsMiddle_187 (show h78.kind y40 = 5 by rw [e79, e73]; exact hk67) rfl (by decide) q1269 (Or.inl rfl) rfl ?_
        refine s_iload dX3_addsMiddle_190 0 rfl (by decide) ?_
        refine s_iconst (1 : Int32) dX3_addsMiddle_192 (by decide) ?_
        refine s_isub dX3_addsMiddle_193 ?_
        refine s_ob (r := h78.R y40 32) (fun z => [(15, .int x36), (1013, .long y37), (1011, .long y38), (1009, .long y39), (0, .ref y40)]) (fun z => [.int (x36 - (1 : Int32)), z, .int x36, z]) (fun a80 => ?_)
        refine s_chk (fun hk81 => ?_)
        refine s_chk (fun hi82 => ?_)
        refine s_lald dX3_addsMiddle_194 hk81 rfl hi82 ?_
        refine s_chk (fun hi83 => ?_)
        refine s_last dX3_addsMiddle_195 hk81 rfl (by decide) hi83 ?_
        refine s_hl (fun h84 e85 => ?_)
        refine s_iinc (-1 : Int32) [(15, .int (x36 + (-1 : Int32))), (1013, .long y37), (1011, .long y38), (1009, .long y39), (0, .ref y40)] dX3_addsMiddle_196 0 rfl (by decide) (by decide) (by decide) rfl ?_
        refine s_goto 126 dX3_addsMiddle_199 (by decide) ?_
        exact ih (x36 + (-1 : Int32)) h84
theorem kX3_addsMiddle (G : Gl) (n : Nat) (K : Nat → Nat) (hK : K = G.ad) (p0 : Nat) (p1 : Int64) (p3 : Int64) (p5 : Int64) (h : AH) : OkM G yX3_addsMiddle cX3_addsMiddle 16 none 4 cvV [.ref p0, .long p1, .long p3, .long p5] h (F_X3_addsMiddle n K p0 p1 p3 p5 h) := by
  refine ok_of_sim [(0, .ref p0), (1001, .long p1), (1003, .long p3), (1005, .long p5)] (by decide +kernel) (fun r => ⟨_, rfl⟩) (by simp [uns, lv_args, lg_sl, catI, catL, catA, va_rfc]) (by simp [uns, lv_args, lg_sl, catI, catL, catA, va_rfc]) (by simp [uns, lv_args, lg_sl, catI, catL, catA, va_rfc]) ?_
  unfold F_X3_addsMiddle
  refine s_lload_n dX3_addsMiddle_0 1 rfl ?_
  refine s_lload_n dX3_addsMiddle_1 2 rfl ?_
  refine s_callS_L (kX3_gcd G n K hK p1 p3 h) (by decide) (by decide) dX3_addsMiddle_2 q1569 q1570 q109 q1571 hyX3_gcd rfl rfl (Nat.le_of_ble_eq_true rfl) (fun r1 h2 => ?_)
  refine s_lload dX3_addsMiddle_5 3 rfl ?_
  refine s_callS_L (kX3_gcd G n K hK r1 p5 h2) (by decide) (by decide) dX3_addsMiddle_7 q1569 q1570 q109 q1571 hyX3_gcd rfl rfl (Nat.le_of_ble_eq_true rfl) (fun r3 h4 => ?_)
  refine s_lstore [(1007, .long r3), (0, .ref p0), (1001, .long p1), (1003, .long p3), (1005, .long p5)] dX3_addsMiddle_10 (by decide) (by decide) rfl ?_
  refine s_lload dX3_addsMiddle_12 4 rfl ?_
  refine s_lconst (0 : Int64) dX3_addsMiddle_14 (by decide) ?_
  refine s_lcmp dX3_addsMiddle_15 ?_
  refine s_jn (fun j6 => ∀ (x5 : Int64), Sim G yX3_addsMiddle.cls yX3_addsMiddle.name cX3_addsMiddle 16 none 4 cvV 27 [(0, .ref p0), (1001, .long p1), (1003, .long p3), (1005, .long p5)] [.long x5] h4 (j6 x5)) ?_ (fun j6 hj86 => ?_)
  · intro x5
    refine s_lstore [(1007, .long x5), (0, .ref p0), (1001, .long p1), (1003, .long p3), (1005, .long p5)] dX3_addsMiddle_27 (by decide) (by decide) rfl ?_
    refine s_lload_n dX3_addsMiddle_29 2 rfl ?_
    refine s_lload dX3_addsMiddle_30 0 rfl ?_
    refine s_chk (fun hz7 => ?_)
    refine s_ldiv dX3_addsMiddle_32 hz7 ?_
    refine s_lstore [(1009, .long (p1 / x5)), (1007, .long x5), (0, .ref p0), (1001, .long p1), (1003, .long p3), (1005, .long p5)] dX3_addsMiddle_33 (by decide) (by decide) rfl ?_
    refine s_lload_n dX3_addsMiddle_35 4 rfl ?_
    refine s_lload dX3_addsMiddle_36 1 rfl ?_
    refine s_chk (fun hz8 => ?_)
    refine s_ldiv dX3_addsMiddle_38 hz8 ?_
    refine s_lstore [(1011, .long (p3 / x5)), (1009, .long (p1 / x5)), (1007, .long x5), (0, .ref p0), (1001, .long p1), (1003, .long p3), (1005, .long p5)] dX3_addsMiddle_39 (by decide) (by decide) rfl ?_
    refine s_lload dX3_addsMiddle_41 6 rfl ?_
    refine s_lload dX3_addsMiddle_43 2 rfl ?_
    refine s_chk (fun hz9 => ?_)
    refine s_ldiv dX3_addsMiddle_45 hz9 ?_
    refine s_lstore [(1013, .long (p5 / x5)), (1011, .long (p3 / x5)), (1009, .long (p1 / x5)), (1007, .long x5), (0, .ref p0), (1001, .long p1), (1003, .long p3), (1005, .long p5)] dX3_addsMiddle_46 (by decide) (by decide) rfl ?_
    refine s_iconst (0 : Int32) dX3_addsMiddle_48 (by decide) ?_
    refine s_istore [(15, .int (0 : Int32)), (1013, .long (p5 / x5)), (1011, .long (p3 / x5)), (1009, .long (p1 / x5)), (1007, .long x5), (0, .ref p0), (1001, .long p1), (1003, .long p3), (1005, .long p5)] dX3_addsMiddle_49 (by decide) (by decide) rfl ?_
    refine s_sub [0, 1, 2, 3, 5] rfl ?_
    refine sX3_addsMiddle_L51 G n K hK (p5 / x5) (p3 / x5) (p1 / x5) p0 h4 n (0 : Int32) _ ?_
    refine s_aload_n dX3_addsMiddle_106 3 rfl ?_
    refine s_lload dX3_addsMiddle_107 2 rfl ?_
    refine s_lload dX3_addsMiddle_109 1 rfl ?_
    refine s_lload dX3_addsMiddle_111 0 rfl ?_
    refine s_chk (fun hk32 => ?_)
    refine s_callV_I 4 (kX3_isMiddle G n K hK p0 (p1 / x5) (p3 / x5) (p5 / x5) h4) (by decide) (by decide) dX3_addsMiddle_113 hk32 rfl rfl q1592 q1594 qs81 q109 q1595 hyX3_isMiddle rfl rfl (Nat.le_of_ble_eq_true rfl) (fun r30 h31 => ?_)
    refine s_if_ne 120 dX3_addsMiddle_116 (by decide) (fun c33 => ?_) (fun c33 => ?_)
    · refine s_aload_n dX3_addsMiddle_120 3 rfl ?_
      refine s_chk (fun hk34 => ?_)
      refine s_get (j := 28) 4 (.int (h31.I p0 28)) dX3_addsMiddle_121 hk34 rfl (by decide) q1265 (Or.inl rfl) rfl ?_
      refine s_istore [(15, .int (h31.I p0 28)), (1013, .long (p5 / x5)), (1011, .long (p3 / x5)), (1009, .long (p1 / x5)), (0, .ref p0)] dX3_addsMiddle_124 (by decide) (by decide) rfl ?_
      exact sX3_addsMiddle_L126 G n K hK (p5 / x5) (p3 / x5) (p1 / x5) p0 n (h31.I p0 28) h31
    · exact s_vret dX3_addsMiddle_119 rfl rfl
  refine s_if_ge 25 dX3_addsMiddle_16 (by decide) (fun c87 => ?_) (fun c87 => ?_)
  · refine s_lload dX3_addsMiddle_25 0 rfl ?_
    refine s_sub [1, 2, 3, 4] rfl ?_
    exact hj86 r3
  · refine s_lload dX3_addsMiddle_19 0 rfl ?_
    refine s_lneg dX3_addsMiddle_21 ?_
    refine s_goto 27 dX3_addsMiddle_22 (by decide) ?_
    refine s_sub [1, 2, 3, 4] rfl ?_
    exact hj86 (-r3)
