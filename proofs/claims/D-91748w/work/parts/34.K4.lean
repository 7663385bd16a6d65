set_option maxRecDepth 100000
theorem hyX0_line : yX0_line.cls ≠ "java/lang/invoke/MethodHandle" ∧ yX0_line.cls ≠ "java/lang/invoke/VarHandle" ∧ (parseMethodDescriptor yX0_line.desc).map (fun d => d.parameters.length) = some 2 := by decide +kernel
theorem kX0_line (G : Gl) (n : Nat) (K : Nat → Nat) (hK : K = G.ad) (p0 : Nat) (p1 : Int32) (p2 : Int32) (h : AH) : OkM G yX0_line cX0_line 4 (some .int) 7 cvI [.ref p0, .int p1, .int p2] h (F_X0_line n K p0 p1 p2 h) := by
  refine ok_of_sim [(0, .ref p0), (1, .int p1), (2, .int p2)] (by decide +kernel) (fun r => ⟨_, rfl⟩) (by simp [uns, lv_args, lg_sl, catI, catL, catA, va_rfc]) (by simp [uns, lv_args, lg_sl, catI, catL, catA, va_rfc]) (by simp [uns, lv_args, lg_sl, catI, catL, catA, va_rfc]) ?_
  unfold F_X0_line
  refine s_aload_n dX0_line_0 0 rfl ?_
  refine s_chk (fun hk3 => ?_)
  refine s_callV_V 0 (kX0_findLines G n K hK p0 h) (by decide) (by decide) dX0_line_1 hk3 rfl rfl q879 q881 qs23 q103 q882 hyX0_findLines rfl rfl (Nat.le_of_ble_eq_true rfl) (fun r1 h2 => ?_)
  refine s_iload_n dX0_line_4 1 rfl ?_
  refine s_iconst (-1 : Int32) dX0_line_5 (by decide) ?_
  refine s_icmp_ne 17 dX0_line_6 (by decide) (fun c4 => ?_) (fun c4 => ?_)
  · refine s_iload_n dX0_line_17 1 rfl ?_
    refine s_iconst (0 : Int32) dX0_line_18 (by decide) ?_
    refine s_aload_n dX0_line_19 0 rfl ?_
    refine s_chk (fun hk5 => ?_)
    refine s_get (j := 8) 0 (va_rf (h2.R p0 8)) dX0_line_20 hk5 rfl (by decide) q241 (Or.inl rfl) rfl ?_
    refine s_ob (r := h2.R p0 8) (fun z => [(0, .ref p0), (1, .int p1), (2, .int p2)]) (fun z => [z, .int (0 : Int32), .int p1]) (fun a6 => ?_)
    refine s_chk (fun hk9 => ?_)
    refine s_callV_I 2 (kJ2_size G n K hK a6 h2) (by decide) (by decide) dX0_line_23 hk9 rfl rfl q732 q552 q553 q107 q554 hyJ2_size rfl rfl (Nat.le_of_ble_eq_true rfl) (fun r7 h8 => ?_)
    refine s_iconst (1 : Int32) dX0_line_26 (by decide) ?_
    refine s_isub dX0_line_27 ?_
    refine s_callS_I (kX0_in G n K hK p1 (0 : Int32) (r7 - (1 : Int32)) h8) (by decide) (by decide) dX0_line_28 q335 q336 q103 q337 hyX0_in rfl rfl (Nat.le_of_ble_eq_true rfl) (fun r10 h11 => ?_)
    refine s_if_eq 43 dX0_line_31 (by decide) (fun c12 => ?_) (fun c12 => ?_)
    · refine s_ldc (v := (-2147483648 : Int32)) dX0_line_43 q939 ?_
      exact s_iret dX0_line_45 rfl rfl
    · refine s_iload_n dX0_line_34 2 rfl ?_
      refine s_iconst (0 : Int32) dX0_line_35 (by decide) ?_
      refine s_iconst (2 : Int32) dX0_line_36 (by decide) ?_
      refine s_callS_I (kX0_in G n K hK p2 (0 : Int32) (2 : Int32) h11) (by decide) (by decide) dX0_line_37 q335 q336 q103 q337 hyX0_in rfl rfl (Nat.le_of_ble_eq_true rfl) (fun r13 h14 => ?_)
      refine s_if_ne 46 dX0_line_40 (by decide) (fun c15 => ?_) (fun c15 => ?_)
      · refine s_aload_n dX0_line_46 0 rfl ?_
        refine s_chk (fun hk16 => ?_)
        refine s_get (j := 8) 0 (va_rf (h14.R p0 8)) dX0_line_47 hk16 rfl (by decide) q241 (Or.inl rfl) rfl ?_
        refine s_iload_n dX0_line_50 1 rfl ?_
        refine s_ob (r := h14.R p0 8) (fun z => [(0, .ref p0), (1, .int p1), (2, .int p2)]) (fun z => [.int p1, z]) (fun a17 => ?_)
        refine s_chk (fun hk20 => ?_)
        refine s_callV_R 2 (kJ2_get G n K hK a17 p1 h14) (by decide) (by decide) dX0_line_51 hk20 rfl rfl q733 q734 q735 q107 q736 hyJ2_get rfl rfl (Nat.le_of_ble_eq_true rfl) (fun r18 h19 => ?_)
        refine s_ob (r := r18) (fun z => [(0, .ref p0), (1, .int p1), (2, .int p2)]) (fun z => [z]) (fun a21 => ?_)
        refine s_chk (fun hk22 => ?_)
        refine s_cast 11 dX0_line_54 hk22 rfl q883 ?_
        refine s_astore_n [(3, .ref a21), (0, .ref p0), (1, .int p1), (2, .int p2)] dX0_line_57 (by decide) (by decide) rfl ?_
        refine s_iload_n dX0_line_58 3 rfl ?_
        refine s_if_ne 69 dX0_line_59 (by decide) (fun c23 => ?_) (fun c23 => ?_)
        · refine s_iload_n dX0_line_69 3 rfl ?_
          refine s_iconst (1 : Int32) dX0_line_70 (by decide) ?_
          refine s_icmp_ne 81 dX0_line_71 (by decide) (fun c24 => ?_) (fun c24 => ?_)
          · refine s_aload_n dX0_line_81 0 rfl ?_
            refine s_getN (j := 2) 11 (.long (h19.L a21 2)) dX0_line_82 hk22 rfl (by decide) q903 (Or.inl rfl) rfl ?_
            refine s_l2i dX0_line_85 ?_
            exact s_iret dX0_line_86 rfl rfl
          · refine s_aload_n dX0_line_74 0 rfl ?_
            refine s_getN (j := 1) 11 (.long (h19.L a21 1)) dX0_line_75 hk22 rfl (by decide) q900 (Or.inl rfl) rfl ?_
            refine s_goto 85 dX0_line_78 (by decide) ?_
            refine s_l2i dX0_line_85 ?_
            exact s_iret dX0_line_86 rfl rfl
        · refine s_aload_n dX0_line_62 0 rfl ?_
          refine s_getN (j := 0) 11 (.long (h19.L a21 0)) dX0_line_63 hk22 rfl (by decide) q897 (Or.inl rfl) rfl ?_
          refine s_goto 85 dX0_line_66 (by decide) ?_
          refine s_l2i dX0_line_85 ?_
          exact s_iret dX0_line_86 rfl rfl
      · refine s_ldc (v := (-2147483648 : Int32)) dX0_line_43 q939 ?_
        exact s_iret dX0_line_45 rfl rfl
  · refine s_aload_n dX0_line_9 0 rfl ?_
    refine s_chk (fun hk25 => ?_)
    refine s_get (j := 8) 0 (va_rf (h2.R p0 8)) dX0_line_10 hk25 rfl (by decide) q241 (Or.inl rfl) rfl ?_
    refine s_ob (r := h2.R p0 8) (fun z => [(0, .ref p0), (1, .int p1), (2, .int p2)]) (fun z => [z]) (fun a26 => ?_)
    refine s_chk (fun hk29 => ?_)
    refine s_callV_I 2 (kJ2_size G n K hK a26 h2) (by decide) (by decide) dX0_line_13 hk29 rfl rfl q732 q552 q553 q107 q554 hyJ2_size rfl rfl (Nat.le_of_ble_eq_true rfl) (fun r27 h28 => ?_)
    exact s_iret dX0_line_16 rfl rfl
theorem hyX12_init : yX12_init.cls ≠ "java/lang/invoke/MethodHandle" ∧ yX12_init.cls ≠ "java/lang/invoke/VarHandle" ∧ (parseMethodDescriptor yX12_init.desc).map (fun d => d.parameters.length) = some 3 := by decide +kernel
theorem kX12_init (G : Gl) (n : Nat) (K : Nat → Nat) (hK : K = G.ad) (p0 : Nat) (p1 : Int64) (p3 : Int64) (p5 : Int64) (h : AH) : OkM G yX12_init cX12_init 9 none 2 cvV [.ref p0, .long p1, .long p3, .long p5] h (F_X12_init n K p0 p1 p3 p5 h) := by
  refine ok_of_sim [(0, .ref p0), (1001, .long p1), (1003, .long p3), (1005, .long p5)] (by decide +kernel) (fun r => ⟨_, rfl⟩) (by simp [uns, lv_args, lg_sl, catI, catL, catA, va_rfc]) (by simp [uns, lv_args, lg_sl, catI, catL, catA, va_rfc]) (by simp [uns, lv_args, lg_sl, catI, catL, catA, va_rfc]) ?_
  unfold F_X12_init
  refine s_aload_n dX12_init_0 0 rfl ?_
  refine s_objInit dX12_init_1 q953 q141 q142 (by decide) (Nat.le_of_ble_eq_true rfl) ?_
  refine s_lload_n dX12_init_4 1 rfl ?_
  refine s_lload_n dX12_init_5 2 rfl ?_
  refine s_callSN_L (kX0_common G n K hK p1 p3 h) (by decide) (by decide) dX12_init_6 q954 q890 q103 q891 hyX0_common rfl rfl (Nat.le_of_ble_eq_true rfl) (fun r1 h2 => ?_)
  refine s_lload dX12_init_9 3 rfl ?_
  refine s_callSN_L (kX0_common G n K hK r1 p5 h2) (by decide) (by decide) dX12_init_11 q954 q890 q103 q891 hyX0_common rfl rfl (Nat.le_of_ble_eq_true rfl) (fun r3 h4 => ?_)
  refine s_lstore [(1007, .long r3), (0, .ref p0), (1001, .long p1), (1003, .long p3), (1005, .long p5)] dX12_init_14 (by decide) (by decide) rfl ?_
  refine s_lload dX12_init_16 4 rfl ?_
  refine s_lconst (0 : Int64) dX12_init_18 (by decide) ?_
  refine s_lcmp dX12_init_19 ?_
  refine s_jn (fun j6 => ∀ (x5 : Int64), Sim G yX12_init.cls yX12_init.name cX12_init 9 none 2 cvV 28 [(0, .ref p0), (1001, .long p1), (1003, .long p3), (1005, .long p5), (1007, .long x5)] [] h4 (j6 x5)) ?_ (fun j6 hj17 => ?_)
  · intro x5
    refine s_aload_n dX12_init_28 0 rfl ?_
    refine s_lload_n dX12_init_29 1 rfl ?_
    refine s_lload dX12_init_30 4 rfl ?_
    refine s_chk (fun hz7 => ?_)
    refine s_ldiv dX12_init_32 hz7 ?_
    refine s_chk (fun hk8 => ?_)
    refine s_putF (j := 0) 12 (v := .long (p1 / x5)) dX12_init_33 hk8 rfl (by decide) q955 (Or.inl rfl) rfl rfl rfl rfl rfl (Upd.l (fun _ => rfl)) ?_
    refine s_hl (fun h9 e10 => ?_)
    refine s_aload_n dX12_init_36 0 rfl ?_
    refine s_lload_n dX12_init_37 2 rfl ?_
    refine s_lload dX12_init_38 4 rfl ?_
    refine s_chk (fun hz11 => ?_)
    refine s_ldiv dX12_init_40 hz11 ?_
    refine s_putF (j := 1) 12 (v := .long (p3 / x5)) dX12_init_41 (show h9.kind p0 = 13 by rw [e10]; exact hk8) rfl (by decide) q957 (Or.inl rfl) rfl rfl rfl rfl rfl (Upd.l (fun _ => rfl)) ?_
    refine s_hl (fun h12 e13 => ?_)
    refine s_aload_n dX12_init_44 0 rfl ?_
    refine s_lload dX12_init_45 3 rfl ?_
    refine s_lload dX12_init_47 4 rfl ?_
    refine s_chk (fun hz14 => ?_)
    refine s_ldiv dX12_init_49 hz14 ?_
    refine s_putF (j := 2) 12 (v := .long (p5 / x5)) dX12_init_50 (show h12.kind p0 = 13 by rw [e13, e10]; exact hk8) rfl (by decide) q959 (Or.inl rfl) rfl rfl rfl rfl rfl (Upd.l (fun _ => rfl)) ?_
    refine s_hl (fun h15 e16 => ?_)
    exact s_vret dX12_init_53 rfl rfl
  refine s_if_ge 28 dX12_init_20 (by decide) (fun c18 => ?_) (fun c18 => ?_)
  · refine s_sub [1, 2, 3, 4, 0] rfl ?_
    exact hj17 r3
  · refine s_lload dX12_init_23 0 rfl ?_
    refine s_lneg dX12_init_25 ?_
    refine s_lstore [(1007, .long (-r3)), (0, .ref p0), (1001, .long p1), (1003, .long p3), (1005, .long p5)] dX12_init_26 (by decide) (by decide) rfl ?_
    refine s_sub [1, 2, 3, 4, 0] rfl ?_
    exact hj17 (-r3)
theorem hyX12_isAhead : yX12_isAhead.cls ≠ "java/lang/invoke/MethodHandle" ∧ yX12_isAhead.cls ≠ "java/lang/invoke/VarHandle" ∧ (parseMethodDescriptor yX12_isAhead.desc).map (fun d => d.parameters.length) = some 1 := by decide +kernel
theorem kX12_isAhead (G : Gl) (n : Nat) (K : Nat → Nat) (hK : K = G.ad) (p0 : Nat) (p1 : Option Nat) (h : AH) : OkM G yX12_isAhead cX12_isAhead 4 (some .boolean) 1 cvI [.ref p0, va_rf p1] h (F_X12_isAhead n K p0 p1 h) := by
  refine ok_of_sim [(0, .ref p0), (1, va_rf p1)] (by decide +kernel) (fun r => ⟨_, rfl⟩) (by simp [uns, lv_args, lg_sl, catI, catL, catA, va_rfc]) (by simp [uns, lv_args, lg_sl, catI, catL, catA, va_rfc]) (by simp [uns, lv_args, lg_sl, catI, catL, catA, va_rfc]) ?_
  unfold F_X12_isAhead
  refine s_aload_n dX12_isAhead_0 0 rfl ?_
  refine s_chk (fun hk1 => ?_)
  refine s_get (j := 0) 12 (.long (h.L p0 0)) dX12_isAhead_1 hk1 rfl (by decide) q955 (Or.inl rfl) rfl ?_
  refine s_oload_n dX12_isAhead_4 1 rfl ?_
  refine s_ob (r := p1) (fun z => [(0, .ref p0), (1, z)]) (fun z => [z, .long (h.L p0 0)]) (fun a2 => ?_)
  refine s_chk (fun hk3 => ?_)
  refine s_get (j := 2) 12 (.long (h.L a2 2)) dX12_isAhead_5 hk3 rfl (by decide) q959 (Or.inl rfl) rfl ?_
  refine s_lmul dX12_isAhead_8 ?_
  refine s_aload_n dX12_isAhead_9 1 rfl ?_
  refine s_get (j := 0) 12 (.long (h.L a2 0)) dX12_isAhead_10 hk3 rfl (by decide) q955 (Or.inl rfl) rfl ?_
  refine s_aload_n dX12_isAhead_13 0 rfl ?_
  refine s_get (j := 2) 12 (.long (h.L p0 2)) dX12_isAhead_14 hk1 rfl (by decide) q959 (Or.inl rfl) rfl ?_
  refine s_lmul dX12_isAhead_17 ?_
  refine s_lsub dX12_isAhead_18 ?_
  refine s_lstore_n [(1002, .long (((h.L p0 0) * (h.L a2 2)) - ((h.L a2 0) * (h.L p0 2)))), (0, .ref p0), (1, .ref a2)] dX12_isAhead_19 (by decide) (by decide) rfl ?_
  refine s_lload_n dX12_isAhead_20 0 rfl ?_
  refine s_lconst (0 : Int64) dX12_isAhead_21 (by decide) ?_
  refine s_lcmp dX12_isAhead_22 ?_
  refine s_if_eq 40 dX12_isAhead_23 (by decide) (fun c4 => ?_) (fun c4 => ?_)
  · refine s_aload_n dX12_isAhead_40 1 rfl ?_
    refine s_get (j := 1) 12 (.long (h.L p0 1)) dX12_isAhead_41 hk1 rfl (by decide) q957 (Or.inl rfl) rfl ?_
    refine s_aload_n dX12_isAhead_44 2 rfl ?_
    refine s_get (j := 2) 12 (.long (h.L a2 2)) dX12_isAhead_45 hk3 rfl (by decide) q959 (Or.inl rfl) rfl ?_
    refine s_lmul dX12_isAhead_48 ?_
    refine s_aload_n dX12_isAhead_49 2 rfl ?_
    refine s_get (j := 1) 12 (.long (h.L a2 1)) dX12_isAhead_50 hk3 rfl (by decide) q957 (Or.inl rfl) rfl ?_
    refine s_aload_n dX12_isAhead_53 1 rfl ?_
    refine s_get (j := 2) 12 (.long (h.L p0 2)) dX12_isAhead_54 hk1 rfl (by decide) q959 (Or.inl rfl) rfl ?_
    refine s_lmul dX12_isAhead_57 ?_
    refine s_lcmp dX12_isAhead_58 ?_
    refine s_if_ge 66 dX12_isAhead_59 (by decide) (fun c5 => ?_) (fun c5 => ?_)
    · refine s_iconst (0 : Int32) dX12_isAhead_66 (by decide) ?_
      exact s_zret dX12_isAhead_67 rfl rfl rfl
    · refine s_iconst (1 : Int32) dX12_isAhead_62 (by decide) ?_
      refine s_goto 67 dX12_isAhead_63 (by decide) ?_
      exact s_zret dX12_isAhead_67 rfl rfl rfl
  · refine s_lload_n dX12_isAhead_26 0 rfl ?_
    refine s_lconst (0 : Int64) dX12_isAhead_27 (by decide) ?_
    refine s_lcmp dX12_isAhead_28 ?_
    refine s_if_ge 36 dX12_isAhead_29 (by decide) (fun c6 => ?_) (fun c6 => ?_)
    · refine s_iconst (0 : Int32) dX12_isAhead_36 (by decide) ?_
      refine s_goto 67 dX12_isAhead_37 (by decide) ?_
      exact s_zret dX12_isAhead_67 rfl rfl rfl
    · refine s_iconst (1 : Int32) dX12_isAhead_32 (by decide) ?_
      refine s_goto 67 dX12_isAhead_33 (by decide) ?_
      exact s_zret dX12_isAhead_67 rfl rfl rfl
theorem hyX12_isSame : yX12_isSame.cls ≠ "java/lang/invoke/MethodHandle" ∧ yX12_isSame.cls ≠ "java/lang/invoke/VarHandle" ∧ (parseMethodDescriptor yX12_isSame.desc).map (fun d => d.parameters.length) = some 1 := by decide +kernel
theorem kX12_isSame (G : Gl) (n : Nat) (K : Nat → Nat) (hK : K = G.ad) (p0 : Nat) (p1 : Option Nat) (h : AH) : OkM G yX12_isSame cX12_isSame 2 (some .boolean) 1 cvI [.ref p0, va_rf p1] h (F_X12_isSame n K p0 p1 h) := by
  refine ok_of_sim [(0, .ref p0), (1, va_rf p1)] (by decide +kernel) (fun r => ⟨_, rfl⟩) (by simp [uns, lv_args, lg_sl, catI, catL, catA, va_rfc]) (by simp [uns, lv_args, lg_sl, catI, catL, catA, va_rfc]) (by simp [uns, lv_args, lg_sl, catI, catL, catA, va_rfc]) ?_
  unfold F_X12_isSame
  refine s_aload_n dX12_isSame_0 0 rfl ?_
  refine s_chk (fun hk1 => ?_)
  refine s_get (j := 0) 12 (.long (h.L p0 0)) dX12_isSame_1 hk1 rfl (by decide) q955 (Or.inl rfl) rfl ?_
  refine s_oload_n dX12_isSame_4 1 rfl ?_
  refine s_ob (r := p1) (fun z => [(0, .ref p0), (1, z)]) (fun z => [z, .long (h.L p0 0)]) (fun a2 => ?_)
  refine s_chk (fun hk3 => ?_)
  refine s_get (j := 0) 12 (.long (h.L a2 0)) dX12_isSame_5 hk3 rfl (by decide) q955 (Or.inl rfl) rfl ?_
  refine s_lcmp dX12_isSame_8 ?_
  refine s_if_ne 40 dX12_isSame_9 (by decide) (fun c4 => ?_) (fun c4 => ?_)
  · refine s_iconst (0 : Int32) dX12_isSame_40 (by decide) ?_
    exact s_zret dX12_isSame_41 rfl rfl rfl
  · refine s_aload_n dX12_isSame_12 0 rfl ?_
    refine s_get (j := 1) 12 (.long (h.L p0 1)) dX12_isSame_13 hk1 rfl (by decide) q957 (Or.inl rfl) rfl ?_
    refine s_aload_n dX12_isSame_16 1 rfl ?_
    refine s_get (j := 1) 12 (.long (h.L a2 1)) dX12_isSame_17 hk3 rfl (by decide) q957 (Or.inl rfl) rfl ?_
    refine s_lcmp dX12_isSame_20 ?_
    refine s_if_ne 40 dX12_isSame_21 (by decide) (fun c5 => ?_) (fun c5 => ?_)
    · refine s_iconst (0 : Int32) dX12_isSame_40 (by decide) ?_
      exact s_zret dX12_isSame_41 rfl rfl rfl
    · refine s_aload_n dX12_isSame_24 0 rfl ?_
      refine s_get (j := 2) 12 (.long (h.L p0 2)) dX12_isSame_25 hk1 rfl (by decide) q959 (Or.inl rfl) rfl ?_
      refine s_aload_n dX12_isSame_28 1 rfl ?_
      refine s_get (j := 2) 12 (.long (h.L a2 2)) dX12_isSame_29 hk3 rfl (by decide) q959 (Or.inl rfl) rfl ?_
      refine s_lcmp dX12_isSame_32 ?_
      refine s_if_ne 40 dX12_isSame_33 (by decide) (fun c6 => ?_) (fun c6 => ?_)
      · refine s_iconst (0 : Int32) dX12_isSame_40 (by decide) ?_
        exact s_zret dX12_isSame_41 rfl rfl rfl
      · refine s_iconst (1 : Int32) dX12_isSame_36 (by decide) ?_
        refine s_goto 41 dX12_isSame_37 (by decide) ?_
        exact s_zret dX12_isSame_41 rfl rfl rfl
theorem hyX0_isMiddle : yX0_isMiddle.cls ≠ "java/lang/invoke/MethodHandle" ∧ yX0_isMiddle.cls ≠ "java/lang/invoke/VarHandle" ∧ (parseMethodDescriptor yX0_isMiddle.desc).map (fun d => d.parameters.length) = some 1 := by decide +kernel
theorem sX0_isMiddle_L91 (G : Gl) (n : Nat) (K : Nat → Nat) (hK : K = G.ad) (y37 : Option Nat) (y38 : Int64) (y39 : Int64) (y40 : Int32) (y41 : Nat) (y42 : Option Nat) : ∀ (f : Nat) (x36 : Int32) (h : AH) (k : AH → Option (Int32 × AH)) (hk : ∀ (h : AH), Sim G yX0_isMiddle.cls yX0_isMiddle.name cX0_isMiddle 18 (some .boolean) 4 cvI 109 [(7, va_rf y37), (1005, .long y38), (1003, .long y39), (2, .int y40), (0, .ref y41), (1, va_rf y42)] [] h (k h)), Sim G yX0_isMiddle.cls yX0_isMiddle.name cX0_isMiddle 18 (some .boolean) 4 cvI 91 [(8, .int x36), (7, va_rf y37), (1005, .long y38), (1003, .long y39), (2, .int y40), (0, .ref y41), (1, va_rf y42)] [] h (F_X0_isMiddle_L91 n K y37 y38 y39 y40 y41 y42 f x36 h k) := by
  intro f
  induction f with
  | zero =>
    intro x36 h k hk
    exact s_none
  | succ f ih =>
    intro x36 h k hk
    unfold F_X0_isMiddle_L91
    refine s_iload dX0_isMiddle_91 0 rfl (by decide) ?_
    refine s_iconst (4 : Int32) dX0_isMiddle_93 (by decide) ?_
    refine s_icmp_ge 109 dX0_isMiddle_94 (by decide) (fun c43 => ?_) (fun c43 => ?_)
    · refine s_sub [1, 2, 3, 4, 5, 6] rfl ?_
      exact hk h
    · refine s_oload dX0_isMiddle_97 1 rfl (by decide) ?_
      refine s_iload dX0_isMiddle_99 0 rfl (by decide) ?_
      refine s_iconst (0 : Int32) dX0_isMiddle_101 (by decide) ?_
      refine s_ob (r := y37) (fun z => [(8, .int x36), (7, va_rf y37), (1005, .long y38), (1003, .long y39), (2, .int y40), (0, .ref y41), (1, va_rf y42)]) (fun z => [.int (0 : Int32), .int x36, z]) (fun a44 => ?_)
      refine s_chk (fun hk45 => ?_)
      refine s_chk (fun hi46 => ?_)
      refine s_iast dX0_isMiddle_102 hk45 rfl (by decide) hi46 ?_
      refine s_hl (fun h47 e48 => ?_)
      refine s_iinc (1 : Int32) [(8, .int (x36 + (1 : Int32))), (7, va_rf y37), (1005, .long y38), (1003, .long y39), (2, .int y40), (0, .ref y41), (1, va_rf y42)] dX0_isMiddle_103 0 rfl (by decide) (by decide) (by decide) rfl ?_
      refine s_goto 91 dX0_isMiddle_106 (by decide) ?_
      exact ih (x36 + (1 : Int32)) h47 k hk
theorem sX0_isMiddle_L112 (G : Gl) (n : Nat) (K : Nat → Nat) (hK : K = G.ad) (y52 : Option Nat) (y53 : Int64) (y54 : Int64) (y55 : Int32) (y56 : Nat) (y57 : Option Nat) : ∀ (f : Nat) (x51 : Int32) (h : AH) (k : AH → Option (Int32 × AH)) (hk : ∀ (h : AH), Sim G yX0_isMiddle.cls yX0_isMiddle.name cX0_isMiddle 18 (some .boolean) 4 cvI 267 [(7, va_rf y52), (2, .int y55), (0, .ref y56), (1, va_rf y57)] [] h (k h)), Sim G yX0_isMiddle.cls yX0_isMiddle.name cX0_isMiddle 18 (some .boolean) 4 cvI 112 [(8, .int x51), (7, va_rf y52), (1005, .long y53), (1003, .long y54), (2, .int y55), (0, .ref y56), (1, va_rf y57)] [] h (F_X0_isMiddle_L112 n K y52 y53 y54 y55 y56 y57 f x51 h k) := by
  intro f
  induction f with
  | zero =>
    intro x51 h k hk
    exact s_none
  | succ f ih =>
    intro x51 h k hk
    unfold F_X0_isMiddle_L112
    refine s_iload dX0_isMiddle_112 0 rfl (by decide) ?_
    refine s_aload_n dX0_isMiddle_114 5 rfl ?_
    refine s_chk (fun hk58 => ?_)
    refine s_get (j := 2) 0 (va_rf (h.R y56 2)) dX0_isMiddle_115 hk58 rfl (by decide) q235 (Or.inl rfl) rfl ?_
    refine s_ob (r := h.R y56 2) (fun z => [(8, .int x51), (7, va_rf y52), (1005, .long y53), (1003, .long y54), (2, .int y55), (0, .ref y56), (1, va_rf y57)]) (fun z => [z, .int x51]) (fun a59 => ?_)
    refine s_chk (fun hk62 => ?_)
    refine s_callV_I 2 (kJ2_size G n K hK a59 h) (by decide) (by decide) dX0_isMiddle_118 hk62 rfl rfl q732 q552 q553 q107 q554 hyJ2_size rfl rfl (Nat.le_of_ble_eq_true rfl) (fun r60 h61 => ?_)
    refine s_icmp_ge 267 dX0_isMiddle_121 (by decide) (fun c63 => ?_) (fun c63 => ?_)
    · refine s_sub [1, 4, 5, 6] rfl ?_
      exact hk h61
    · refine s_aload_n dX0_isMiddle_124 5 rfl ?_
      refine s_chk (fun hk64 => ?_)
      refine s_get (j := 2) 0 (va_rf (h61.R y56 2)) dX0_isMiddle_125 hk64 rfl (by decide) q235 (Or.inl rfl) rfl ?_
      refine s_iload dX0_isMiddle_128 0 rfl (by decide) ?_
      refine s_ob (r := h61.R y56 2) (fun z => [(8, .int x51), (7, va_rf y52), (1005, .long y53), (1003, .long y54), (2, .int y55), (0, .ref y56), (1, va_rf y57)]) (fun z => [.int x51, z]) (fun a65 => ?_)
      refine s_chk (fun hk68 => ?_)
      refine s_callV_R 2 (kJ2_get G n K hK a65 x51 h61) (by decide) (by decide) dX0_isMiddle_130 hk68 rfl rfl q733 q734 q735 q107 q736 hyJ2_get rfl rfl (Nat.le_of_ble_eq_true rfl) (fun r66 h67 => ?_)
      refine s_ob (r := r66) (fun z => [(8, .int x51), (7, va_rf y52), (1005, .long y53), (1003, .long y54), (2, .int y55), (0, .ref y56), (1, va_rf y57)]) (fun z => [z]) (fun a69 => ?_)
      refine s_chk (fun hk70 => ?_)
      refine s_castV dX0_isMiddle_133 hk70 q745 ?_
      refine s_astore [(9, .ref a69), (8, .int x51), (7, va_rf y52), (1005, .long y53), (1003, .long y54), (2, .int y55), (0, .ref y56), (1, va_rf y57)] dX0_isMiddle_136 (by decide) (by decide) rfl ?_
      refine s_aload dX0_isMiddle_138 0 rfl (by decide) ?_
      refine s_getV (j := 3) dX0_isMiddle_140 hk70 (by decide) q591 ?_
      refine s_i2l dX0_isMiddle_143 ?_
      refine s_oload_n dX0_isMiddle_144 7 rfl ?_
      refine s_ob (r := y57) (fun z => [(9, .ref a69), (8, .int x51), (7, va_rf y52), (1005, .long y53), (1003, .long y54), (2, .int y55), (0, .ref y56), (1, va_rf y57)]) (fun z => [z, .long ((h67.I a69 3).toInt64)]) (fun a71 => ?_)
      refine s_chk (fun hk72 => ?_)
      refine s_getN (j := 2) 12 (.long (h67.L a71 2)) dX0_isMiddle_145 hk72 rfl (by decide) q960 (Or.inl rfl) rfl ?_
      refine s_lmul dX0_isMiddle_148 ?_
      refine s_oload_n dX0_isMiddle_149 7 rfl ?_
      refine s_ob (r := y57) (fun z => [(9, .ref a69), (8, .int x51), (7, va_rf y52), (1005, .long y53), (1003, .long y54), (2, .int y55), (0, .ref y56), (1, va_rf y57)]) (fun z => [z, .long (((h67.I a69 3).toInt64) * (h67.L a71 2))]) (fun a73 => ?_)
      refine s_chk (fun hk74 => ?_)
      refine s_getN (j := 0) 12 (.long (h67.L a73 0)) dX0_isMiddle_150 hk74 rfl (by decide) q956 (Or.inl rfl) rfl ?_
      refine s_lsub dX0_isMiddle_153 ?_
      refine s_lstore [(1010, .long ((((h67.I a69 3).toInt64) * (h67.L a71 2)) - (h67.L a73 0))), (9, .ref a69), (8, .int x51), (7, va_rf y52), (1005, .long y53), (1003, .long y54), (2, .int y55), (0, .ref y56), (1, va_rf y57)] dX0_isMiddle_154 (by decide) (by decide) rfl ?_
      refine s_aload dX0_isMiddle_156 1 rfl (by decide) ?_
      refine s_getV (j := 4) dX0_isMiddle_158 hk70 (by decide) q593 ?_
      refine s_i2l dX0_isMiddle_161 ?_
      refine s_oload_n dX0_isMiddle_162 8 rfl ?_
      refine s_ob (r := y57) (fun z => [(1010, .long ((((h67.I a69 3).toInt64) * (h67.L a71 2)) - (h67.L a73 0))), (9, .ref a69), (8, .int x51), (7, va_rf y52), (1005, .long y53), (1003, .long y54), (2, .int y55), (0, .ref y56), (1, va_rf y57)]) (fun z => [z, .long ((h67.I a69 4).toInt64)]) (fun a75 => ?_)
      refine s_chk (fun hk76 => ?_)
      refine s_getN (j := 2) 12 (.long (h67.L a75 2)) dX0_isMiddle_163 hk76 rfl (by decide) q960 (Or.inl rfl) rfl ?_
      refine s_lmul dX0_isMiddle_166 ?_
      refine s_oload_n dX0_isMiddle_167 8 rfl ?_
      refine s_ob (r := y57) (fun z => [(1010, .long ((((h67.I a69 3).toInt64) * (h67.L a71 2)) - (h67.L a73 0))), (9, .ref a69), (8, .int x51), (7, va_rf y52), (1005, .long y53), (1003, .long y54), (2, .int y55), (0, .ref y56), (1, va_rf y57)]) (fun z => [z, .long (((h67.I a69 4).toInt64) * (h67.L a75 2))]) (fun a77 => ?_)
      refine s_chk (fun hk78 => ?_)
      refine s_getN (j := 1) 12 (.long (h67.L a77 1)) dX0_isMiddle_168 hk78 rfl (by decide) q958 (Or.inl rfl) rfl ?_
      refine s_lsub dX0_isMiddle_171 ?_
      refine s_lstore [(1012, .long ((((h67.I a69 4).toInt64) * (h67.L a75 2)) - (h67.L a77 1))), (1010, .long ((((h67.I a69 3).toInt64) * (h67.L a71 2)) - (h67.L a73 0))), (9, .ref a69), (8, .int x51), (7, va_rf y52), (1005, .long y53), (1003, .long y54), (2, .int y55), (0, .ref y56), (1, va_rf y57)] dX0_isMiddle_172 (by decide) (by decide) rfl ?_
      refine s_lload_n dX0_isMiddle_174 6 rfl ?_
      refine s_lload dX0_isMiddle_175 0 rfl ?_
      refine s_lmul dX0_isMiddle_177 ?_
      refine s_lload dX0_isMiddle_178 5 rfl ?_
      refine s_lload dX0_isMiddle_180 1 rfl ?_
      refine s_lmul dX0_isMiddle_182 ?_
      refine s_lsub dX0_isMiddle_183 ?_
      refine s_lstore [(1014, .long ((y54 * ((((h67.I a69 4).toInt64) * (h67.L a75 2)) - (h67.L a77 1))) - (y53 * ((((h67.I a69 3).toInt64) * (h67.L a71 2)) - (h67.L a73 0))))), (1012, .long ((((h67.I a69 4).toInt64) * (h67.L a75 2)) - (h67.L a77 1))), (1010, .long ((((h67.I a69 3).toInt64) * (h67.L a71 2)) - (h67.L a73 0))), (9, .ref a69), (8, .int x51), (7, va_rf y52), (1005, .long y53), (1003, .long y54), (2, .int y55), (0, .ref y56), (1, va_rf y57)] dX0_isMiddle_184 (by decide) (by decide) rfl ?_
      refine s_lload_n dX0_isMiddle_186 7 rfl ?_
      refine s_lload dX0_isMiddle_187 2 rfl ?_
      refine s_lmul dX0_isMiddle_189 ?_
      refine s_lload dX0_isMiddle_190 6 rfl ?_
      refine s_lload dX0_isMiddle_192 1 rfl ?_
      refine s_lmul dX0_isMiddle_194 ?_
      refine s_ladd dX0_isMiddle_195 ?_
      refine s_lstore [(1016, .long ((y54 * ((((h67.I a69 3).toInt64) * (h67.L a71 2)) - (h67.L a73 0))) + (y53 * ((((h67.I a69 4).toInt64) * (h67.L a75 2)) - (h67.L a77 1))))), (1014, .long ((y54 * ((((h67.I a69 4).toInt64) * (h67.L a75 2)) - (h67.L a77 1))) - (y53 * ((((h67.I a69 3).toInt64) * (h67.L a71 2)) - (h67.L a73 0))))), (1012, .long ((((h67.I a69 4).toInt64) * (h67.L a75 2)) - (h67.L a77 1))), (1010, .long ((((h67.I a69 3).toInt64) * (h67.L a71 2)) - (h67.L a73 0))), (9, .ref a69), (8, .int x51), (7, va_rf y52), (1005, .long y53), (1003, .long y54), (2, .int y55), (0, .ref y56), (1, va_rf y57)] dX0_isMiddle_196 (by decide) (by decide) rfl ?_
      refine s_lload dX0_isMiddle_198 1 rfl ?_
      refine s_lconst (0 : Int64) dX0_isMiddle_200 (by decide) ?_
      refine s_lcmp dX0_isMiddle_201 ?_
      refine s_if_eq 231 dX0_isMiddle_202 (by decide) (fun c79 => ?_) (fun c79 => ?_)
      · refine s_lload dX0_isMiddle_231 0 rfl ?_
        refine s_lconst (0 : Int64) dX0_isMiddle_233 (by decide) ?_
        refine s_lcmp dX0_isMiddle_234 ?_
        refine s_if_eq 261 dX0_isMiddle_235 (by decide) (fun c80 => ?_) (fun c80 => ?_)
        · refine s_iinc (1 : Int32) [(8, .int (x51 + (1 : Int32))), (1016, .long ((y54 * ((((h67.I a69 3).toInt64) * (h67.L a71 2)) - (h67.L a73 0))) + (y53 * ((((h67.I a69 4).toInt64) * (h67.L a75 2)) - (h67.L a77 1))))), (1014, .long ((y54 * ((((h67.I a69 4).toInt64) * (h67.L a75 2)) - (h67.L a77 1))) - (y53 * ((((h67.I a69 3).toInt64) * (h67.L a71 2)) - (h67.L a73 0))))), (1012, .long ((((h67.I a69 4).toInt64) * (h67.L a75 2)) - (h67.L a77 1))), (1010, .long ((((h67.I a69 3).toInt64) * (h67.L a71 2)) - (h67.L a73 0))), (9, .ref a69), (7, va_rf y52), (1005, .long y53), (1003, .long y54), (2, .int y55), (0, .ref y56), (1, va_rf y57)] dX0_isMiddle_261 5 rfl (by decide) (by decide) (by decide) rfl ?_
          refine s_goto 112 dX0_isMiddle_264 (by decide) ?_
          refine s_sub [0, 6, 7, 8, 9, 10, 11] rfl ?_
          exact ih (x51 + (1 : Int32)) h67 k hk
        · refine s_oload dX0_isMiddle_238 6 rfl (by decide) ?_
          refine s_lload dX0_isMiddle_240 0 rfl ?_
          refine s_lconst (0 : Int64) dX0_isMiddle_242 (by decide) ?_
          refine s_lcmp dX0_isMiddle_243 ?_
          refine s_jn (fun j82 => ∀ (x81 : Int32), Sim G yX0_isMiddle.cls yX0_isMiddle.name cX0_isMiddle 18 (some .boolean) 4 cvI 252 [(9, .ref a69), (8, .int x51), (7, va_rf y52), (1005, .long y53), (1003, .long y54), (2, .int y55), (0, .ref y56), (1, va_rf y57)] [.int x81, va_rf y52] h67 (j82 x81)) ?_ (fun j82 hj89 => ?_)
          · intro x81
            refine s_dup2_11 dX0_isMiddle_252 rfl (va_rfc _) ?_
            refine s_ob (r := y52) (fun z => [(9, .ref a69), (8, .int x51), (7, va_rf y52), (1005, .long y53), (1003, .long y54), (2, .int y55), (0, .ref y56), (1, va_rf y57)]) (fun z => [.int x81, z, .int x81, z]) (fun a83 => ?_)
            refine s_chk (fun hk84 => ?_)
            refine s_chk (fun hi85 => ?_)
            refine s_iald dX0_isMiddle_253 hk84 rfl hi85 ?_
            refine s_aload dX0_isMiddle_254 0 rfl (by decide) ?_
            refine s_getV (j := 0) dX0_isMiddle_256 hk70 (by decide) q585 ?_
            refine s_iadd dX0_isMiddle_259 ?_
            refine s_chk (fun hi86 => ?_)
            refine s_iast dX0_isMiddle_260 hk84 rfl (by decide) hi86 ?_
            refine s_hl (fun h87 e88 => ?_)
            refine s_iinc (1 : Int32) [(8, .int (x51 + (1 : Int32))), (9, .ref a69), (7, va_rf y52), (1005, .long y53), (1003, .long y54), (2, .int y55), (0, .ref y56), (1, va_rf y57)] dX0_isMiddle_261 1 rfl (by decide) (by decide) (by decide) rfl ?_
            refine s_goto 112 dX0_isMiddle_264 (by decide) ?_
            refine s_sub [0, 2, 3, 4, 5, 6, 7] rfl ?_
            exact ih (x51 + (1 : Int32)) h87 k hk
          refine s_if_ge 251 dX0_isMiddle_244 (by decide) (fun c90 => ?_) (fun c90 => ?_)
          · refine s_iconst (3 : Int32) dX0_isMiddle_251 (by decide) ?_
            refine s_sub [4, 5, 6, 7, 8, 9, 10, 11] rfl ?_
            exact hj89 (3 : Int32)
          · refine s_iconst (2 : Int32) dX0_isMiddle_247 (by decide) ?_
            refine s_goto 252 dX0_isMiddle_248 (by decide) ?_
            refine s_sub [4, 5, 6, 7, 8, 9, 10, 11] rfl ?_
            exact hj89 (2 : Int32)
      · refine s_oload dX0_isMiddle_205 6 rfl (by decide) ?_
        refine s_lload dX0_isMiddle_207 1 rfl ?_
        refine s_lconst (0 : Int64) dX0_isMiddle_209 (by decide) ?_
        refine s_lcmp dX0_isMiddle_210 ?_
        refine s_jn (fun j92 => ∀ (x91 : Int32), Sim G yX0_isMiddle.cls yX0_isMiddle.name cX0_isMiddle 18 (some .boolean) 4 cvI 219 [(9, .ref a69), (8, .int x51), (7, va_rf y52), (1005, .long y53), (1003, .long y54), (2, .int y55), (0, .ref y56), (1, va_rf y57)] [.int x91, va_rf y52] h67 (j92 x91)) ?_ (fun j92 hj99 => ?_)
        · intro x91
          refine s_dup2_11 dX0_isMiddle_219 rfl (va_rfc _) ?_
          refine s_ob (r := y52) (fun z => [(9, .ref a69), (8, .int x51), (7, va_rf y52), (1005, .long y53), (1003, .long y54), (2, .int y55), (0, .ref y56), (1, va_rf y57)]) (fun z => [.int x91, z, .int x91, z]) (fun a93 => ?_)
          refine s_chk (fun hk94 => ?_)
          refine s_chk (fun hi95 => ?_)
          refine s_iald dX0_isMiddle_220 hk94 rfl hi95 ?_
          refine s_aload dX0_isMiddle_221 0 rfl (by decide) ?_
          refine s_getV (j := 0) dX0_isMiddle_223 hk70 (by decide) q585 ?_
          refine s_iadd dX0_isMiddle_226 ?_
          refine s_chk (fun hi96 => ?_)
          refine s_iast dX0_isMiddle_227 hk94 rfl (by decide) hi96 ?_
          refine s_hl (fun h97 e98 => ?_)
          refine s_goto 261 dX0_isMiddle_228 (by decide) ?_
          refine s_iinc (1 : Int32) [(8, .int (x51 + (1 : Int32))), (9, .ref a69), (7, va_rf y52), (1005, .long y53), (1003, .long y54), (2, .int y55), (0, .ref y56), (1, va_rf y57)] dX0_isMiddle_261 1 rfl (by decide) (by decide) (by decide) rfl ?_
          refine s_goto 112 dX0_isMiddle_264 (by decide) ?_
          refine s_sub [0, 2, 3, 4, 5, 6, 7] rfl ?_
          exact ih (x51 + (1 : Int32)) h97 k hk
        refine s_if_ge 218 dX0_isMiddle_211 (by decide) (fun c100 => ?_) (fun c100 => ?_)
        · refine s_iconst (1 : Int32) dX0_isMiddle_218 (by decide) ?_
          refine s_sub [4, 5, 6, 7, 8, 9, 10, 11] rfl ?_
          exact hj99 (1 : Int32)
        · refine s_iconst (0 : Int32) dX0_isMiddle_214 (by decide) ?_
          refine s_goto 219 dX0_isMiddle_215 (by decide) ?_
          refine s_sub [4, 5, 6, 7, 8, 9, 10, 11] rfl ?_
          exact hj99 (0 : Int32)
theorem sX0_isMiddle_L2 (G : Gl) (n : Nat) (K : Nat → Nat) (hK : K = G.ad) (y3 : Nat) (y4 : Option Nat) : ∀ (f : Nat) (x2 : Int32) (h : AH), Sim G yX0_isMiddle.cls yX0_isMiddle.name cX0_isMiddle 18 (some .boolean) 4 cvI 2 [(2, .int x2), (0, .ref y3), (1, va_rf y4)] [] h (F_X0_isMiddle_L2 n K y3 y4 f x2 h) := by
  intro f
  induction f with
  | zero =>
    intro x2 h
    exact s_none
  | succ f ih =>
    intro x2 h
    unfold F_X0_isMiddle_L2
    refine s_iload_n dX0_isMiddle_2 0 rfl ?_
    refine s_aload_n dX0_isMiddle_3 1 rfl ?_
    refine s_chk (fun hk5 => ?_)
    refine s_get (j := 2) 0 (va_rf (h.R y3 2)) dX0_isMiddle_4 hk5 rfl (by decide) q235 (Or.inl rfl) rfl ?_
    refine s_ob (r := h.R y3 2) (fun z => [(2, .int x2), (0, .ref y3), (1, va_rf y4)]) (fun z => [z, .int x2]) (fun a6 => ?_)
    refine s_chk (fun hk9 => ?_)
    refine s_callV_I 2 (kJ2_size G n K hK a6 h) (by decide) (by decide) dX0_isMiddle_7 hk9 rfl rfl q732 q552 q553 q107 q554 hyJ2_size rfl rfl (Nat.le_of_ble_eq_true rfl) (fun r7 h8 => ?_)
    refine s_icmp_ge 307 dX0_isMiddle_10 (by decide) (fun c10 => ?_) (fun c10 => ?_)
    · refine s_iconst (1 : Int32) dX0_isMiddle_307 (by decide) ?_
      exact s_zret dX0_isMiddle_308 rfl rfl rfl
    · refine s_aload_n dX0_isMiddle_13 1 rfl ?_
      refine s_chk (fun hk11 => ?_)
      refine s_get (j := 2) 0 (va_rf (h8.R y3 2)) dX0_isMiddle_14 hk11 rfl (by decide) q235 (Or.inl rfl) rfl ?_
      refine s_iload_n dX0_isMiddle_17 0 rfl ?_
      refine s_ob (r := h8.R y3 2) (fun z => [(2, .int x2), (0, .ref y3), (1, va_rf y4)]) (fun z => [.int x2, z]) (fun a12 => ?_)
      refine s_chk (fun hk15 => ?_)
      refine s_callV_R 2 (kJ2_get G n K hK a12 x2 h8) (by decide) (by decide) dX0_isMiddle_18 hk15 rfl rfl q733 q734 q735 q107 q736 hyJ2_get rfl rfl (Nat.le_of_ble_eq_true rfl) (fun r13 h14 => ?_)
      refine s_ob (r := r13) (fun z => [(2, .int x2), (0, .ref y3), (1, va_rf y4)]) (fun z => [z]) (fun a16 => ?_)
      refine s_chk (fun hk17 => ?_)
      refine s_castV dX0_isMiddle_21 hk17 q745 ?_
      refine s_getV (j := 3) dX0_isMiddle_24 hk17 (by decide) q591 ?_
      refine s_i2l dX0_isMiddle_27 ?_
      refine s_oload_n dX0_isMiddle_28 2 rfl ?_
      refine s_ob (r := y4) (fun z => [(2, .int x2), (0, .ref y3), (1, va_rf y4)]) (fun z => [z, .long ((h14.I a16 3).toInt64)]) (fun a18 => ?_)
      refine s_chk (fun hk19 => ?_)
      refine s_getN (j := 2) 12 (.long (h14.L a18 2)) dX0_isMiddle_29 hk19 rfl (by decide) q960 (Or.inl rfl) rfl ?_
      refine s_lmul dX0_isMiddle_32 ?_
      refine s_oload_n dX0_isMiddle_33 2 rfl ?_
      refine s_ob (r := y4) (fun z => [(2, .int x2), (0, .ref y3), (1, va_rf y4)]) (fun z => [z, .long (((h14.I a16 3).toInt64) * (h14.L a18 2))]) (fun a20 => ?_)
      refine s_chk (fun hk21 => ?_)
      refine s_getN (j := 0) 12 (.long (h14.L a20 0)) dX0_isMiddle_34 hk21 rfl (by decide) q956 (Or.inl rfl) rfl ?_
      refine s_lsub dX0_isMiddle_37 ?_
      refine s_lstore_n [(1003, .long ((((h14.I a16 3).toInt64) * (h14.L a18 2)) - (h14.L a20 0))), (2, .int x2), (0, .ref y3), (1, va_rf y4)] dX0_isMiddle_38 (by decide) (by decide) rfl ?_
      refine s_aload_n dX0_isMiddle_39 2 rfl ?_
      refine s_chk (fun hk22 => ?_)
      refine s_get (j := 2) 0 (va_rf (h14.R y3 2)) dX0_isMiddle_40 hk22 rfl (by decide) q235 (Or.inl rfl) rfl ?_
      refine s_iload_n dX0_isMiddle_43 1 rfl ?_
      refine s_ob (r := h14.R y3 2) (fun z => [(1003, .long ((((h14.I a16 3).toInt64) * (h14.L a18 2)) - (h14.L a20 0))), (2, .int x2), (0, .ref y3), (1, va_rf y4)]) (fun z => [.int x2, z]) (fun a23 => ?_)
      refine s_chk (fun hk26 => ?_)
      refine s_callV_R 2 (kJ2_get G n K hK a23 x2 h14) (by decide) (by decide) dX0_isMiddle_44 hk26 rfl rfl q733 q734 q735 q107 q736 hyJ2_get rfl rfl (Nat.le_of_ble_eq_true rfl) (fun r24 h25 => ?_)
      refine s_ob (r := r24) (fun z => [(1003, .long ((((h14.I a16 3).toInt64) * (h14.L a18 2)) - (h14.L a20 0))), (2, .int x2), (0, .ref y3), (1, va_rf y4)]) (fun z => [z]) (fun a27 => ?_)
      refine s_chk (fun hk28 => ?_)
      refine s_castV dX0_isMiddle_47 hk28 q745 ?_
      refine s_getV (j := 4) dX0_isMiddle_50 hk28 (by decide) q593 ?_
      refine s_i2l dX0_isMiddle_53 ?_
      refine s_oload_n dX0_isMiddle_54 3 rfl ?_
      refine s_ob (r := y4) (fun z => [(1003, .long ((((h14.I a16 3).toInt64) * (h14.L a18 2)) - (h14.L a20 0))), (2, .int x2), (0, .ref y3), (1, va_rf y4)]) (fun z => [z, .long ((h25.I a27 4).toInt64)]) (fun a29 => ?_)
      refine s_chk (fun hk30 => ?_)
      refine s_getN (j := 2) 12 (.long (h25.L a29 2)) dX0_isMiddle_55 hk30 rfl (by decide) q960 (Or.inl rfl) rfl ?_
      refine s_lmul dX0_isMiddle_58 ?_
      refine s_oload_n dX0_isMiddle_59 3 rfl ?_
      refine s_ob (r := y4) (fun z => [(1003, .long ((((h14.I a16 3).toInt64) * (h14.L a18 2)) - (h14.L a20 0))), (2, .int x2), (0, .ref y3), (1, va_rf y4)]) (fun z => [z, .long (((h25.I a27 4).toInt64) * (h25.L a29 2))]) (fun a31 => ?_)
      refine s_chk (fun hk32 => ?_)
      refine s_getN (j := 1) 12 (.long (h25.L a31 1)) dX0_isMiddle_60 hk32 rfl (by decide) q958 (Or.inl rfl) rfl ?_
      refine s_lsub dX0_isMiddle_63 ?_
      refine s_lstore [(1005, .long ((((h25.I a27 4).toInt64) * (h25.L a29 2)) - (h25.L a31 1))), (1003, .long ((((h14.I a16 3).toInt64) * (h14.L a18 2)) - (h14.L a20 0))), (2, .int x2), (0, .ref y3), (1, va_rf y4)] dX0_isMiddle_64 (by decide) (by decide) rfl ?_
      refine s_lload_n dX0_isMiddle_66 1 rfl ?_
      refine s_lconst (0 : Int64) dX0_isMiddle_67 (by decide) ?_
      refine s_lcmp dX0_isMiddle_68 ?_
      refine s_jn (fun j33 => Sim G yX0_isMiddle.cls yX0_isMiddle.name cX0_isMiddle 18 (some .boolean) 4 cvI 82 [(1005, .long ((((h25.I a27 4).toInt64) * (h25.L a29 2)) - (h25.L a31 1))), (1003, .long ((((h14.I a16 3).toInt64) * (h14.L a18 2)) - (h14.L a20 0))), (2, .int x2), (0, .ref y3), (1, va_rf y4)] [] h25 (j33 )) ?_ (fun j33 hj110 => ?_)
      · skip
        refine s_aload_n dX0_isMiddle_82 3 rfl ?_
        refine s_chk (fun hk34 => ?_)
        refine s_get (j := 18) 0 (va_rf (h25.R y3 18)) dX0_isMiddle_83 hk34 rfl (by decide) q251 (Or.inl rfl) rfl ?_
        refine s_ostore [(7, va_rf (h25.R y3 18)), (1005, .long ((((h25.I a27 4).toInt64) * (h25.L a29 2)) - (h25.L a31 1))), (1003, .long ((((h14.I a16 3).toInt64) * (h14.L a18 2)) - (h14.L a20 0))), (2, .int x2), (0, .ref y3), (1, va_rf y4)] dX0_isMiddle_86 (by decide) (by decide) rfl ?_
        refine s_iconst (0 : Int32) dX0_isMiddle_88 (by decide) ?_
        refine s_istore [(8, .int (0 : Int32)), (7, va_rf (h25.R y3 18)), (1005, .long ((((h25.I a27 4).toInt64) * (h25.L a29 2)) - (h25.L a31 1))), (1003, .long ((((h14.I a16 3).toInt64) * (h14.L a18 2)) - (h14.L a20 0))), (2, .int x2), (0, .ref y3), (1, va_rf y4)] dX0_isMiddle_89 (by decide) (by decide) rfl ?_
        refine sX0_isMiddle_L91 G n K hK (h25.R y3 18) ((((h25.I a27 4).toInt64) * (h25.L a29 2)) - (h25.L a31 1)) ((((h14.I a16 3).toInt64) * (h14.L a18 2)) - (h14.L a20 0)) x2 y3 y4 n (0 : Int32) h25 _ ?_
        intro h49
        refine s_iconst (0 : Int32) dX0_isMiddle_109 (by decide) ?_
        refine s_istore [(8, .int (0 : Int32)), (7, va_rf (h25.R y3 18)), (1005, .long ((((h25.I a27 4).toInt64) * (h25.L a29 2)) - (h25.L a31 1))), (1003, .long ((((h14.I a16 3).toInt64) * (h14.L a18 2)) - (h14.L a20 0))), (2, .int x2), (0, .ref y3), (1, va_rf y4)] dX0_isMiddle_110 (by decide) (by decide) rfl ?_
        refine sX0_isMiddle_L112 G n K hK (h25.R y3 18) ((((h25.I a27 4).toInt64) * (h25.L a29 2)) - (h25.L a31 1)) ((((h14.I a16 3).toInt64) * (h14.L a18 2)) - (h14.L a20 0)) x2 y3 y4 n (0 : Int32) h49 _ ?_
        intro h101
        refine s_iconst (2 : Int32) dX0_isMiddle_267 (by decide) ?_
        refine s_oload dX0_isMiddle_268 0 rfl (by decide) ?_
        refine s_iconst (0 : Int32) dX0_isMiddle_270 (by decide) ?_
        refine s_ob (r := h25.R y3 18) (fun z => [(7, z), (2, .int x2), (0, .ref y3), (1, va_rf y4)]) (fun z => [.int (0 : Int32), z, .int (2 : Int32)]) (fun a102 => ?_)
        refine s_chk (fun hk103 => ?_)
        refine s_chk (fun hi104 => ?_)
        refine s_iald dX0_isMiddle_271 hk103 rfl hi104 ?_
        refine s_aload dX0_isMiddle_272 0 rfl (by decide) ?_
        refine s_iconst (1 : Int32) dX0_isMiddle_274 (by decide) ?_
        refine s_chk (fun hi105 => ?_)
        refine s_iald dX0_isMiddle_275 hk103 rfl hi105 ?_
        refine s_mmax dX0_isMiddle_276 (by decide) q984 q474 q116 q475 (Nat.le_of_ble_eq_true rfl) ?_
        refine s_aload dX0_isMiddle_279 0 rfl (by decide) ?_
        refine s_iconst (2 : Int32) dX0_isMiddle_281 (by decide) ?_
        refine s_chk (fun hi106 => ?_)
        refine s_iald dX0_isMiddle_282 hk103 rfl hi106 ?_
        refine s_aload dX0_isMiddle_283 0 rfl (by decide) ?_
        refine s_iconst (3 : Int32) dX0_isMiddle_285 (by decide) ?_
        refine s_chk (fun hi107 => ?_)
        refine s_iald dX0_isMiddle_286 hk103 rfl hi107 ?_
        refine s_mmax dX0_isMiddle_287 (by decide) q984 q474 q116 q475 (Nat.le_of_ble_eq_true rfl) ?_
        refine s_iadd dX0_isMiddle_290 ?_
        refine s_imul dX0_isMiddle_291 ?_
        refine s_aload_n dX0_isMiddle_292 2 rfl ?_
        refine s_chk (fun hk108 => ?_)
        refine s_get (j := 7) 0 (.int (h101.I y3 7)) dX0_isMiddle_293 hk108 rfl (by decide) q240 (Or.inl rfl) rfl ?_
        refine s_icmp_le 301 dX0_isMiddle_296 (by decide) (fun c109 => ?_) (fun c109 => ?_)
        · refine s_iinc (1 : Int32) [(2, .int (x2 + (1 : Int32))), (7, .ref a102), (0, .ref y3), (1, va_rf y4)] dX0_isMiddle_301 1 rfl (by decide) (by decide) (by decide) rfl ?_
          refine s_goto 2 dX0_isMiddle_304 (by decide) ?_
          refine s_sub [0, 2, 3] rfl ?_
          exact ih (x2 + (1 : Int32)) h101
        · refine s_iconst (0 : Int32) dX0_isMiddle_299 (by decide) ?_
          exact s_zret dX0_isMiddle_300 rfl rfl rfl
      refine s_if_ne 82 dX0_isMiddle_69 (by decide) (fun c111 => ?_) (fun c111 => ?_)
      · exact hj110
      · refine s_lload dX0_isMiddle_72 0 rfl ?_
        refine s_lconst (0 : Int64) dX0_isMiddle_74 (by decide) ?_
        refine s_lcmp dX0_isMiddle_75 ?_
        refine s_if_ne 82 dX0_isMiddle_76 (by decide) (fun c112 => ?_) (fun c112 => ?_)
        · exact hj110
        · refine s_goto 301 dX0_isMiddle_79 (by decide) ?_
          refine s_iinc (1 : Int32) [(2, .int (x2 + (1 : Int32))), (1005, .long ((((h25.I a27 4).toInt64) * (h25.L a29 2)) - (h25.L a31 1))), (1003, .long ((((h14.I a16 3).toInt64) * (h14.L a18 2)) - (h14.L a20 0))), (0, .ref y3), (1, va_rf y4)] dX0_isMiddle_301 2 rfl (by decide) (by decide) (by decide) rfl ?_
          refine s_goto 2 dX0_isMiddle_304 (by decide) ?_
          refine s_sub [0, 3, 4] rfl ?_
          exact ih (x2 + (1 : Int32)) h25
theorem kX0_isMiddle (G : Gl) (n : Nat) (K : Nat → Nat) (hK : K = G.ad) (p0 : Nat) (p1 : Option Nat) (h : AH) : OkM G yX0_isMiddle cX0_isMiddle 18 (some .boolean) 4 cvI [.ref p0, va_rf p1] h (F_X0_isMiddle n K p0 p1 h) := by
  refine ok_of_sim [(0, .ref p0), (1, va_rf p1)] (by decide +kernel) (fun r => ⟨_, rfl⟩) (by simp [uns, lv_args, lg_sl, catI, catL, catA, va_rfc]) (by simp [uns, lv_args, lg_sl, catI, catL, catA, va_rfc]) (by simp [uns, lv_args, lg_sl, catI, catL, catA, va_rfc]) ?_
  unfold F_X0_isMiddle
  refine s_iconst (0 : Int32) dX0_isMiddle_0 (by decide) ?_
  refine s_istore_n [(2, .int (0 : Int32)), (0, .ref p0), (1, va_rf p1)] dX0_isMiddle_1 (by decide) (by decide) rfl ?_
  exact sX0_isMiddle_L2 G n K hK p0 p1 n (0 : Int32) h
theorem hyX0_comes : yX0_comes.cls ≠ "java/lang/invoke/MethodHandle" ∧ yX0_comes.cls ≠ "java/lang/invoke/VarHandle" ∧ (parseMethodDescriptor yX0_comes.desc).map (fun d => d.parameters.length) = some 1 := by decide +kernel
theorem sX0_comes_L2 (G : Gl) (n : Nat) (K : Nat → Nat) (hK : K = G.ad) (y3 : Nat) (y4 : Option Nat) : ∀ (f : Nat) (x2 : Int32) (h : AH), Sim G yX0_comes.cls yX0_comes.name cX0_comes 3 none 6 cvV 2 [(2, .int x2), (0, .ref y3), (1, va_rf y4)] [] h (F_X0_comes_L2 n K y3 y4 f x2 h) := by
  intro f
  induction f with
  | zero =>
    intro x2 h
    exact s_none
  | succ f ih =>
    intro x2 h
    unfold F_X0_comes_L2
    refine s_iload_n dX0_comes_2 0 rfl ?_
    refine s_aload_n dX0_comes_3 1 rfl ?_
    refine s_chk (fun hk5 => ?_)
    refine s_get (j := 9) 0 (va_rf (h.R y3 9)) dX0_comes_4 hk5 rfl (by decide) q242 (Or.inl rfl) rfl ?_
    refine s_ob (r := h.R y3 9) (fun z => [(2, .int x2), (0, .ref y3), (1, va_rf y4)]) (fun z => [z, .int x2]) (fun a6 => ?_)
    refine s_chk (fun hk9 => ?_)
    refine s_callV_I 2 (kJ2_size G n K hK a6 h) (by decide) (by decide) dX0_comes_7 hk9 rfl rfl q732 q552 q553 q107 q554 hyJ2_size rfl rfl (Nat.le_of_ble_eq_true rfl) (fun r7 h8 => ?_)
    refine s_jn (fun j11 => ∀ (h10 : AH), Sim G yX0_comes.cls yX0_comes.name cX0_comes 3 none 6 cvV 37 [(2, .int x2), (0, .ref y3), (1, va_rf y4)] [] h10 (j11 h10)) ?_ (fun j11 hj40 => ?_)
    · intro h10
      refine s_iload_n dX0_comes_37 0 rfl ?_
      refine s_aload_n dX0_comes_38 1 rfl ?_
      refine s_chk (fun hk12 => ?_)
      refine s_get (j := 9) 0 (va_rf (h10.R y3 9)) dX0_comes_39 hk12 rfl (by decide) q242 (Or.inl rfl) rfl ?_
      refine s_ob (r := h10.R y3 9) (fun z => [(2, .int x2), (0, .ref y3), (1, va_rf y4)]) (fun z => [z, .int x2]) (fun a13 => ?_)
      refine s_chk (fun hk16 => ?_)
      refine s_callV_I 2 (kJ2_size G n K hK a13 h10) (by decide) (by decide) dX0_comes_42 hk16 rfl rfl q732 q552 q553 q107 q554 hyJ2_size rfl rfl (Nat.le_of_ble_eq_true rfl) (fun r14 h15 => ?_)
      refine s_jn (fun j18 => ∀ (h17 : AH), Sim G yX0_comes.cls yX0_comes.name cX0_comes 3 none 6 cvV 66 [(2, .int x2), (0, .ref y3), (1, va_rf y4)] [] h17 (j18 h17)) ?_ (fun j18 hj28 => ?_)
      · intro h17
        refine s_aload_n dX0_comes_66 1 rfl ?_
        refine s_oload_n dX0_comes_67 2 rfl ?_
        refine s_chk (fun hk21 => ?_)
        refine s_callV_I 0 (kX0_isMiddle G n K hK y3 y4 h17) (by decide) (by decide) dX0_comes_68 hk21 rfl rfl q980 q982 qs28 q103 q983 hyX0_isMiddle rfl rfl (Nat.le_of_ble_eq_true rfl) (fun r19 h20 => ?_)
        refine s_if_ne 75 dX0_comes_71 (by decide) (fun c22 => ?_) (fun c22 => ?_)
        · refine s_aload_n dX0_comes_75 1 rfl ?_
          refine s_chk (fun hk23 => ?_)
          refine s_get (j := 9) 0 (va_rf (h20.R y3 9)) dX0_comes_76 hk23 rfl (by decide) q242 (Or.inl rfl) rfl ?_
          refine s_iload_n dX0_comes_79 0 rfl ?_
          refine s_oload_n dX0_comes_80 2 rfl ?_
          refine s_ob (r := h20.R y3 9) (fun z => [(2, .int x2), (0, .ref y3), (1, va_rf y4)]) (fun z => [va_rf y4, .int x2, z]) (fun a24 => ?_)
          refine s_chk (fun hk27 => ?_)
          refine s_callV_V 2 (kJ2_add_3 G n K hK a24 x2 y4 h20) (by decide) (by decide) dX0_comes_81 hk27 rfl rfl q930 q931 q932 q107 q933 hyJ2_add_3 rfl rfl (Nat.le_of_ble_eq_true rfl) (fun r25 h26 => ?_)
          exact s_vret dX0_comes_84 rfl rfl
        · exact s_vret dX0_comes_74 rfl rfl
      refine s_icmp_ge 66 dX0_comes_45 (by decide) (fun c29 => ?_) (fun c29 => ?_)
      · exact hj28 h15
      · refine s_aload_n dX0_comes_48 1 rfl ?_
        refine s_chk (fun hk30 => ?_)
        refine s_get (j := 9) 0 (va_rf (h15.R y3 9)) dX0_comes_49 hk30 rfl (by decide) q242 (Or.inl rfl) rfl ?_
        refine s_iload_n dX0_comes_52 0 rfl ?_
        refine s_ob (r := h15.R y3 9) (fun z => [(2, .int x2), (0, .ref y3), (1, va_rf y4)]) (fun z => [.int x2, z]) (fun a31 => ?_)
        refine s_chk (fun hk34 => ?_)
        refine s_callV_R 2 (kJ2_get G n K hK a31 x2 h15) (by decide) (by decide) dX0_comes_53 hk34 rfl rfl q733 q734 q735 q107 q736 hyJ2_get rfl rfl (Nat.le_of_ble_eq_true rfl) (fun r32 h33 => ?_)
        refine s_ob (r := r32) (fun z => [(2, .int x2), (0, .ref y3), (1, va_rf y4)]) (fun z => [z]) (fun a35 => ?_)
        refine s_chk (fun hk36 => ?_)
        refine s_cast 12 dX0_comes_56 hk36 rfl q948 ?_
        refine s_oload_n dX0_comes_59 2 rfl ?_
        refine s_callV_I 12 (kX12_isSame G n K hK a35 y4 h33) (by decide) (by decide) dX0_comes_60 hk36 rfl rfl q976 q977 q978 q133 q979 hyX12_isSame rfl rfl (Nat.le_of_ble_eq_true rfl) (fun r37 h38 => ?_)
        refine s_if_ne 74 dX0_comes_63 (by decide) (fun c39 => ?_) (fun c39 => ?_)
        · exact s_vret dX0_comes_74 rfl rfl
        · exact hj28 h38
    refine s_icmp_ge 37 dX0_comes_10 (by decide) (fun c41 => ?_) (fun c41 => ?_)
    · exact hj40 h8
    · refine s_aload_n dX0_comes_13 1 rfl ?_
      refine s_chk (fun hk42 => ?_)
      refine s_get (j := 9) 0 (va_rf (h8.R y3 9)) dX0_comes_14 hk42 rfl (by decide) q242 (Or.inl rfl) rfl ?_
      refine s_iload_n dX0_comes_17 0 rfl ?_
      refine s_ob (r := h8.R y3 9) (fun z => [(2, .int x2), (0, .ref y3), (1, va_rf y4)]) (fun z => [.int x2, z]) (fun a43 => ?_)
      refine s_chk (fun hk46 => ?_)
      refine s_callV_R 2 (kJ2_get G n K hK a43 x2 h8) (by decide) (by decide) dX0_comes_18 hk46 rfl rfl q733 q734 q735 q107 q736 hyJ2_get rfl rfl (Nat.le_of_ble_eq_true rfl) (fun r44 h45 => ?_)
      refine s_ob (r := r44) (fun z => [(2, .int x2), (0, .ref y3), (1, va_rf y4)]) (fun z => [z]) (fun a47 => ?_)
      refine s_chk (fun hk48 => ?_)
      refine s_cast 12 dX0_comes_21 hk48 rfl q948 ?_
      refine s_oload_n dX0_comes_24 2 rfl ?_
      refine s_callV_I 12 (kX12_isAhead G n K hK a47 y4 h45) (by decide) (by decide) dX0_comes_25 hk48 rfl rfl q972 q973 q974 q133 q975 hyX12_isAhead rfl rfl (Nat.le_of_ble_eq_true rfl) (fun r49 h50 => ?_)
      refine s_if_eq 37 dX0_comes_28 (by decide) (fun c51 => ?_) (fun c51 => ?_)
      · exact hj40 h50
      · refine s_iinc (1 : Int32) [(2, .int (x2 + (1 : Int32))), (0, .ref y3), (1, va_rf y4)] dX0_comes_31 0 rfl (by decide) (by decide) (by decide) rfl ?_
        refine s_goto 2 dX0_comes_34 (by decide) ?_
        exact ih (x2 + (1 : Int32)) h50
theorem kX0_comes (G : Gl) (n : Nat) (K : Nat → Nat) (hK : K = G.ad) (p0 : Nat) (p1 : Option Nat) (h : AH) : OkM G yX0_comes cX0_comes 3 none 6 cvV [.ref p0, va_rf p1] h (F_X0_comes n K p0 p1 h) := by
  refine ok_of_sim [(0, .ref p0), (1, va_rf p1)] (by decide +kernel) (fun r => ⟨_, rfl⟩) (by simp [uns, lv_args, lg_sl, catI, catL, catA, va_rfc]) (by simp [uns, lv_args, lg_sl, catI, catL, catA, va_rfc]) (by simp [uns, lv_args, lg_sl, catI, catL, catA, va_rfc]) ?_
  unfold F_X0_comes
  refine s_iconst (0 : Int32) dX0_comes_0 (by decide) ?_
  refine s_istore_n [(2, .int (0 : Int32)), (0, .ref p0), (1, va_rf p1)] dX0_comes_1 (by decide) (by decide) rfl ?_
  exact sX0_comes_L2 G n K hK p0 p1 n (0 : Int32) h
theorem hyX11_isAlong : yX11_isAlong.cls ≠ "java/lang/invoke/MethodHandle" ∧ yX11_isAlong.cls ≠ "java/lang/invoke/VarHandle" ∧ (parseMethodDescriptor yX11_isAlong.desc).map (fun d => d.parameters.length) = some 1 := by decide +kernel
theorem kX11_isAlong (G : Gl) (n : Nat) (K : Nat → Nat) (hK : K = G.ad) (p0 : Nat) (p1 : Option Nat) (h : AH) : OkM G yX11_isAlong cX11_isAlong 2 (some .boolean) 1 cvI [.ref p0, va_rf p1] h (F_X11_isAlong n K p0 p1 h) := by
  refine ok_of_sim [(0, .ref p0), (1, va_rf p1)] (by decide +kernel) (fun r => ⟨_, rfl⟩) (by simp [uns, lv_args, lg_sl, catI, catL, catA, va_rfc]) (by simp [uns, lv_args, lg_sl, catI, catL, catA, va_rfc]) (by simp [uns, lv_args, lg_sl, catI, catL, catA, va_rfc]) ?_
  unfold F_X11_isAlong
  refine s_aload_n dX11_isAlong_0 0 rfl ?_
  refine s_chk (fun hk1 => ?_)
  refine s_get (j := 0) 11 (.long (h.L p0 0)) dX11_isAlong_1 hk1 rfl (by decide) q895 (Or.inl rfl) rfl ?_
  refine s_oload_n dX11_isAlong_4 1 rfl ?_
  refine s_ob (r := p1) (fun z => [(0, .ref p0), (1, z)]) (fun z => [z, .long (h.L p0 0)]) (fun a2 => ?_)
  refine s_chk (fun hk3 => ?_)
  refine s_get (j := 1) 11 (.long (h.L a2 1)) dX11_isAlong_5 hk3 rfl (by decide) q898 (Or.inl rfl) rfl ?_
  refine s_lmul dX11_isAlong_8 ?_
  refine s_aload_n dX11_isAlong_9 1 rfl ?_
  refine s_get (j := 0) 11 (.long (h.L a2 0)) dX11_isAlong_10 hk3 rfl (by decide) q895 (Or.inl rfl) rfl ?_
  refine s_aload_n dX11_isAlong_13 0 rfl ?_
  refine s_get (j := 1) 11 (.long (h.L p0 1)) dX11_isAlong_14 hk1 rfl (by decide) q898 (Or.inl rfl) rfl ?_
  refine s_lmul dX11_isAlong_17 ?_
  refine s_lcmp dX11_isAlong_18 ?_
  refine s_if_ne 26 dX11_isAlong_19 (by decide) (fun c4 => ?_) (fun c4 => ?_)
  · refine s_iconst (0 : Int32) dX11_isAlong_26 (by decide) ?_
    exact s_zret dX11_isAlong_27 rfl rfl rfl
  · refine s_iconst (1 : Int32) dX11_isAlong_22 (by decide) ?_
    refine s_goto 27 dX11_isAlong_23 (by decide) ?_
    exact s_zret dX11_isAlong_27 rfl rfl rfl
theorem hyX12_crossing : yX12_crossing.cls ≠ "java/lang/invoke/MethodHandle" ∧ yX12_crossing.cls ≠ "java/lang/invoke/VarHandle" ∧ (parseMethodDescriptor yX12_crossing.desc).map (fun d => d.parameters.length) = some 2 := by decide +kernel
theorem kX12_crossing (G : Gl) (n : Nat) (K : Nat → Nat) (hK : K = G.ad) (p0 : Option Nat) (p1 : Option Nat) (h : AH) : OkM G yX12_crossing cX12_crossing 2 (some (.object "MiddleSheet$Spot")) 3 cvR [va_rf p0, va_rf p1] h (F_X12_crossing n K p0 p1 h) := by
  refine ok_of_sim [(0, va_rf p0), (1, va_rf p1)] (by decide +kernel) (fun r => ⟨_, rfl⟩) (by simp [uns, lv_args, lg_sl, catI, catL, catA, va_rfc]) (by simp [uns, lv_args, lg_sl, catI, catL, catA, va_rfc]) (by simp [uns, lv_args, lg_sl, catI, catL, catA, va_rfc]) ?_
  unfold F_X12_crossing
  refine s_new 12 dX12_crossing_0 rfl q992 q949 q133 ?_
  refine s_hl (fun h1 e2 => ?_)
  refine s_dup dX12_crossing_3 rfl ?_
  refine s_oload_n dX12_crossing_4 0 rfl ?_
  refine s_ob (r := p0) (fun z => [(0, z), (1, va_rf p1)]) (fun z => [z, .ref h.n, .ref h.n]) (fun a3 => ?_)
  refine s_chk (fun hk4 => ?_)
  refine s_getN (j := 2) 11 (.long (h1.L a3 2)) dX12_crossing_5 hk4 rfl (by decide) q902 (Or.inl rfl) rfl ?_
  refine s_oload_n dX12_crossing_8 1 rfl ?_
  refine s_ob (r := p1) (fun z => [(0, .ref a3), (1, z)]) (fun z => [z, .long (h1.L a3 2), .ref h.n, .ref h.n]) (fun a5 => ?_)
  refine s_chk (fun hk6 => ?_)
  refine s_getN (j := 1) 11 (.long (h1.L a5 1)) dX12_crossing_9 hk6 rfl (by decide) q899 (Or.inl rfl) rfl ?_
  refine s_lmul dX12_crossing_12 ?_
  refine s_aload_n dX12_crossing_13 1 rfl ?_
  refine s_getN (j := 2) 11 (.long (h1.L a5 2)) dX12_crossing_14 hk6 rfl (by decide) q902 (Or.inl rfl) rfl ?_
  refine s_aload_n dX12_crossing_17 0 rfl ?_
  refine s_getN (j := 1) 11 (.long (h1.L a3 1)) dX12_crossing_18 hk4 rfl (by decide) q899 (Or.inl rfl) rfl ?_
  refine s_lmul dX12_crossing_21 ?_
  refine s_lsub dX12_crossing_22 ?_
  refine s_aload_n dX12_crossing_23 0 rfl ?_
  refine s_getN (j := 0) 11 (.long (h1.L a3 0)) dX12_crossing_24 hk4 rfl (by decide) q896 (Or.inl rfl) rfl ?_
  refine s_aload_n dX12_crossing_27 1 rfl ?_
  refine s_getN (j := 2) 11 (.long (h1.L a5 2)) dX12_crossing_28 hk6 rfl (by decide) q902 (Or.inl rfl) rfl ?_
  refine s_lmul dX12_crossing_31 ?_
  refine s_aload_n dX12_crossing_32 1 rfl ?_
  refine s_getN (j := 0) 11 (.long (h1.L a5 0)) dX12_crossing_33 hk6 rfl (by decide) q896 (Or.inl rfl) rfl ?_
  refine s_aload_n dX12_crossing_36 0 rfl ?_
  refine s_getN (j := 2) 11 (.long (h1.L a3 2)) dX12_crossing_37 hk4 rfl (by decide) q902 (Or.inl rfl) rfl ?_
  refine s_lmul dX12_crossing_40 ?_
  refine s_lsub dX12_crossing_41 ?_
  refine s_aload_n dX12_crossing_42 0 rfl ?_
  refine s_getN (j := 0) 11 (.long (h1.L a3 0)) dX12_crossing_43 hk4 rfl (by decide) q896 (Or.inl rfl) rfl ?_
  refine s_aload_n dX12_crossing_46 1 rfl ?_
  refine s_getN (j := 1) 11 (.long (h1.L a5 1)) dX12_crossing_47 hk6 rfl (by decide) q899 (Or.inl rfl) rfl ?_
  refine s_lmul dX12_crossing_50 ?_
  refine s_aload_n dX12_crossing_51 1 rfl ?_
  refine s_getN (j := 0) 11 (.long (h1.L a5 0)) dX12_crossing_52 hk6 rfl (by decide) q896 (Or.inl rfl) rfl ?_
  refine s_aload_n dX12_crossing_55 0 rfl ?_
  refine s_getN (j := 1) 11 (.long (h1.L a3 1)) dX12_crossing_56 hk4 rfl (by decide) q899 (Or.inl rfl) rfl ?_
  refine s_lmul dX12_crossing_59 ?_
  refine s_lsub dX12_crossing_60 ?_
  refine s_callI_V (kX12_init G n K hK h.n (((h1.L a3 2) * (h1.L a5 1)) - ((h1.L a5 2) * (h1.L a3 1))) (((h1.L a3 0) * (h1.L a5 2)) - ((h1.L a5 0) * (h1.L a3 2))) (((h1.L a3 0) * (h1.L a5 1)) - ((h1.L a5 0) * (h1.L a3 1))) h1) (by decide) (by decide) dX12_crossing_61 q993 q951 q133 q952 rfl hyX12_init rfl rfl (Nat.le_of_ble_eq_true rfl) (fun r7 h8 => ?_)
  exact s_aret (v := (some h.n)) dX12_crossing_64 rfl (Or.inl ⟨_, rfl⟩) rfl
theorem hyX12_isOn : yX12_isOn.cls ≠ "java/lang/invoke/MethodHandle" ∧ yX12_isOn.cls ≠ "java/lang/invoke/VarHandle" ∧ (parseMethodDescriptor yX12_isOn.desc).map (fun d => d.parameters.length) = some 1 := by decide +kernel
theorem kX12_isOn (G : Gl) (n : Nat) (K : Nat → Nat) (hK : K = G.ad) (p0 : Nat) (p1 : Option Nat) (h : AH) : OkM G yX12_isOn cX12_isOn 2 (some .boolean) 1 cvI [.ref p0, va_rf p1] h (F_X12_isOn n K p0 p1 h) := by
  refine ok_of_sim [(0, .ref p0), (1, va_rf p1)] (by decide +kernel) (fun r => ⟨_, rfl⟩) (by simp [uns, lv_args, lg_sl, catI, catL, catA, va_rfc]) (by simp [uns, lv_args, lg_sl, catI, catL, catA, va_rfc]) (by simp [uns, lv_args, lg_sl, catI, catL, catA, va_rfc]) ?_
  unfold F_X12_isOn
  refine s_oload_n dX12_isOn_0 1 rfl ?_
  refine s_ob (r := p1) (fun z => [(0, .ref p0), (1, z)]) (fun z => [z]) (fun a1 => ?_)
  refine s_chk (fun hk2 => ?_)
  refine s_getN (j := 0) 11 (.long (h.L a1 0)) dX12_isOn_1 hk2 rfl (by decide) q896 (Or.inl rfl) rfl ?_
  refine s_aload_n dX12_isOn_4 0 rfl ?_
  refine s_chk (fun hk3 => ?_)
  refine s_get (j := 0) 12 (.long (h.L p0 0)) dX12_isOn_5 hk3 rfl (by decide) q955 (Or.inl rfl) rfl ?_
  refine s_lmul dX12_isOn_8 ?_
  refine s_aload_n dX12_isOn_9 1 rfl ?_
  refine s_getN (j := 1) 11 (.long (h.L a1 1)) dX12_isOn_10 hk2 rfl (by decide) q899 (Or.inl rfl) rfl ?_
  refine s_aload_n dX12_isOn_13 0 rfl ?_
  refine s_get (j := 1) 12 (.long (h.L p0 1)) dX12_isOn_14 hk3 rfl (by decide) q957 (Or.inl rfl) rfl ?_
  refine s_lmul dX12_isOn_17 ?_
  refine s_ladd dX12_isOn_18 ?_
  refine s_aload_n dX12_isOn_19 1 rfl ?_
  refine s_getN (j := 2) 11 (.long (h.L a1 2)) dX12_isOn_20 hk2 rfl (by decide) q902 (Or.inl rfl) rfl ?_
  refine s_aload_n dX12_isOn_23 0 rfl ?_
  refine s_get (j := 2) 12 (.long (h.L p0 2)) dX12_isOn_24 hk3 rfl (by decide) q959 (Or.inl rfl) rfl ?_
  refine s_lmul dX12_isOn_27 ?_
  refine s_lcmp dX12_isOn_28 ?_
  refine s_if_ne 36 dX12_isOn_29 (by decide) (fun c4 => ?_) (fun c4 => ?_)
  · refine s_iconst (0 : Int32) dX12_isOn_36 (by decide) ?_
    exact s_zret dX12_isOn_37 rfl rfl rfl
  · refine s_iconst (1 : Int32) dX12_isOn_32 (by decide) ?_
    refine s_goto 37 dX12_isOn_33 (by decide) ?_
    exact s_zret dX12_isOn_37 rfl rfl rfl
theorem hyX0_proves : yX0_proves.cls ≠ "java/lang/invoke/MethodHandle" ∧ yX0_proves.cls ≠ "java/lang/invoke/VarHandle" ∧ (parseMethodDescriptor yX0_proves.desc).map (fun d => d.parameters.length) = some 0 := by decide +kernel
theorem sX0_proves_L94 (G : Gl) (n : Nat) (K : Nat → Nat) (hK : K = G.ad) (y42 : Option Nat) (y43 : Int32) (y44 : Int32) (y45 : Nat) : ∀ (f : Nat) (x41 : Int32) (h : AH) (k : AH → Option (Unit × AH)) (hk : ∀ (h : AH), Sim G yX0_proves.cls yX0_proves.name cX0_proves 6 none 4 cvV 163 [(2, .int y43), (1, .int y44), (0, .ref y45)] [] h (k h)), Sim G yX0_proves.cls yX0_proves.name cX0_proves 6 none 4 cvV 94 [(5, .int x41), (4, va_rf y42), (2, .int y43), (1, .int y44), (0, .ref y45)] [] h (F_X0_proves_L94 n K y42 y43 y44 y45 f x41 h k) := by
  intro f
  induction f with
  | zero =>
    intro x41 h k hk
    exact s_none
  | succ f ih =>
    intro x41 h k hk
    unfold F_X0_proves_L94
    refine s_iload dX0_proves_94 0 rfl (by decide) ?_
    refine s_aload_n dX0_proves_96 4 rfl ?_
    refine s_chk (fun hk46 => ?_)
    refine s_get (j := 8) 0 (va_rf (h.R y45 8)) dX0_proves_97 hk46 rfl (by decide) q241 (Or.inl rfl) rfl ?_
    refine s_ob (r := h.R y45 8) (fun z => [(5, .int x41), (4, va_rf y42), (2, .int y43), (1, .int y44), (0, .ref y45)]) (fun z => [z, .int x41]) (fun a47 => ?_)
    refine s_chk (fun hk50 => ?_)
    refine s_callV_I 2 (kJ2_size G n K hK a47 h) (by decide) (by decide) dX0_proves_100 hk50 rfl rfl q732 q552 q553 q107 q554 hyJ2_size rfl rfl (Nat.le_of_ble_eq_true rfl) (fun r48 h49 => ?_)
    refine s_icmp_ge 163 dX0_proves_103 (by decide) (fun c51 => ?_) (fun c51 => ?_)
    · refine s_sub [2, 3, 4] rfl ?_
      exact hk h49
    · refine s_oload dX0_proves_106 1 rfl (by decide) ?_
      refine s_jn (fun j53 => ∀ (h52 : AH), Sim G yX0_proves.cls yX0_proves.name cX0_proves 6 none 4 cvV 134 [(5, .int x41), (2, .int y43), (1, .int y44), (0, .ref y45)] [] h52 (j53 h52)) ?_ (fun j53 hj70 => ?_)
      · intro h52
        refine s_aload_n dX0_proves_134 3 rfl ?_
        refine s_chk (fun hk54 => ?_)
        refine s_get (j := 10) 0 (va_rf (h52.R y45 10)) dX0_proves_135 hk54 rfl (by decide) q243 (Or.inl rfl) rfl ?_
        refine s_iconst (0 : Int32) dX0_proves_138 (by decide) ?_
        refine s_iload_n dX0_proves_139 2 rfl ?_
        refine s_ob (r := h52.R y45 10) (fun z => [(5, .int x41), (2, .int y43), (1, .int y44), (0, .ref y45)]) (fun z => [.int y44, .int (0 : Int32), z]) (fun a55 => ?_)
        refine s_chk (fun hk56 => ?_)
        refine s_chk (fun hi57 => ?_)
        refine s_iast dX0_proves_140 hk56 rfl (by decide) hi57 ?_
        refine s_hl (fun h58 e59 => ?_)
        refine s_aload_n dX0_proves_141 3 rfl ?_
        refine s_get (j := 10) 0 (va_rf (h58.R y45 10)) dX0_proves_142 (show h58.kind y45 = 1 by rw [e59]; exact hk54) rfl (by decide) q243 (Or.inl rfl) rfl ?_
        refine s_iconst (1 : Int32) dX0_proves_145 (by decide) ?_
        refine s_iload_n dX0_proves_146 1 rfl ?_
        refine s_ob (r := h58.R y45 10) (fun z => [(5, .int x41), (2, .int y43), (1, .int y44), (0, .ref y45)]) (fun z => [.int y43, .int (1 : Int32), z]) (fun a60 => ?_)
        refine s_chk (fun hk61 => ?_)
        refine s_chk (fun hi62 => ?_)
        refine s_iast dX0_proves_147 hk61 rfl (by decide) hi62 ?_
        refine s_hl (fun h63 e64 => ?_)
        refine s_aload_n dX0_proves_148 3 rfl ?_
        refine s_get (j := 10) 0 (va_rf (h63.R y45 10)) dX0_proves_149 (show h63.kind y45 = 1 by rw [e64, e59]; exact hk54) rfl (by decide) q243 (Or.inl rfl) rfl ?_
        refine s_iconst (2 : Int32) dX0_proves_152 (by decide) ?_
        refine s_iload dX0_proves_153 0 rfl (by decide) ?_
        refine s_ob (r := h63.R y45 10) (fun z => [(5, .int x41), (2, .int y43), (1, .int y44), (0, .ref y45)]) (fun z => [.int x41, .int (2 : Int32), z]) (fun a65 => ?_)
        refine s_chk (fun hk66 => ?_)
        refine s_chk (fun hi67 => ?_)
        refine s_iast dX0_proves_155 hk66 rfl (by decide) hi67 ?_
        refine s_hl (fun h68 e69 => ?_)
        exact s_vret dX0_proves_156 rfl rfl
      refine s_ifnull (r := y42) 134 (fun z => [(5, .int x41), (4, va_rf y42), (2, .int y43), (1, .int y44), (0, .ref y45)]) (fun z => []) dX0_proves_108 (by decide) ?_ (fun a71 => ?_)
      · refine s_sub [0, 2, 3, 4] rfl ?_
        exact hj70 h49
      · refine s_oload dX0_proves_111 1 rfl (by decide) ?_
        refine s_aload_n dX0_proves_113 4 rfl ?_
        refine s_chk (fun hk72 => ?_)
        refine s_get (j := 8) 0 (va_rf (h49.R y45 8)) dX0_proves_114 hk72 rfl (by decide) q241 (Or.inl rfl) rfl ?_
        refine s_iload dX0_proves_117 0 rfl (by decide) ?_
        refine s_ob (r := h49.R y45 8) (fun z => [(5, .int x41), (4, va_rf y42), (2, .int y43), (1, .int y44), (0, .ref y45)]) (fun z => [.int x41, z, va_rf y42]) (fun a73 => ?_)
        refine s_chk (fun hk76 => ?_)
        refine s_callV_R 2 (kJ2_get G n K hK a73 x41 h49) (by decide) (by decide) dX0_proves_119 hk76 rfl rfl q733 q734 q735 q107 q736 hyJ2_get rfl rfl (by simp [catI, catL, catA, va_rfc]) (fun r74 h75 => ?_)
        refine s_ob (r := r74) (fun z => [(5, .int x41), (4, va_rf y42), (2, .int y43), (1, .int y44), (0, .ref y45)]) (fun z => [z, va_rf y42]) (fun a77 => ?_)
        refine s_chk (fun hk78 => ?_)
        refine s_cast 11 dX0_proves_122 hk78 rfl q883 ?_
        refine s_ob (r := y42) (fun z => [(5, .int x41), (4, va_rf y42), (2, .int y43), (1, .int y44), (0, .ref y45)]) (fun z => [.ref a77, z]) (fun a79 => ?_)
        refine s_chk (fun hk82 => ?_)
        refine s_callV_I 12 (kX12_isOn G n K hK a79 (some a77) h75) (by decide) (by decide) dX0_proves_125 hk82 rfl rfl q998 q999 q1000 q133 q1001 hyX12_isOn rfl rfl (Nat.le_of_ble_eq_true rfl) (fun r80 h81 => ?_)
        refine s_if_eq 134 dX0_proves_128 (by decide) (fun c83 => ?_) (fun c83 => ?_)
        · refine s_sub [0, 2, 3, 4] rfl ?_
          exact hj70 h81
        · refine s_goto 157 dX0_proves_131 (by decide) ?_
          refine s_iinc (1 : Int32) [(5, .int (x41 + (1 : Int32))), (4, va_rf y42), (2, .int y43), (1, .int y44), (0, .ref y45)] dX0_proves_157 0 rfl (by decide) (by decide) (by decide) rfl ?_
          refine s_goto 94 dX0_proves_160 (by decide) ?_
          exact ih (x41 + (1 : Int32)) h81 k hk
theorem sX0_proves_L17 (G : Gl) (n : Nat) (K : Nat → Nat) (hK : K = G.ad) (y12 : Int32) (y13 : Nat) : ∀ (f : Nat) (x11 : Int32) (h : AH) (k : AH → Option (Unit × AH)) (hk : ∀ (h : AH), Sim G yX0_proves.cls yX0_proves.name cX0_proves 6 none 4 cvV 169 [(1, .int y12), (0, .ref y13)] [] h (k h)), Sim G yX0_proves.cls yX0_proves.name cX0_proves 6 none 4 cvV 17 [(2, .int x11), (1, .int y12), (0, .ref y13)] [] h (F_X0_proves_L17 n K y12 y13 f x11 h k) := by
  intro f
  induction f with
  | zero =>
    intro x11 h k hk
    exact s_none
  | succ f ih =>
    intro x11 h k hk
    unfold F_X0_proves_L17
    refine s_iload_n dX0_proves_17 0 rfl ?_
    refine s_aload_n dX0_proves_18 2 rfl ?_
    refine s_chk (fun hk14 => ?_)
    refine s_get (j := 8) 0 (va_rf (h.R y13 8)) dX0_proves_19 hk14 rfl (by decide) q241 (Or.inl rfl) rfl ?_
    refine s_ob (r := h.R y13 8) (fun z => [(2, .int x11), (1, .int y12), (0, .ref y13)]) (fun z => [z, .int x11]) (fun a15 => ?_)
    refine s_chk (fun hk18 => ?_)
    refine s_callV_I 2 (kJ2_size G n K hK a15 h) (by decide) (by decide) dX0_proves_22 hk18 rfl rfl q732 q552 q553 q107 q554 hyJ2_size rfl rfl (Nat.le_of_ble_eq_true rfl) (fun r16 h17 => ?_)
    refine s_icmp_ge 169 dX0_proves_25 (by decide) (fun c19 => ?_) (fun c19 => ?_)
    · refine s_sub [1, 2] rfl ?_
      exact hk h17
    · refine s_aload_n dX0_proves_28 2 rfl ?_
      refine s_chk (fun hk20 => ?_)
      refine s_get (j := 8) 0 (va_rf (h17.R y13 8)) dX0_proves_29 hk20 rfl (by decide) q241 (Or.inl rfl) rfl ?_
      refine s_iload_n dX0_proves_32 1 rfl ?_
      refine s_ob (r := h17.R y13 8) (fun z => [(2, .int x11), (1, .int y12), (0, .ref y13)]) (fun z => [.int y12, z]) (fun a21 => ?_)
      refine s_chk (fun hk24 => ?_)
      refine s_callV_R 2 (kJ2_get G n K hK a21 y12 h17) (by decide) (by decide) dX0_proves_33 hk24 rfl rfl q733 q734 q735 q107 q736 hyJ2_get rfl rfl (Nat.le_of_ble_eq_true rfl) (fun r22 h23 => ?_)
      refine s_ob (r := r22) (fun z => [(2, .int x11), (1, .int y12), (0, .ref y13)]) (fun z => [z]) (fun a25 => ?_)
      refine s_chk (fun hk26 => ?_)
      refine s_cast 11 dX0_proves_36 hk26 rfl q883 ?_
      refine s_aload_n dX0_proves_39 2 rfl ?_
      refine s_chk (fun hk27 => ?_)
      refine s_get (j := 8) 0 (va_rf (h23.R y13 8)) dX0_proves_40 hk27 rfl (by decide) q241 (Or.inl rfl) rfl ?_
      refine s_iload_n dX0_proves_43 0 rfl ?_
      refine s_ob (r := h23.R y13 8) (fun z => [(2, .int x11), (1, .int y12), (0, .ref y13)]) (fun z => [.int x11, z, .ref a25]) (fun a28 => ?_)
      refine s_chk (fun hk31 => ?_)
      refine s_callV_R 2 (kJ2_get G n K hK a28 x11 h23) (by decide) (by decide) dX0_proves_44 hk31 rfl rfl q733 q734 q735 q107 q736 hyJ2_get rfl rfl (Nat.le_of_ble_eq_true rfl) (fun r29 h30 => ?_)
      refine s_ob (r := r29) (fun z => [(2, .int x11), (1, .int y12), (0, .ref y13)]) (fun z => [z, .ref a25]) (fun a32 => ?_)
      refine s_chk (fun hk33 => ?_)
      refine s_cast 11 dX0_proves_47 hk33 rfl q883 ?_
      refine s_chk (fun hk36 => ?_)
      refine s_callV_I 11 (kX11_isAlong G n K hK a25 (some a32) h30) (by decide) (by decide) dX0_proves_50 hk36 rfl rfl q985 q986 q987 q131 q988 hyX11_isAlong rfl rfl (Nat.le_of_ble_eq_true rfl) (fun r34 h35 => ?_)
      refine s_istore_n [(3, .int r34), (2, .int x11), (1, .int y12), (0, .ref y13)] dX0_proves_53 (by decide) (by decide) rfl ?_
      refine s_iload_n dX0_proves_54 0 rfl ?_
      refine s_jn (fun j39 => ∀ (x37 : Option Nat) (h38 : AH), Sim G yX0_proves.cls yX0_proves.name cX0_proves 6 none 4 cvV 87 [(2, .int x11), (1, .int y12), (0, .ref y13)] [va_rf x37] h38 (j39 x37 h38)) ?_ (fun j39 hj85 => ?_)
      · intro x37 h38
        refine s_ostore [(4, va_rf x37), (2, .int x11), (1, .int y12), (0, .ref y13)] dX0_proves_87 (by decide) (by decide) rfl ?_
        refine s_iload_n dX0_proves_89 1 rfl ?_
        refine s_iconst (1 : Int32) dX0_proves_90 (by decide) ?_
        refine s_iadd dX0_proves_91 ?_
        refine s_istore [(5, .int (x11 + (1 : Int32))), (4, va_rf x37), (2, .int x11), (1, .int y12), (0, .ref y13)] dX0_proves_92 (by decide) (by decide) rfl ?_
        refine sX0_proves_L94 G n K hK x37 x11 y12 y13 n (x11 + (1 : Int32)) h38 _ ?_
        intro h84
        refine s_iinc (1 : Int32) [(2, .int (x11 + (1 : Int32))), (1, .int y12), (0, .ref y13)] dX0_proves_163 0 rfl (by decide) (by decide) (by decide) rfl ?_
        refine s_goto 17 dX0_proves_166 (by decide) ?_
        exact ih (x11 + (1 : Int32)) h84 k hk
      refine s_if_eq 62 dX0_proves_55 (by decide) (fun c86 => ?_) (fun c86 => ?_)
      · refine s_aload_n dX0_proves_62 3 rfl ?_
        refine s_chk (fun hk87 => ?_)
        refine s_get (j := 8) 0 (va_rf (h35.R y13 8)) dX0_proves_63 hk87 rfl (by decide) q241 (Or.inl rfl) rfl ?_
        refine s_iload_n dX0_proves_66 2 rfl ?_
        refine s_ob (r := h35.R y13 8) (fun z => [(3, .int r34), (2, .int x11), (1, .int y12), (0, .ref y13)]) (fun z => [.int y12, z]) (fun a88 => ?_)
        refine s_chk (fun hk91 => ?_)
        refine s_callV_R 2 (kJ2_get G n K hK a88 y12 h35) (by decide) (by decide) dX0_proves_67 hk91 rfl rfl q733 q734 q735 q107 q736 hyJ2_get rfl rfl (Nat.le_of_ble_eq_true rfl) (fun r89 h90 => ?_)
        refine s_ob (r := r89) (fun z => [(3, .int r34), (2, .int x11), (1, .int y12), (0, .ref y13)]) (fun z => [z]) (fun a92 => ?_)
        refine s_chk (fun hk93 => ?_)
        refine s_cast 11 dX0_proves_70 hk93 rfl q883 ?_
        refine s_aload_n dX0_proves_73 3 rfl ?_
        refine s_chk (fun hk94 => ?_)
        refine s_get (j := 8) 0 (va_rf (h90.R y13 8)) dX0_proves_74 hk94 rfl (by decide) q241 (Or.inl rfl) rfl ?_
        refine s_iload_n dX0_proves_77 1 rfl ?_
        refine s_ob (r := h90.R y13 8) (fun z => [(3, .int r34), (2, .int x11), (1, .int y12), (0, .ref y13)]) (fun z => [.int x11, z, .ref a92]) (fun a95 => ?_)
        refine s_chk (fun hk98 => ?_)
        refine s_callV_R 2 (kJ2_get G n K hK a95 x11 h90) (by decide) (by decide) dX0_proves_78 hk98 rfl rfl q733 q734 q735 q107 q736 hyJ2_get rfl rfl (Nat.le_of_ble_eq_true rfl) (fun r96 h97 => ?_)
        refine s_ob (r := r96) (fun z => [(3, .int r34), (2, .int x11), (1, .int y12), (0, .ref y13)]) (fun z => [z, .ref a92]) (fun a99 => ?_)
        refine s_chk (fun hk100 => ?_)
        refine s_cast 11 dX0_proves_81 hk100 rfl q883 ?_
        refine s_callS_R (kX12_crossing G n K hK (some a92) (some a99) h97) (by decide) (by decide) dX0_proves_84 q989 q990 q133 q991 hyX12_crossing rfl rfl (Nat.le_of_ble_eq_true rfl) (fun r101 h102 => ?_)
        refine s_sub [1, 2, 3] rfl ?_
        exact hj85 r101 h102
      · refine s_null dX0_proves_58 ?_
        refine s_goto 87 dX0_proves_59 (by decide) ?_
        refine s_sub [1, 2, 3] rfl ?_
        exact hj85 none h35
theorem sX0_proves_L2 (G : Gl) (n : Nat) (K : Nat → Nat) (hK : K = G.ad) (y3 : Nat) : ∀ (f : Nat) (x2 : Int32) (h : AH), Sim G yX0_proves.cls yX0_proves.name cX0_proves 6 none 4 cvV 2 [(1, .int x2), (0, .ref y3)] [] h (F_X0_proves_L2 n K y3 f x2 h) := by
  intro f
  induction f with
  | zero =>
    intro x2 h
    exact s_none
  | succ f ih =>
    intro x2 h
    unfold F_X0_proves_L2
    refine s_iload_n dX0_proves_2 0 rfl ?_
    refine s_aload_n dX0_proves_3 1 rfl ?_
    refine s_chk (fun hk4 => ?_)
    refine s_get (j := 8) 0 (va_rf (h.R y3 8)) dX0_proves_4 hk4 rfl (by decide) q241 (Or.inl rfl) rfl ?_
    refine s_ob (r := h.R y3 8) (fun z => [(1, .int x2), (0, .ref y3)]) (fun z => [z, .int x2]) (fun a5 => ?_)
    refine s_chk (fun hk8 => ?_)
    refine s_callV_I 2 (kJ2_size G n K hK a5 h) (by decide) (by decide) dX0_proves_7 hk8 rfl rfl q732 q552 q553 q107 q554 hyJ2_size rfl rfl (Nat.le_of_ble_eq_true rfl) (fun r6 h7 => ?_)
    refine s_icmp_ge 175 dX0_proves_10 (by decide) (fun c9 => ?_) (fun c9 => ?_)
    · exact s_vret dX0_proves_175 rfl rfl
    · refine s_iload_n dX0_proves_13 0 rfl ?_
      refine s_iconst (1 : Int32) dX0_proves_14 (by decide) ?_
      refine s_iadd dX0_proves_15 ?_
      refine s_istore_n [(2, .int (x2 + (1 : Int32))), (1, .int x2), (0, .ref y3)] dX0_proves_16 (by decide) (by decide) rfl ?_
      refine sX0_proves_L17 G n K hK x2 y3 n (x2 + (1 : Int32)) h7 _ ?_
      intro h103
      refine s_iinc (1 : Int32) [(1, .int (x2 + (1 : Int32))), (0, .ref y3)] dX0_proves_169 0 rfl (by decide) (by decide) (by decide) rfl ?_
      refine s_goto 2 dX0_proves_172 (by decide) ?_
      exact ih (x2 + (1 : Int32)) h103
theorem kX0_proves (G : Gl) (n : Nat) (K : Nat → Nat) (hK : K = G.ad) (p0 : Nat) (h : AH) : OkM G yX0_proves cX0_proves 6 none 4 cvV [.ref p0] h (F_X0_proves n K p0 h) := by
  refine ok_of_sim [(0, .ref p0)] (by decide +kernel) (fun r => ⟨_, rfl⟩) (by simp [uns, lv_args, lg_sl, catI, catL, catA, va_rfc]) (by simp [uns, lv_args, lg_sl, catI, catL, catA, va_rfc]) (by simp [uns, lv_args, lg_sl, catI, catL, catA, va_rfc]) ?_
  unfold F_X0_proves
  refine s_iconst (0 : Int32) dX0_proves_0 (by decide) ?_
  refine s_istore_n [(1, .int (0 : Int32)), (0, .ref p0)] dX0_proves_1 (by decide) (by decide) rfl ?_
  exact sX0_proves_L2 G n K hK p0 n (0 : Int32) h
