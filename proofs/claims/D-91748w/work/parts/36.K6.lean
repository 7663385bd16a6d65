set_option maxRecDepth 100000
theorem hyX0_winSet : yX0_winSet.cls ≠ "java/lang/invoke/MethodHandle" ∧ yX0_winSet.cls ≠ "java/lang/invoke/VarHandle" ∧ (parseMethodDescriptor yX0_winSet.desc).map (fun d => d.parameters.length) = some 3 := by decide +kernel
theorem kX0_winSet (G : Gl) (n : Nat) (K : Nat → Nat) (hK : K = G.ad) (p0 : Nat) (p1 : Int32) (p2 : Int32) (p3 : Int32) (h : AH) : OkM G yX0_winSet cX0_winSet 4 (some .int) 8 cvI [.ref p0, .int p1, .int p2, .int p3] h (F_X0_winSet n K p0 p1 p2 p3 h) := by
  refine ok_of_sim [(0, .ref p0), (1, .int p1), (2, .int p2), (3, .int p3)] (by decide +kernel) (fun r => ⟨_, rfl⟩) (by simp [uns, lv_args, lg_sl, catI, catL, catA, va_rfc]) (by simp [uns, lv_args, lg_sl, catI, catL, catA, va_rfc]) (by simp [uns, lv_args, lg_sl, catI, catL, catA, va_rfc]) ?_
  unfold F_X0_winSet
  refine s_aload_n dX0_winSet_0 0 rfl ?_
  refine s_chk (fun hk1 => ?_)
  refine s_get (j := 2) 0 (va_rf (h.R p0 2)) dX0_winSet_1 hk1 rfl (by decide) q235 (Or.inl rfl) rfl ?_
  refine s_ob (r := h.R p0 2) (fun z => [(0, .ref p0), (1, .int p1), (2, .int p2), (3, .int p3)]) (fun z => [z]) (fun a2 => ?_)
  refine s_chk (fun hk5 => ?_)
  refine s_callV_I 2 (kJ2_isEmpty G n K hK a2 h) (by decide) (by decide) dX0_winSet_4 hk5 rfl rfl q787 q723 q724 q107 q725 hyJ2_isEmpty rfl rfl (Nat.le_of_ble_eq_true rfl) (fun r3 h4 => ?_)
  refine s_if_ne 27 dX0_winSet_7 (by decide) (fun c6 => ?_) (fun c6 => ?_)
  · refine s_iconst (-1 : Int32) dX0_winSet_27 (by decide) ?_
    exact s_iret dX0_winSet_28 rfl rfl
  · refine s_iload_n dX0_winSet_10 1 rfl ?_
    refine s_iload_n dX0_winSet_11 2 rfl ?_
    refine s_callS_I (kX0_isPoint G n K hK p1 p2 h4) (by decide) (by decide) dX0_winSet_12 q788 q789 q103 q790 hyX0_isPoint rfl rfl (Nat.le_of_ble_eq_true rfl) (fun r7 h8 => ?_)
    refine s_if_eq 27 dX0_winSet_15 (by decide) (fun c9 => ?_) (fun c9 => ?_)
    · refine s_iconst (-1 : Int32) dX0_winSet_27 (by decide) ?_
      exact s_iret dX0_winSet_28 rfl rfl
    · refine s_iload_n dX0_winSet_18 3 rfl ?_
      refine s_iconst (0 : Int32) dX0_winSet_19 (by decide) ?_
      refine s_iconst (1 : Int32) dX0_winSet_20 (by decide) ?_
      refine s_callS_I (kX0_in G n K hK p3 (0 : Int32) (1 : Int32) h8) (by decide) (by decide) dX0_winSet_21 q335 q336 q103 q337 hyX0_in rfl rfl (Nat.le_of_ble_eq_true rfl) (fun r10 h11 => ?_)
      refine s_if_ne 29 dX0_winSet_24 (by decide) (fun c12 => ?_) (fun c12 => ?_)
      · refine s_aload_n dX0_winSet_29 0 rfl ?_
        refine s_iload_n dX0_winSet_30 1 rfl ?_
        refine s_iload_n dX0_winSet_31 2 rfl ?_
        refine s_chk (fun hk15 => ?_)
        refine s_callV_V 0 (kX0_findPieces G n K hK p0 p1 p2 h11) (by decide) (by decide) dX0_winSet_32 hk15 rfl rfl q1020 q1022 qs31 q103 q1023 hyX0_findPieces rfl rfl (Nat.le_of_ble_eq_true rfl) (fun r13 h14 => ?_)
        refine s_iload_n dX0_winSet_35 3 rfl ?_
        refine s_if_ne 46 dX0_winSet_36 (by decide) (fun c16 => ?_) (fun c16 => ?_)
        · refine s_aload_n dX0_winSet_46 0 rfl ?_
          refine s_chk (fun hk17 => ?_)
          refine s_get (j := 23) 0 (.int (h14.I p0 23)) dX0_winSet_47 hk17 rfl (by decide) q256 (Or.inl rfl) rfl ?_
          exact s_iret dX0_winSet_50 rfl rfl
        · refine s_aload_n dX0_winSet_39 0 rfl ?_
          refine s_chk (fun hk18 => ?_)
          refine s_get (j := 24) 0 (.int (h14.I p0 24)) dX0_winSet_40 hk18 rfl (by decide) q257 (Or.inl rfl) rfl ?_
          refine s_goto 50 dX0_winSet_43 (by decide) ?_
          exact s_iret dX0_winSet_50 rfl rfl
      · refine s_iconst (-1 : Int32) dX0_winSet_27 (by decide) ?_
        exact s_iret dX0_winSet_28 rfl rfl
theorem hyX0_piece : yX0_piece.cls ≠ "java/lang/invoke/MethodHandle" ∧ yX0_piece.cls ≠ "java/lang/invoke/VarHandle" ∧ (parseMethodDescriptor yX0_piece.desc).map (fun d => d.parameters.length) = some 4 := by decide +kernel
theorem kX0_piece (G : Gl) (n : Nat) (K : Nat → Nat) (hK : K = G.ad) (p0 : Nat) (p1 : Int32) (p2 : Int32) (p3 : Int32) (p4 : Int32) (h : AH) : OkM G yX0_piece cX0_piece 5 (some .int) 8 cvI [.ref p0, .int p1, .int p2, .int p3, .int p4] h (F_X0_piece n K p0 p1 p2 p3 p4 h) := by
  refine ok_of_sim [(0, .ref p0), (1, .int p1), (2, .int p2), (3, .int p3), (4, .int p4)] (by decide +kernel) (fun r => ⟨_, rfl⟩) (by simp [uns, lv_args, lg_sl, catI, catL, catA, va_rfc]) (by simp [uns, lv_args, lg_sl, catI, catL, catA, va_rfc]) (by simp [uns, lv_args, lg_sl, catI, catL, catA, va_rfc]) ?_
  unfold F_X0_piece
  refine s_aload_n dX0_piece_0 0 rfl ?_
  refine s_chk (fun hk1 => ?_)
  refine s_get (j := 2) 0 (va_rf (h.R p0 2)) dX0_piece_1 hk1 rfl (by decide) q235 (Or.inl rfl) rfl ?_
  refine s_ob (r := h.R p0 2) (fun z => [(0, .ref p0), (1, .int p1), (2, .int p2), (3, .int p3), (4, .int p4)]) (fun z => [z]) (fun a2 => ?_)
  refine s_chk (fun hk5 => ?_)
  refine s_callV_I 2 (kJ2_isEmpty G n K hK a2 h) (by decide) (by decide) dX0_piece_4 hk5 rfl rfl q787 q723 q724 q107 q725 hyJ2_isEmpty rfl rfl (Nat.le_of_ble_eq_true rfl) (fun r3 h4 => ?_)
  refine s_if_ne 28 dX0_piece_7 (by decide) (fun c6 => ?_) (fun c6 => ?_)
  · refine s_iconst (-1 : Int32) dX0_piece_28 (by decide) ?_
    exact s_iret dX0_piece_29 rfl rfl
  · refine s_iload_n dX0_piece_10 1 rfl ?_
    refine s_iload_n dX0_piece_11 2 rfl ?_
    refine s_callS_I (kX0_isPoint G n K hK p1 p2 h4) (by decide) (by decide) dX0_piece_12 q788 q789 q103 q790 hyX0_isPoint rfl rfl (Nat.le_of_ble_eq_true rfl) (fun r7 h8 => ?_)
    refine s_if_eq 28 dX0_piece_15 (by decide) (fun c9 => ?_) (fun c9 => ?_)
    · refine s_iconst (-1 : Int32) dX0_piece_28 (by decide) ?_
      exact s_iret dX0_piece_29 rfl rfl
    · refine s_iload dX0_piece_18 4 rfl (by decide) ?_
      refine s_iconst (0 : Int32) dX0_piece_20 (by decide) ?_
      refine s_iconst (2 : Int32) dX0_piece_21 (by decide) ?_
      refine s_callS_I (kX0_in G n K hK p4 (0 : Int32) (2 : Int32) h8) (by decide) (by decide) dX0_piece_22 q335 q336 q103 q337 hyX0_in rfl rfl (Nat.le_of_ble_eq_true rfl) (fun r10 h11 => ?_)
      refine s_if_ne 30 dX0_piece_25 (by decide) (fun c12 => ?_) (fun c12 => ?_)
      · refine s_aload_n dX0_piece_30 0 rfl ?_
        refine s_iload_n dX0_piece_31 1 rfl ?_
        refine s_iload_n dX0_piece_32 2 rfl ?_
        refine s_chk (fun hk15 => ?_)
        refine s_callV_V 0 (kX0_findPieces G n K hK p0 p1 p2 h11) (by decide) (by decide) dX0_piece_33 hk15 rfl rfl q1020 q1022 qs31 q103 q1023 hyX0_findPieces rfl rfl (Nat.le_of_ble_eq_true rfl) (fun r13 h14 => ?_)
        refine s_iload_n dX0_piece_36 3 rfl ?_
        refine s_iconst (0 : Int32) dX0_piece_37 (by decide) ?_
        refine s_aload_n dX0_piece_38 0 rfl ?_
        refine s_chk (fun hk16 => ?_)
        refine s_get (j := 23) 0 (.int (h14.I p0 23)) dX0_piece_39 hk16 rfl (by decide) q256 (Or.inl rfl) rfl ?_
        refine s_iconst (1 : Int32) dX0_piece_42 (by decide) ?_
        refine s_isub dX0_piece_43 ?_
        refine s_callS_I (kX0_in G n K hK p3 (0 : Int32) ((h14.I p0 23) - (1 : Int32)) h14) (by decide) (by decide) dX0_piece_44 q335 q336 q103 q337 hyX0_in rfl rfl (Nat.le_of_ble_eq_true rfl) (fun r17 h18 => ?_)
        refine s_if_ne 52 dX0_piece_47 (by decide) (fun c19 => ?_) (fun c19 => ?_)
        · refine s_iload dX0_piece_52 4 rfl (by decide) ?_
          refine s_if_ne 69 dX0_piece_54 (by decide) (fun c20 => ?_) (fun c20 => ?_)
          · refine s_iload dX0_piece_69 4 rfl (by decide) ?_
            refine s_iconst (1 : Int32) dX0_piece_71 (by decide) ?_
            refine s_icmp_ne 87 dX0_piece_72 (by decide) (fun c21 => ?_) (fun c21 => ?_)
            · refine s_aload_n dX0_piece_87 0 rfl ?_
              refine s_chk (fun hk22 => ?_)
              refine s_get (j := 22) 0 (va_rf (h18.R p0 22)) dX0_piece_88 hk22 rfl (by decide) q255 (Or.inl rfl) rfl ?_
              refine s_iload_n dX0_piece_91 3 rfl ?_
              refine s_ob (r := h18.R p0 22) (fun z => [(0, .ref p0), (1, .int p1), (2, .int p2), (3, .int p3), (4, .int p4)]) (fun z => [.int p3, z]) (fun a23 => ?_)
              refine s_chk (fun hk24 => ?_)
              refine s_chk (fun hi25 => ?_)
              refine s_iald dX0_piece_92 hk24 rfl hi25 ?_
              exact s_iret dX0_piece_93 rfl rfl
            · refine s_aload_n dX0_piece_75 0 rfl ?_
              refine s_chk (fun hk26 => ?_)
              refine s_get (j := 21) 0 (va_rf (h18.R p0 21)) dX0_piece_76 hk26 rfl (by decide) q254 (Or.inl rfl) rfl ?_
              refine s_iload_n dX0_piece_79 3 rfl ?_
              refine s_ob (r := h18.R p0 21) (fun z => [(0, .ref p0), (1, .int p1), (2, .int p2), (3, .int p3), (4, .int p4)]) (fun z => [.int p3, z]) (fun a27 => ?_)
              refine s_chk (fun hk28 => ?_)
              refine s_chk (fun hi29 => ?_)
              refine s_iald dX0_piece_80 hk28 rfl hi29 ?_
              refine s_bipush (100 : Int32) dX0_piece_81 (by decide) ?_
              refine s_irem dX0_piece_83 (by decide) ?_
              refine s_goto 93 dX0_piece_84 (by decide) ?_
              exact s_iret dX0_piece_93 rfl rfl
          · refine s_aload_n dX0_piece_57 0 rfl ?_
            refine s_chk (fun hk30 => ?_)
            refine s_get (j := 21) 0 (va_rf (h18.R p0 21)) dX0_piece_58 hk30 rfl (by decide) q254 (Or.inl rfl) rfl ?_
            refine s_iload_n dX0_piece_61 3 rfl ?_
            refine s_ob (r := h18.R p0 21) (fun z => [(0, .ref p0), (1, .int p1), (2, .int p2), (3, .int p3), (4, .int p4)]) (fun z => [.int p3, z]) (fun a31 => ?_)
            refine s_chk (fun hk32 => ?_)
            refine s_chk (fun hi33 => ?_)
            refine s_iald dX0_piece_62 hk32 rfl hi33 ?_
            refine s_bipush (100 : Int32) dX0_piece_63 (by decide) ?_
            refine s_idiv dX0_piece_65 (by decide) ?_
            refine s_goto 93 dX0_piece_66 (by decide) ?_
            exact s_iret dX0_piece_93 rfl rfl
        · refine s_iconst (-1 : Int32) dX0_piece_50 (by decide) ?_
          exact s_iret dX0_piece_51 rfl rfl
      · refine s_iconst (-1 : Int32) dX0_piece_28 (by decide) ?_
        exact s_iret dX0_piece_29 rfl rfl
theorem hyX0_findSteps : yX0_findSteps.cls ≠ "java/lang/invoke/MethodHandle" ∧ yX0_findSteps.cls ≠ "java/lang/invoke/VarHandle" ∧ (parseMethodDescriptor yX0_findSteps.desc).map (fun d => d.parameters.length) = some 1 := by decide +kernel
theorem sX0_findSteps_L2 (G : Gl) (n : Nat) (K : Nat → Nat) (hK : K = G.ad) (y3 : Nat) (y4 : Int32) : ∀ (f : Nat) (x2 : Int32) (h : AH) (k : AH → Option (Unit × AH)) (hk : ∀ (h : AH), Sim G yX0_findSteps.cls yX0_findSteps.name cX0_findSteps 5 none 8 cvV 21 [(0, .ref y3), (1, .int y4)] [] h (k h)), Sim G yX0_findSteps.cls yX0_findSteps.name cX0_findSteps 5 none 8 cvV 2 [(2, .int x2), (0, .ref y3), (1, .int y4)] [] h (F_X0_findSteps_L2 n K y3 y4 f x2 h k) := by
  intro f
  induction f with
  | zero =>
    intro x2 h k hk
    exact s_none
  | succ f ih =>
    intro x2 h k hk
    unfold F_X0_findSteps_L2
    refine s_iload_n dX0_findSteps_2 0 rfl ?_
    refine s_bipush (20 : Int32) dX0_findSteps_3 (by decide) ?_
    refine s_icmp_ge 21 dX0_findSteps_5 (by decide) (fun c5 => ?_) (fun c5 => ?_)
    · refine s_sub [1, 2] rfl ?_
      exact hk h
    · refine s_aload_n dX0_findSteps_8 1 rfl ?_
      refine s_chk (fun hk6 => ?_)
      refine s_get (j := 25) 0 (va_rf (h.R y3 25)) dX0_findSteps_9 hk6 rfl (by decide) q258 (Or.inl rfl) rfl ?_
      refine s_iload_n dX0_findSteps_12 0 rfl ?_
      refine s_iconst (-1 : Int32) dX0_findSteps_13 (by decide) ?_
      refine s_ob (r := h.R y3 25) (fun z => [(2, .int x2), (0, .ref y3), (1, .int y4)]) (fun z => [.int (-1 : Int32), .int x2, z]) (fun a7 => ?_)
      refine s_chk (fun hk8 => ?_)
      refine s_chk (fun hi9 => ?_)
      refine s_iast dX0_findSteps_14 hk8 rfl (by decide) hi9 ?_
      refine s_hl (fun h10 e11 => ?_)
      refine s_iinc (1 : Int32) [(2, .int (x2 + (1 : Int32))), (0, .ref y3), (1, .int y4)] dX0_findSteps_15 0 rfl (by decide) (by decide) (by decide) rfl ?_
      refine s_goto 2 dX0_findSteps_18 (by decide) ?_
      exact ih (x2 + (1 : Int32)) h10 k hk
theorem sX0_findSteps_L70 (G : Gl) (n : Nat) (K : Nat → Nat) (hK : K = G.ad) (y45 : Int32) (y46 : Int32) (y47 : Nat) : ∀ (f : Nat) (x44 : Int32) (h : AH) (k : AH → Option (Unit × AH)) (hk : ∀ (h : AH), Sim G yX0_findSteps.cls yX0_findSteps.name cX0_findSteps 5 none 8 cvV 148 [(3, .int y45), (2, .int y46), (0, .ref y47)] [] h (k h)), Sim G yX0_findSteps.cls yX0_findSteps.name cX0_findSteps 5 none 8 cvV 70 [(4, .int x44), (3, .int y45), (2, .int y46), (0, .ref y47)] [] h (F_X0_findSteps_L70 n K y45 y46 y47 f x44 h k) := by
  intro f
  induction f with
  | zero =>
    intro x44 h k hk
    exact s_none
  | succ f ih =>
    intro x44 h k hk
    unfold F_X0_findSteps_L70
    refine s_iload dX0_findSteps_70 0 rfl (by decide) ?_
    refine s_aload_n dX0_findSteps_72 3 rfl ?_
    refine s_chk (fun hk48 => ?_)
    refine s_get (j := 3) 0 (va_rf (h.R y47 3)) dX0_findSteps_73 hk48 rfl (by decide) q236 (Or.inl rfl) rfl ?_
    refine s_ob (r := h.R y47 3) (fun z => [(4, .int x44), (3, .int y45), (2, .int y46), (0, .ref y47)]) (fun z => [z, .int x44]) (fun a49 => ?_)
    refine s_chk (fun hk52 => ?_)
    refine s_callV_I 2 (kJ2_size G n K hK a49 h) (by decide) (by decide) dX0_findSteps_76 hk52 rfl rfl q732 q552 q553 q107 q554 hyJ2_size rfl rfl (Nat.le_of_ble_eq_true rfl) (fun r50 h51 => ?_)
    refine s_icmp_ge 148 dX0_findSteps_79 (by decide) (fun c53 => ?_) (fun c53 => ?_)
    · refine s_sub [1, 2, 3] rfl ?_
      exact hk h51
    · refine s_aload_n dX0_findSteps_82 3 rfl ?_
      refine s_chk (fun hk54 => ?_)
      refine s_get (j := 25) 0 (va_rf (h51.R y47 25)) dX0_findSteps_83 hk54 rfl (by decide) q258 (Or.inl rfl) rfl ?_
      refine s_iload_n dX0_findSteps_86 1 rfl ?_
      refine s_ob (r := h51.R y47 25) (fun z => [(4, .int x44), (3, .int y45), (2, .int y46), (0, .ref y47)]) (fun z => [.int y45, z]) (fun a55 => ?_)
      refine s_chk (fun hk56 => ?_)
      refine s_chk (fun hi57 => ?_)
      refine s_iald dX0_findSteps_87 hk56 rfl hi57 ?_
      refine s_iconst (-1 : Int32) dX0_findSteps_88 (by decide) ?_
      refine s_icmp_ne 148 dX0_findSteps_89 (by decide) (fun c58 => ?_) (fun c58 => ?_)
      · refine s_sub [1, 2, 3] rfl ?_
        exact hk h51
      · refine s_aload_n dX0_findSteps_92 3 rfl ?_
        refine s_get (j := 25) 0 (va_rf (h51.R y47 25)) dX0_findSteps_93 hk54 rfl (by decide) q258 (Or.inl rfl) rfl ?_
        refine s_iload dX0_findSteps_96 0 rfl (by decide) ?_
        refine s_ob (r := h51.R y47 25) (fun z => [(4, .int x44), (3, .int y45), (2, .int y46), (0, .ref y47)]) (fun z => [.int x44, z]) (fun a59 => ?_)
        refine s_chk (fun hk60 => ?_)
        refine s_chk (fun hi61 => ?_)
        refine s_iald dX0_findSteps_98 hk60 rfl hi61 ?_
        refine s_iload_n dX0_findSteps_99 2 rfl ?_
        refine s_icmp_ne 142 dX0_findSteps_100 (by decide) (fun c62 => ?_) (fun c62 => ?_)
        · refine s_iinc (1 : Int32) [(4, .int (x44 + (1 : Int32))), (3, .int y45), (2, .int y46), (0, .ref y47)] dX0_findSteps_142 0 rfl (by decide) (by decide) (by decide) rfl ?_
          refine s_goto 70 dX0_findSteps_145 (by decide) ?_
          exact ih (x44 + (1 : Int32)) h51 k hk
        · refine s_aload_n dX0_findSteps_103 3 rfl ?_
          refine s_aload_n dX0_findSteps_104 3 rfl ?_
          refine s_get (j := 3) 0 (va_rf (h51.R y47 3)) dX0_findSteps_105 hk54 rfl (by decide) q236 (Or.inl rfl) rfl ?_
          refine s_iload dX0_findSteps_108 0 rfl (by decide) ?_
          refine s_ob (r := h51.R y47 3) (fun z => [(4, .int x44), (3, .int y45), (2, .int y46), (0, .ref y47)]) (fun z => [.int x44, z, .ref y47]) (fun a63 => ?_)
          refine s_chk (fun hk66 => ?_)
          refine s_callV_R 2 (kJ2_get G n K hK a63 x44 h51) (by decide) (by decide) dX0_findSteps_110 hk66 rfl rfl q733 q734 q735 q107 q736 hyJ2_get rfl rfl (Nat.le_of_ble_eq_true rfl) (fun r64 h65 => ?_)
          refine s_ob (r := r64) (fun z => [(4, .int x44), (3, .int y45), (2, .int y46), (0, .ref y47)]) (fun z => [z, .ref y47]) (fun a67 => ?_)
          refine s_chk (fun hk68 => ?_)
          refine s_cast 10 dX0_findSteps_113 hk68 rfl q747 ?_
          refine s_aload_n dX0_findSteps_116 3 rfl ?_
          refine s_chk (fun hk69 => ?_)
          refine s_get (j := 3) 0 (va_rf (h65.R y47 3)) dX0_findSteps_117 hk69 rfl (by decide) q236 (Or.inl rfl) rfl ?_
          refine s_iload_n dX0_findSteps_120 1 rfl ?_
          refine s_ob (r := h65.R y47 3) (fun z => [(4, .int x44), (3, .int y45), (2, .int y46), (0, .ref y47)]) (fun z => [.int y45, z, .ref a67, .ref y47]) (fun a70 => ?_)
          refine s_chk (fun hk73 => ?_)
          refine s_callV_R 2 (kJ2_get G n K hK a70 y45 h65) (by decide) (by decide) dX0_findSteps_121 hk73 rfl rfl q733 q734 q735 q107 q736 hyJ2_get rfl rfl (Nat.le_of_ble_eq_true rfl) (fun r71 h72 => ?_)
          refine s_ob (r := r71) (fun z => [(4, .int x44), (3, .int y45), (2, .int y46), (0, .ref y47)]) (fun z => [z, .ref a67, .ref y47]) (fun a74 => ?_)
          refine s_chk (fun hk75 => ?_)
          refine s_cast 10 dX0_findSteps_124 hk75 rfl q747 ?_
          refine s_chk (fun hk78 => ?_)
          refine s_callV_I 0 (kX0_above G n K hK y47 (some a67) (some a74) h72) (by decide) (by decide) dX0_findSteps_127 hk78 rfl rfl q859 q861 qs21 q103 q862 hyX0_above rfl rfl (Nat.le_of_ble_eq_true rfl) (fun r76 h77 => ?_)
          refine s_if_eq 142 dX0_findSteps_130 (by decide) (fun c79 => ?_) (fun c79 => ?_)
          · refine s_iinc (1 : Int32) [(4, .int (x44 + (1 : Int32))), (3, .int y45), (2, .int y46), (0, .ref y47)] dX0_findSteps_142 0 rfl (by decide) (by decide) (by decide) rfl ?_
            refine s_goto 70 dX0_findSteps_145 (by decide) ?_
            exact ih (x44 + (1 : Int32)) h77 k hk
          · refine s_aload_n dX0_findSteps_133 3 rfl ?_
            refine s_chk (fun hk80 => ?_)
            refine s_get (j := 25) 0 (va_rf (h77.R y47 25)) dX0_findSteps_134 hk80 rfl (by decide) q258 (Or.inl rfl) rfl ?_
            refine s_iload_n dX0_findSteps_137 1 rfl ?_
            refine s_iload_n dX0_findSteps_138 2 rfl ?_
            refine s_iconst (1 : Int32) dX0_findSteps_139 (by decide) ?_
            refine s_iadd dX0_findSteps_140 ?_
            refine s_ob (r := h77.R y47 25) (fun z => [(4, .int x44), (3, .int y45), (2, .int y46), (0, .ref y47)]) (fun z => [.int (y46 + (1 : Int32)), .int y45, z]) (fun a81 => ?_)
            refine s_chk (fun hk82 => ?_)
            refine s_chk (fun hi83 => ?_)
            refine s_iast dX0_findSteps_141 hk82 rfl (by decide) hi83 ?_
            refine s_hl (fun h84 e85 => ?_)
            refine s_iinc (1 : Int32) [(4, .int (x44 + (1 : Int32))), (3, .int y45), (2, .int y46), (0, .ref y47)] dX0_findSteps_142 0 rfl (by decide) (by decide) (by decide) rfl ?_
            refine s_goto 70 dX0_findSteps_145 (by decide) ?_
            exact ih (x44 + (1 : Int32)) h84 k hk
theorem sX0_findSteps_L43 (G : Gl) (n : Nat) (K : Nat → Nat) (hK : K = G.ad) (y30 : Int32) (y31 : Nat) : ∀ (f : Nat) (x29 : Int32) (h : AH) (k : AH → Option (Unit × AH)) (hk : ∀ (h : AH), Sim G yX0_findSteps.cls yX0_findSteps.name cX0_findSteps 5 none 8 cvV 154 [(2, .int y30), (0, .ref y31)] [] h (k h)), Sim G yX0_findSteps.cls yX0_findSteps.name cX0_findSteps 5 none 8 cvV 43 [(3, .int x29), (2, .int y30), (0, .ref y31)] [] h (F_X0_findSteps_L43 n K y30 y31 f x29 h k) := by
  intro f
  induction f with
  | zero =>
    intro x29 h k hk
    exact s_none
  | succ f ih =>
    intro x29 h k hk
    unfold F_X0_findSteps_L43
    refine s_iload_n dX0_findSteps_43 0 rfl ?_
    refine s_aload_n dX0_findSteps_44 2 rfl ?_
    refine s_chk (fun hk32 => ?_)
    refine s_get (j := 3) 0 (va_rf (h.R y31 3)) dX0_findSteps_45 hk32 rfl (by decide) q236 (Or.inl rfl) rfl ?_
    refine s_ob (r := h.R y31 3) (fun z => [(3, .int x29), (2, .int y30), (0, .ref y31)]) (fun z => [z, .int x29]) (fun a33 => ?_)
    refine s_chk (fun hk36 => ?_)
    refine s_callV_I 2 (kJ2_size G n K hK a33 h) (by decide) (by decide) dX0_findSteps_48 hk36 rfl rfl q732 q552 q553 q107 q554 hyJ2_size rfl rfl (Nat.le_of_ble_eq_true rfl) (fun r34 h35 => ?_)
    refine s_icmp_ge 154 dX0_findSteps_51 (by decide) (fun c37 => ?_) (fun c37 => ?_)
    · refine s_sub [1, 2] rfl ?_
      exact hk h35
    · refine s_aload_n dX0_findSteps_54 2 rfl ?_
      refine s_chk (fun hk38 => ?_)
      refine s_get (j := 25) 0 (va_rf (h35.R y31 25)) dX0_findSteps_55 hk38 rfl (by decide) q258 (Or.inl rfl) rfl ?_
      refine s_iload_n dX0_findSteps_58 0 rfl ?_
      refine s_ob (r := h35.R y31 25) (fun z => [(3, .int x29), (2, .int y30), (0, .ref y31)]) (fun z => [.int x29, z]) (fun a39 => ?_)
      refine s_chk (fun hk40 => ?_)
      refine s_chk (fun hi41 => ?_)
      refine s_iald dX0_findSteps_59 hk40 rfl hi41 ?_
      refine s_iconst (-1 : Int32) dX0_findSteps_60 (by decide) ?_
      refine s_icmp_eq 67 dX0_findSteps_61 (by decide) (fun c42 => ?_) (fun c42 => ?_)
      · refine s_iconst (0 : Int32) dX0_findSteps_67 (by decide) ?_
        refine s_istore [(4, .int (0 : Int32)), (3, .int x29), (2, .int y30), (0, .ref y31)] dX0_findSteps_68 (by decide) (by decide) rfl ?_
        refine sX0_findSteps_L70 G n K hK x29 y30 y31 n (0 : Int32) h35 _ ?_
        intro h86
        refine s_iinc (1 : Int32) [(3, .int (x29 + (1 : Int32))), (2, .int y30), (0, .ref y31)] dX0_findSteps_148 0 rfl (by decide) (by decide) (by decide) rfl ?_
        refine s_goto 43 dX0_findSteps_151 (by decide) ?_
        exact ih (x29 + (1 : Int32)) h86 k hk
      · refine s_goto 148 dX0_findSteps_64 (by decide) ?_
        refine s_iinc (1 : Int32) [(3, .int (x29 + (1 : Int32))), (2, .int y30), (0, .ref y31)] dX0_findSteps_148 0 rfl (by decide) (by decide) (by decide) rfl ?_
        refine s_goto 43 dX0_findSteps_151 (by decide) ?_
        exact ih (x29 + (1 : Int32)) h35 k hk
theorem sX0_findSteps_L30 (G : Gl) (n : Nat) (K : Nat → Nat) (hK : K = G.ad) (y21 : Nat) : ∀ (f : Nat) (x20 : Int32) (h : AH), Sim G yX0_findSteps.cls yX0_findSteps.name cX0_findSteps 5 none 8 cvV 30 [(2, .int x20), (0, .ref y21)] [] h (F_X0_findSteps_L30 n K y21 f x20 h) := by
  intro f
  induction f with
  | zero =>
    intro x20 h
    exact s_none
  | succ f ih =>
    intro x20 h
    unfold F_X0_findSteps_L30
    refine s_iload_n dX0_findSteps_30 0 rfl ?_
    refine s_aload_n dX0_findSteps_31 1 rfl ?_
    refine s_chk (fun hk22 => ?_)
    refine s_get (j := 3) 0 (va_rf (h.R y21 3)) dX0_findSteps_32 hk22 rfl (by decide) q236 (Or.inl rfl) rfl ?_
    refine s_ob (r := h.R y21 3) (fun z => [(2, .int x20), (0, .ref y21)]) (fun z => [z, .int x20]) (fun a23 => ?_)
    refine s_chk (fun hk26 => ?_)
    refine s_callV_I 2 (kJ2_size G n K hK a23 h) (by decide) (by decide) dX0_findSteps_35 hk26 rfl rfl q732 q552 q553 q107 q554 hyJ2_size rfl rfl (Nat.le_of_ble_eq_true rfl) (fun r24 h25 => ?_)
    refine s_icmp_ge 160 dX0_findSteps_38 (by decide) (fun c27 => ?_) (fun c27 => ?_)
    · exact s_vret dX0_findSteps_160 rfl rfl
    · refine s_iconst (0 : Int32) dX0_findSteps_41 (by decide) ?_
      refine s_istore_n [(3, .int (0 : Int32)), (2, .int x20), (0, .ref y21)] dX0_findSteps_42 (by decide) (by decide) rfl ?_
      refine sX0_findSteps_L43 G n K hK x20 y21 n (0 : Int32) h25 _ ?_
      intro h87
      refine s_iinc (1 : Int32) [(2, .int (x20 + (1 : Int32))), (0, .ref y21)] dX0_findSteps_154 0 rfl (by decide) (by decide) (by decide) rfl ?_
      refine s_goto 30 dX0_findSteps_157 (by decide) ?_
      exact ih (x20 + (1 : Int32)) h87
theorem kX0_findSteps (G : Gl) (n : Nat) (K : Nat → Nat) (hK : K = G.ad) (p0 : Nat) (p1 : Int32) (h : AH) : OkM G yX0_findSteps cX0_findSteps 5 none 8 cvV [.ref p0, .int p1] h (F_X0_findSteps n K p0 p1 h) := by
  refine ok_of_sim [(0, .ref p0), (1, .int p1)] (by decide +kernel) (fun r => ⟨_, rfl⟩) (by simp [uns, lv_args, lg_sl, catI, catL, catA, va_rfc]) (by simp [uns, lv_args, lg_sl, catI, catL, catA, va_rfc]) (by simp [uns, lv_args, lg_sl, catI, catL, catA, va_rfc]) ?_
  unfold F_X0_findSteps
  refine s_iconst (0 : Int32) dX0_findSteps_0 (by decide) ?_
  refine s_istore_n [(2, .int (0 : Int32)), (0, .ref p0), (1, .int p1)] dX0_findSteps_1 (by decide) (by decide) rfl ?_
  refine sX0_findSteps_L2 G n K hK p0 p1 n (0 : Int32) h _ ?_
  intro h12
  refine s_aload_n dX0_findSteps_21 0 rfl ?_
  refine s_chk (fun hk13 => ?_)
  refine s_get (j := 25) 0 (va_rf (h12.R p0 25)) dX0_findSteps_22 hk13 rfl (by decide) q258 (Or.inl rfl) rfl ?_
  refine s_iload_n dX0_findSteps_25 1 rfl ?_
  refine s_iconst (0 : Int32) dX0_findSteps_26 (by decide) ?_
  refine s_ob (r := h12.R p0 25) (fun z => [(0, .ref p0), (1, .int p1)]) (fun z => [.int (0 : Int32), .int p1, z]) (fun a14 => ?_)
  refine s_chk (fun hk15 => ?_)
  refine s_chk (fun hi16 => ?_)
  refine s_iast dX0_findSteps_27 hk15 rfl (by decide) hi16 ?_
  refine s_hl (fun h17 e18 => ?_)
  refine s_iconst (0 : Int32) dX0_findSteps_28 (by decide) ?_
  refine s_istore_n [(2, .int (0 : Int32)), (0, .ref p0), (1, .int p1)] dX0_findSteps_29 (by decide) (by decide) rfl ?_
  refine s_sub [0, 1] rfl ?_
  exact sX0_findSteps_L30 G n K hK p0 n (0 : Int32) h17
theorem hyX0_led : yX0_led.cls ≠ "java/lang/invoke/MethodHandle" ∧ yX0_led.cls ≠ "java/lang/invoke/VarHandle" ∧ (parseMethodDescriptor yX0_led.desc).map (fun d => d.parameters.length) = some 3 := by decide +kernel
theorem sX0_led_L76 (G : Gl) (n : Nat) (K : Nat → Nat) (hK : K = G.ad) (y36 : Int32) (y37 : Int32) (y38 : Nat) (y39 : Int32) : ∀ (f : Nat) (x35 : Int32) (h : AH) (k : Int32 → AH → Option (Int32 × AH)) (hk : ∀ (x35 : Int32) (h : AH), Sim G yX0_led.cls yX0_led.name cX0_led 7 (some .int) 9 cvI 132 [(6, .int x35), (5, .int y36), (0, .ref y38), (3, .int y39)] [] h (k x35 h)), Sim G yX0_led.cls yX0_led.name cX0_led 7 (some .int) 9 cvI 76 [(6, .int x35), (5, .int y36), (4, .int y37), (0, .ref y38), (3, .int y39)] [] h (F_X0_led_L76 n K y36 y37 y38 y39 f x35 h k) := by
  intro f
  induction f with
  | zero =>
    intro x35 h k hk
    exact s_none
  | succ f ih =>
    intro x35 h k hk
    unfold F_X0_led_L76
    refine s_aload_n dX0_led_76 3 rfl ?_
    refine s_chk (fun hk40 => ?_)
    refine s_get (j := 25) 0 (va_rf (h.R y38 25)) dX0_led_77 hk40 rfl (by decide) q258 (Or.inl rfl) rfl ?_
    refine s_iload dX0_led_80 0 rfl (by decide) ?_
    refine s_ob (r := h.R y38 25) (fun z => [(6, .int x35), (5, .int y36), (4, .int y37), (0, .ref y38), (3, .int y39)]) (fun z => [.int x35, z]) (fun a41 => ?_)
    refine s_chk (fun hk42 => ?_)
    refine s_chk (fun hi43 => ?_)
    refine s_iald dX0_led_82 hk42 rfl hi43 ?_
    refine s_aload_n dX0_led_83 3 rfl ?_
    refine s_get (j := 25) 0 (va_rf (h.R y38 25)) dX0_led_84 hk40 rfl (by decide) q258 (Or.inl rfl) rfl ?_
    refine s_iload dX0_led_87 2 rfl (by decide) ?_
    refine s_ob (r := h.R y38 25) (fun z => [(6, .int x35), (5, .int y36), (4, .int y37), (0, .ref y38), (3, .int y39)]) (fun z => [.int y37, z, .int (h.I a41 (ix x35))]) (fun a44 => ?_)
    refine s_chk (fun hk45 => ?_)
    refine s_chk (fun hi46 => ?_)
    refine s_iald dX0_led_89 hk45 rfl hi46 ?_
    refine s_iconst (1 : Int32) dX0_led_90 (by decide) ?_
    refine s_isub dX0_led_91 ?_
    refine s_icmp_ne 126 dX0_led_92 (by decide) (fun c47 => ?_) (fun c47 => ?_)
    · refine s_iinc (1 : Int32) [(6, .int (x35 + (1 : Int32))), (5, .int y36), (4, .int y37), (0, .ref y38), (3, .int y39)] dX0_led_126 0 rfl (by decide) (by decide) (by decide) rfl ?_
      refine s_goto 76 dX0_led_129 (by decide) ?_
      exact ih (x35 + (1 : Int32)) h k hk
    · refine s_aload_n dX0_led_95 3 rfl ?_
      refine s_aload_n dX0_led_96 3 rfl ?_
      refine s_get (j := 3) 0 (va_rf (h.R y38 3)) dX0_led_97 hk40 rfl (by decide) q236 (Or.inl rfl) rfl ?_
      refine s_iload dX0_led_100 0 rfl (by decide) ?_
      refine s_ob (r := h.R y38 3) (fun z => [(6, .int x35), (5, .int y36), (4, .int y37), (0, .ref y38), (3, .int y39)]) (fun z => [.int x35, z, .ref y38]) (fun a48 => ?_)
      refine s_chk (fun hk51 => ?_)
      refine s_callV_R 2 (kJ2_get G n K hK a48 x35 h) (by decide) (by decide) dX0_led_102 hk51 rfl rfl q733 q734 q735 q107 q736 hyJ2_get rfl rfl (Nat.le_of_ble_eq_true rfl) (fun r49 h50 => ?_)
      refine s_ob (r := r49) (fun z => [(6, .int x35), (5, .int y36), (4, .int y37), (0, .ref y38), (3, .int y39)]) (fun z => [z, .ref y38]) (fun a52 => ?_)
      refine s_chk (fun hk53 => ?_)
      refine s_cast 10 dX0_led_105 hk53 rfl q747 ?_
      refine s_aload_n dX0_led_108 3 rfl ?_
      refine s_chk (fun hk54 => ?_)
      refine s_get (j := 3) 0 (va_rf (h50.R y38 3)) dX0_led_109 hk54 rfl (by decide) q236 (Or.inl rfl) rfl ?_
      refine s_iload dX0_led_112 2 rfl (by decide) ?_
      refine s_ob (r := h50.R y38 3) (fun z => [(6, .int x35), (5, .int y36), (4, .int y37), (0, .ref y38), (3, .int y39)]) (fun z => [.int y37, z, .ref a52, .ref y38]) (fun a55 => ?_)
      refine s_chk (fun hk58 => ?_)
      refine s_callV_R 2 (kJ2_get G n K hK a55 y37 h50) (by decide) (by decide) dX0_led_114 hk58 rfl rfl q733 q734 q735 q107 q736 hyJ2_get rfl rfl (Nat.le_of_ble_eq_true rfl) (fun r56 h57 => ?_)
      refine s_ob (r := r56) (fun z => [(6, .int x35), (5, .int y36), (4, .int y37), (0, .ref y38), (3, .int y39)]) (fun z => [z, .ref a52, .ref y38]) (fun a59 => ?_)
      refine s_chk (fun hk60 => ?_)
      refine s_cast 10 dX0_led_117 hk60 rfl q747 ?_
      refine s_chk (fun hk63 => ?_)
      refine s_callV_I 0 (kX0_above G n K hK y38 (some a52) (some a59) h57) (by decide) (by decide) dX0_led_120 hk63 rfl rfl q859 q861 qs21 q103 q862 hyX0_above rfl rfl (Nat.le_of_ble_eq_true rfl) (fun r61 h62 => ?_)
      refine s_if_ne 132 dX0_led_123 (by decide) (fun c64 => ?_) (fun c64 => ?_)
      · refine s_sub [0, 1, 3, 4] rfl ?_
        exact hk x35 h62
      · refine s_iinc (1 : Int32) [(6, .int (x35 + (1 : Int32))), (5, .int y36), (4, .int y37), (0, .ref y38), (3, .int y39)] dX0_led_126 0 rfl (by decide) (by decide) (by decide) rfl ?_
        refine s_goto 76 dX0_led_129 (by decide) ?_
        exact ih (x35 + (1 : Int32)) h62 k hk
theorem sX0_led_L67 (G : Gl) (n : Nat) (K : Nat → Nat) (hK : K = G.ad) (y31 : Nat) (y32 : Int32) : ∀ (f : Nat) (x29 : Int32) (x30 : Int32) (h : AH), Sim G yX0_led.cls yX0_led.name cX0_led 7 (some .int) 9 cvI 67 [(5, .int x29), (4, .int x30), (0, .ref y31), (3, .int y32)] [] h (F_X0_led_L67 n K y31 y32 f x29 x30 h) := by
  intro f
  induction f with
  | zero =>
    intro x29 x30 h
    exact s_none
  | succ f ih =>
    intro x29 x30 h
    unfold F_X0_led_L67
    refine s_iload dX0_led_67 0 rfl (by decide) ?_
    refine s_iload_n dX0_led_69 3 rfl ?_
    refine s_icmp_ge 142 dX0_led_70 (by decide) (fun c33 => ?_) (fun c33 => ?_)
    · refine s_iload dX0_led_142 1 rfl (by decide) ?_
      exact s_iret dX0_led_144 rfl rfl
    · refine s_iconst (0 : Int32) dX0_led_73 (by decide) ?_
      refine s_istore [(6, .int (0 : Int32)), (5, .int x29), (4, .int x30), (0, .ref y31), (3, .int y32)] dX0_led_74 (by decide) (by decide) rfl ?_
      refine sX0_led_L76 G n K hK x29 x30 y31 y32 n (0 : Int32) h _ ?_
      intro x65 h66
      refine s_iload dX0_led_132 0 rfl (by decide) ?_
      refine s_istore [(4, .int x65), (6, .int x65), (5, .int x29), (0, .ref y31), (3, .int y32)] dX0_led_134 (by decide) (by decide) rfl ?_
      refine s_iinc (1 : Int32) [(5, .int (x29 + (1 : Int32))), (4, .int x65), (6, .int x65), (0, .ref y31), (3, .int y32)] dX0_led_136 2 rfl (by decide) (by decide) (by decide) rfl ?_
      refine s_goto 67 dX0_led_139 (by decide) ?_
      refine s_sub [0, 1, 3, 4] rfl ?_
      exact ih (x29 + (1 : Int32)) x65 h66
theorem kX0_led (G : Gl) (n : Nat) (K : Nat → Nat) (hK : K = G.ad) (p0 : Nat) (p1 : Int32) (p2 : Int32) (p3 : Int32) (h : AH) : OkM G yX0_led cX0_led 7 (some .int) 9 cvI [.ref p0, .int p1, .int p2, .int p3] h (F_X0_led n K p0 p1 p2 p3 h) := by
  refine ok_of_sim [(0, .ref p0), (1, .int p1), (2, .int p2), (3, .int p3)] (by decide +kernel) (fun r => ⟨_, rfl⟩) (by simp [uns, lv_args, lg_sl, catI, catL, catA, va_rfc]) (by simp [uns, lv_args, lg_sl, catI, catL, catA, va_rfc]) (by simp [uns, lv_args, lg_sl, catI, catL, catA, va_rfc]) ?_
  unfold F_X0_led
  refine s_aload_n dX0_led_0 0 rfl ?_
  refine s_iload_n dX0_led_1 1 rfl ?_
  refine s_chk (fun hk3 => ?_)
  refine s_callV_R 0 (kX0_placeAt G n K hK p0 p1 h) (by decide) (by decide) dX0_led_2 hk3 rfl rfl q779 q781 qs18 q103 q782 hyX0_placeAt rfl rfl (Nat.le_of_ble_eq_true rfl) (fun r1 h2 => ?_)
  refine s_ifnull (r := r1) 16 (fun z => [(0, .ref p0), (1, .int p1), (2, .int p2), (3, .int p3)]) (fun z => []) dX0_led_5 (by decide) ?_ (fun a4 => ?_)
  · refine s_iconst (-1 : Int32) dX0_led_16 (by decide) ?_
    exact s_iret dX0_led_17 rfl rfl
  · refine s_aload_n dX0_led_8 0 rfl ?_
    refine s_iload_n dX0_led_9 2 rfl ?_
    refine s_chk (fun hk7 => ?_)
    refine s_callV_R 0 (kX0_placeAt G n K hK p0 p2 h2) (by decide) (by decide) dX0_led_10 hk7 rfl rfl q779 q781 qs18 q103 q782 hyX0_placeAt rfl rfl (Nat.le_of_ble_eq_true rfl) (fun r5 h6 => ?_)
    refine s_ifnonnull (r := r5) 18 (fun z => [(0, .ref p0), (1, .int p1), (2, .int p2), (3, .int p3)]) (fun z => []) dX0_led_13 (by decide) ?_ (fun a8 => ?_)
    · refine s_iconst (-1 : Int32) dX0_led_16 (by decide) ?_
      exact s_iret dX0_led_17 rfl rfl
    · refine s_aload_n dX0_led_18 0 rfl ?_
      refine s_iload_n dX0_led_19 2 rfl ?_
      refine s_chk (fun hk11 => ?_)
      refine s_callV_V 0 (kX0_findSteps G n K hK p0 p2 h6) (by decide) (by decide) dX0_led_20 hk11 rfl rfl q1040 q1042 qs34 q103 q1043 hyX0_findSteps rfl rfl (Nat.le_of_ble_eq_true rfl) (fun r9 h10 => ?_)
      refine s_iload_n dX0_led_23 3 rfl ?_
      refine s_iconst (-1 : Int32) dX0_led_24 (by decide) ?_
      refine s_icmp_eq 38 dX0_led_25 (by decide) (fun c12 => ?_) (fun c12 => ?_)
      · refine s_aload_n dX0_led_38 0 rfl ?_
        refine s_chk (fun hk13 => ?_)
        refine s_get (j := 25) 0 (va_rf (h10.R p0 25)) dX0_led_39 hk13 rfl (by decide) q258 (Or.inl rfl) rfl ?_
        refine s_iload_n dX0_led_42 1 rfl ?_
        refine s_ob (r := h10.R p0 25) (fun z => [(0, .ref p0), (1, .int p1), (2, .int p2), (3, .int p3)]) (fun z => [.int p1, z]) (fun a14 => ?_)
        refine s_chk (fun hk15 => ?_)
        refine s_chk (fun hi16 => ?_)
        refine s_iald dX0_led_43 hk15 rfl hi16 ?_
        exact s_iret dX0_led_44 rfl rfl
      · refine s_aload_n dX0_led_28 0 rfl ?_
        refine s_chk (fun hk17 => ?_)
        refine s_get (j := 25) 0 (va_rf (h10.R p0 25)) dX0_led_29 hk17 rfl (by decide) q258 (Or.inl rfl) rfl ?_
        refine s_iload_n dX0_led_32 1 rfl ?_
        refine s_ob (r := h10.R p0 25) (fun z => [(0, .ref p0), (1, .int p1), (2, .int p2), (3, .int p3)]) (fun z => [.int p1, z]) (fun a18 => ?_)
        refine s_chk (fun hk19 => ?_)
        refine s_chk (fun hi20 => ?_)
        refine s_iald dX0_led_33 hk19 rfl hi20 ?_
        refine s_iconst (-1 : Int32) dX0_led_34 (by decide) ?_
        refine s_icmp_ne 45 dX0_led_35 (by decide) (fun c21 => ?_) (fun c21 => ?_)
        · refine s_iload_n dX0_led_45 3 rfl ?_
          refine s_iconst (0 : Int32) dX0_led_46 (by decide) ?_
          refine s_aload_n dX0_led_47 0 rfl ?_
          refine s_get (j := 25) 0 (va_rf (h10.R p0 25)) dX0_led_48 hk17 rfl (by decide) q258 (Or.inl rfl) rfl ?_
          refine s_iload_n dX0_led_51 1 rfl ?_
          refine s_ob (r := h10.R p0 25) (fun z => [(0, .ref p0), (1, .int p1), (2, .int p2), (3, .int p3)]) (fun z => [.int p1, z, .int (0 : Int32), .int p3]) (fun a22 => ?_)
          refine s_chk (fun hk23 => ?_)
          refine s_chk (fun hi24 => ?_)
          refine s_iald dX0_led_52 hk23 rfl hi24 ?_
          refine s_callS_I (kX0_in G n K hK p3 (0 : Int32) (h10.I a22 (ix p1)) h10) (by decide) (by decide) dX0_led_53 q335 q336 q103 q337 hyX0_in rfl rfl (Nat.le_of_ble_eq_true rfl) (fun r25 h26 => ?_)
          refine s_if_ne 61 dX0_led_56 (by decide) (fun c27 => ?_) (fun c27 => ?_)
          · refine s_iload_n dX0_led_61 1 rfl ?_
            refine s_istore [(4, .int p1), (0, .ref p0), (1, .int p1), (2, .int p2), (3, .int p3)] dX0_led_62 (by decide) (by decide) rfl ?_
            refine s_iconst (0 : Int32) dX0_led_64 (by decide) ?_
            refine s_istore [(5, .int (0 : Int32)), (4, .int p1), (0, .ref p0), (1, .int p1), (2, .int p2), (3, .int p3)] dX0_led_65 (by decide) (by decide) rfl ?_
            refine s_sub [0, 1, 2, 5] rfl ?_
            exact sX0_led_L67 G n K hK p0 p3 n (0 : Int32) p1 h26
          · refine s_iconst (-1 : Int32) dX0_led_59 (by decide) ?_
            exact s_iret dX0_led_60 rfl rfl
        · refine s_aload_n dX0_led_38 0 rfl ?_
          refine s_get (j := 25) 0 (va_rf (h10.R p0 25)) dX0_led_39 hk17 rfl (by decide) q258 (Or.inl rfl) rfl ?_
          refine s_iload_n dX0_led_42 1 rfl ?_
          refine s_ob (r := h10.R p0 25) (fun z => [(0, .ref p0), (1, .int p1), (2, .int p2), (3, .int p3)]) (fun z => [.int p1, z]) (fun a67 => ?_)
          refine s_chk (fun hk68 => ?_)
          refine s_chk (fun hi69 => ?_)
          refine s_iald dX0_led_43 hk68 rfl hi69 ?_
          exact s_iret dX0_led_44 rfl rfl
theorem hyX0_reaches : yX0_reaches.cls ≠ "java/lang/invoke/MethodHandle" ∧ yX0_reaches.cls ≠ "java/lang/invoke/VarHandle" ∧ (parseMethodDescriptor yX0_reaches.desc).map (fun d => d.parameters.length) = some 1 := by decide +kernel
theorem sX0_reaches_L7 (G : Gl) (n : Nat) (K : Nat → Nat) (hK : K = G.ad) (y6 : Nat) : ∀ (f : Nat) (x5 : Int32) (h : AH), Sim G yX0_reaches.cls yX0_reaches.name cX0_reaches 3 (some .boolean) 9 cvI 7 [(2, .int x5), (0, .ref y6)] [] h (F_X0_reaches_L7 n K y6 f x5 h) := by
  intro f
  induction f with
  | zero =>
    intro x5 h
    exact s_none
  | succ f ih =>
    intro x5 h
    unfold F_X0_reaches_L7
    refine s_iload_n dX0_reaches_7 0 rfl ?_
    refine s_aload_n dX0_reaches_8 1 rfl ?_
    refine s_chk (fun hk7 => ?_)
    refine s_get (j := 3) 0 (va_rf (h.R y6 3)) dX0_reaches_9 hk7 rfl (by decide) q236 (Or.inl rfl) rfl ?_
    refine s_ob (r := h.R y6 3) (fun z => [(2, .int x5), (0, .ref y6)]) (fun z => [z, .int x5]) (fun a8 => ?_)
    refine s_chk (fun hk11 => ?_)
    refine s_callV_I 2 (kJ2_size G n K hK a8 h) (by decide) (by decide) dX0_reaches_12 hk11 rfl rfl q732 q552 q553 q107 q554 hyJ2_size rfl rfl (Nat.le_of_ble_eq_true rfl) (fun r9 h10 => ?_)
    refine s_icmp_ge 36 dX0_reaches_15 (by decide) (fun c12 => ?_) (fun c12 => ?_)
    · refine s_iconst (1 : Int32) dX0_reaches_36 (by decide) ?_
      exact s_zret dX0_reaches_37 rfl rfl rfl
    · refine s_aload_n dX0_reaches_18 1 rfl ?_
      refine s_chk (fun hk13 => ?_)
      refine s_get (j := 25) 0 (va_rf (h10.R y6 25)) dX0_reaches_19 hk13 rfl (by decide) q258 (Or.inl rfl) rfl ?_
      refine s_iload_n dX0_reaches_22 0 rfl ?_
      refine s_ob (r := h10.R y6 25) (fun z => [(2, .int x5), (0, .ref y6)]) (fun z => [.int x5, z]) (fun a14 => ?_)
      refine s_chk (fun hk15 => ?_)
      refine s_chk (fun hi16 => ?_)
      refine s_iald dX0_reaches_23 hk15 rfl hi16 ?_
      refine s_iconst (-1 : Int32) dX0_reaches_24 (by decide) ?_
      refine s_icmp_ne 30 dX0_reaches_25 (by decide) (fun c17 => ?_) (fun c17 => ?_)
      · refine s_iinc (1 : Int32) [(2, .int (x5 + (1 : Int32))), (0, .ref y6)] dX0_reaches_30 0 rfl (by decide) (by decide) (by decide) rfl ?_
        refine s_goto 7 dX0_reaches_33 (by decide) ?_
        exact ih (x5 + (1 : Int32)) h10
      · refine s_iconst (0 : Int32) dX0_reaches_28 (by decide) ?_
        exact s_zret dX0_reaches_29 rfl rfl rfl
theorem kX0_reaches (G : Gl) (n : Nat) (K : Nat → Nat) (hK : K = G.ad) (p0 : Nat) (p1 : Int32) (h : AH) : OkM G yX0_reaches cX0_reaches 3 (some .boolean) 9 cvI [.ref p0, .int p1] h (F_X0_reaches n K p0 p1 h) := by
  refine ok_of_sim [(0, .ref p0), (1, .int p1)] (by decide +kernel) (fun r => ⟨_, rfl⟩) (by simp [uns, lv_args, lg_sl, catI, catL, catA, va_rfc]) (by simp [uns, lv_args, lg_sl, catI, catL, catA, va_rfc]) (by simp [uns, lv_args, lg_sl, catI, catL, catA, va_rfc]) ?_
  unfold F_X0_reaches
  refine s_aload_n dX0_reaches_0 0 rfl ?_
  refine s_iload_n dX0_reaches_1 1 rfl ?_
  refine s_chk (fun hk3 => ?_)
  refine s_callV_V 0 (kX0_findSteps G n K hK p0 p1 h) (by decide) (by decide) dX0_reaches_2 hk3 rfl rfl q1040 q1042 qs34 q103 q1043 hyX0_findSteps rfl rfl (Nat.le_of_ble_eq_true rfl) (fun r1 h2 => ?_)
  refine s_iconst (0 : Int32) dX0_reaches_5 (by decide) ?_
  refine s_istore_n [(2, .int (0 : Int32)), (0, .ref p0), (1, .int p1)] dX0_reaches_6 (by decide) (by decide) rfl ?_
  refine s_sub [0, 1] rfl ?_
  exact sX0_reaches_L7 G n K hK p0 n (0 : Int32) h2
theorem hyX0_covers : yX0_covers.cls ≠ "java/lang/invoke/MethodHandle" ∧ yX0_covers.cls ≠ "java/lang/invoke/VarHandle" ∧ (parseMethodDescriptor yX0_covers.desc).map (fun d => d.parameters.length) = some 2 := by decide +kernel
theorem sX0_covers_L13 (G : Gl) (n : Nat) (K : Nat → Nat) (hK : K = G.ad) (y7 : Nat) (y8 : Option Nat) (y9 : Option Nat) : ∀ (f : Nat) (x6 : Int32) (h : AH), Sim G yX0_covers.cls yX0_covers.name cX0_covers 4 (some .boolean) 8 cvI 13 [(3, .int x6), (0, .ref y7), (1, va_rf y8), (2, va_rf y9)] [] h (F_X0_covers_L13 n K y7 y8 y9 f x6 h) := by
  intro f
  induction f with
  | zero =>
    intro x6 h
    exact s_none
  | succ f ih =>
    intro x6 h
    unfold F_X0_covers_L13
    refine s_iload_n dX0_covers_13 0 rfl ?_
    refine s_aload_n dX0_covers_14 1 rfl ?_
    refine s_chk (fun hk10 => ?_)
    refine s_get (j := 3) 0 (va_rf (h.R y7 3)) dX0_covers_15 hk10 rfl (by decide) q236 (Or.inl rfl) rfl ?_
    refine s_ob (r := h.R y7 3) (fun z => [(3, .int x6), (0, .ref y7), (1, va_rf y8), (2, va_rf y9)]) (fun z => [z, .int x6]) (fun a11 => ?_)
    refine s_chk (fun hk14 => ?_)
    refine s_callV_I 2 (kJ2_size G n K hK a11 h) (by decide) (by decide) dX0_covers_18 hk14 rfl rfl q732 q552 q553 q107 q554 hyJ2_size rfl rfl (Nat.le_of_ble_eq_true rfl) (fun r12 h13 => ?_)
    refine s_icmp_ge 70 dX0_covers_21 (by decide) (fun c15 => ?_) (fun c15 => ?_)
    · refine s_iconst (1 : Int32) dX0_covers_70 (by decide) ?_
      exact s_zret dX0_covers_71 rfl rfl rfl
    · refine s_aload_n dX0_covers_24 1 rfl ?_
      refine s_aload_n dX0_covers_25 1 rfl ?_
      refine s_chk (fun hk16 => ?_)
      refine s_get (j := 3) 0 (va_rf (h13.R y7 3)) dX0_covers_26 hk16 rfl (by decide) q236 (Or.inl rfl) rfl ?_
      refine s_iload_n dX0_covers_29 0 rfl ?_
      refine s_ob (r := h13.R y7 3) (fun z => [(3, .int x6), (0, .ref y7), (1, va_rf y8), (2, va_rf y9)]) (fun z => [.int x6, z, .ref y7]) (fun a17 => ?_)
      refine s_chk (fun hk20 => ?_)
      refine s_callV_R 2 (kJ2_get G n K hK a17 x6 h13) (by decide) (by decide) dX0_covers_30 hk20 rfl rfl q733 q734 q735 q107 q736 hyJ2_get rfl rfl (Nat.le_of_ble_eq_true rfl) (fun r18 h19 => ?_)
      refine s_ob (r := r18) (fun z => [(3, .int x6), (0, .ref y7), (1, va_rf y8), (2, va_rf y9)]) (fun z => [z, .ref y7]) (fun a21 => ?_)
      refine s_chk (fun hk22 => ?_)
      refine s_cast 10 dX0_covers_33 hk22 rfl q747 ?_
      refine s_oload_n dX0_covers_36 2 rfl ?_
      refine s_chk (fun hk25 => ?_)
      refine s_callV_I 0 (kX0_above G n K hK y7 (some a21) y8 h19) (by decide) (by decide) dX0_covers_37 hk25 rfl rfl q859 q861 qs21 q103 q862 hyX0_above rfl rfl (Nat.le_of_ble_eq_true rfl) (fun r23 h24 => ?_)
      refine s_if_eq 64 dX0_covers_40 (by decide) (fun c26 => ?_) (fun c26 => ?_)
      · refine s_iinc (1 : Int32) [(3, .int (x6 + (1 : Int32))), (0, .ref y7), (1, va_rf y8), (2, va_rf y9)] dX0_covers_64 0 rfl (by decide) (by decide) (by decide) rfl ?_
        refine s_goto 13 dX0_covers_67 (by decide) ?_
        exact ih (x6 + (1 : Int32)) h24
      · refine s_aload_n dX0_covers_43 1 rfl ?_
        refine s_aload_n dX0_covers_44 1 rfl ?_
        refine s_chk (fun hk27 => ?_)
        refine s_get (j := 3) 0 (va_rf (h24.R y7 3)) dX0_covers_45 hk27 rfl (by decide) q236 (Or.inl rfl) rfl ?_
        refine s_iload_n dX0_covers_48 0 rfl ?_
        refine s_ob (r := h24.R y7 3) (fun z => [(3, .int x6), (0, .ref y7), (1, va_rf y8), (2, va_rf y9)]) (fun z => [.int x6, z, .ref y7]) (fun a28 => ?_)
        refine s_chk (fun hk31 => ?_)
        refine s_callV_R 2 (kJ2_get G n K hK a28 x6 h24) (by decide) (by decide) dX0_covers_49 hk31 rfl rfl q733 q734 q735 q107 q736 hyJ2_get rfl rfl (Nat.le_of_ble_eq_true rfl) (fun r29 h30 => ?_)
        refine s_ob (r := r29) (fun z => [(3, .int x6), (0, .ref y7), (1, va_rf y8), (2, va_rf y9)]) (fun z => [z, .ref y7]) (fun a32 => ?_)
        refine s_chk (fun hk33 => ?_)
        refine s_cast 10 dX0_covers_52 hk33 rfl q747 ?_
        refine s_oload_n dX0_covers_55 3 rfl ?_
        refine s_chk (fun hk36 => ?_)
        refine s_callV_I 0 (kX0_above G n K hK y7 (some a32) y9 h30) (by decide) (by decide) dX0_covers_56 hk36 rfl rfl q859 q861 qs21 q103 q862 hyX0_above rfl rfl (Nat.le_of_ble_eq_true rfl) (fun r34 h35 => ?_)
        refine s_if_ne 64 dX0_covers_59 (by decide) (fun c37 => ?_) (fun c37 => ?_)
        · refine s_iinc (1 : Int32) [(3, .int (x6 + (1 : Int32))), (0, .ref y7), (1, va_rf y8), (2, va_rf y9)] dX0_covers_64 0 rfl (by decide) (by decide) (by decide) rfl ?_
          refine s_goto 13 dX0_covers_67 (by decide) ?_
          exact ih (x6 + (1 : Int32)) h35
        · refine s_iconst (0 : Int32) dX0_covers_62 (by decide) ?_
          exact s_zret dX0_covers_63 rfl rfl rfl
theorem kX0_covers (G : Gl) (n : Nat) (K : Nat → Nat) (hK : K = G.ad) (p0 : Nat) (p1 : Option Nat) (p2 : Option Nat) (h : AH) : OkM G yX0_covers cX0_covers 4 (some .boolean) 8 cvI [.ref p0, va_rf p1, va_rf p2] h (F_X0_covers n K p0 p1 p2 h) := by
  refine ok_of_sim [(0, .ref p0), (1, va_rf p1), (2, va_rf p2)] (by decide +kernel) (fun r => ⟨_, rfl⟩) (by simp [uns, lv_args, lg_sl, catI, catL, catA, va_rfc]) (by simp [uns, lv_args, lg_sl, catI, catL, catA, va_rfc]) (by simp [uns, lv_args, lg_sl, catI, catL, catA, va_rfc]) ?_
  unfold F_X0_covers
  refine s_aload_n dX0_covers_0 0 rfl ?_
  refine s_oload_n dX0_covers_1 1 rfl ?_
  refine s_oload_n dX0_covers_2 2 rfl ?_
  refine s_chk (fun hk3 => ?_)
  refine s_callV_I 0 (kX0_above G n K hK p0 p1 p2 h) (by decide) (by decide) dX0_covers_3 hk3 rfl rfl q859 q861 qs21 q103 q862 hyX0_above rfl rfl (Nat.le_of_ble_eq_true rfl) (fun r1 h2 => ?_)
  refine s_if_ne 11 dX0_covers_6 (by decide) (fun c4 => ?_) (fun c4 => ?_)
  · refine s_iconst (0 : Int32) dX0_covers_11 (by decide) ?_
    refine s_istore_n [(3, .int (0 : Int32)), (0, .ref p0), (1, va_rf p1), (2, va_rf p2)] dX0_covers_12 (by decide) (by decide) rfl ?_
    exact sX0_covers_L13 G n K hK p0 p1 p2 n (0 : Int32) h2
  · refine s_iconst (0 : Int32) dX0_covers_9 (by decide) ?_
    exact s_zret dX0_covers_10 rfl rfl rfl
theorem hyX0_isOpen : yX0_isOpen.cls ≠ "java/lang/invoke/MethodHandle" ∧ yX0_isOpen.cls ≠ "java/lang/invoke/VarHandle" ∧ (parseMethodDescriptor yX0_isOpen.desc).map (fun d => d.parameters.length) = some 1 := by decide +kernel
theorem sX0_isOpen_L2 (G : Gl) (n : Nat) (K : Nat → Nat) (hK : K = G.ad) (y3 : Nat) (y4 : Int32) : ∀ (f : Nat) (x2 : Int32) (h : AH), Sim G yX0_isOpen.cls yX0_isOpen.name cX0_isOpen 3 (some .boolean) 9 cvI 2 [(2, .int x2), (0, .ref y3), (1, .int y4)] [] h (F_X0_isOpen_L2 n K y3 y4 f x2 h) := by
  intro f
  induction f with
  | zero =>
    intro x2 h
    exact s_none
  | succ f ih =>
    intro x2 h
    unfold F_X0_isOpen_L2
    refine s_iload_n dX0_isOpen_2 0 rfl ?_
    refine s_aload_n dX0_isOpen_3 1 rfl ?_
    refine s_chk (fun hk5 => ?_)
    refine s_get (j := 3) 0 (va_rf (h.R y3 3)) dX0_isOpen_4 hk5 rfl (by decide) q236 (Or.inl rfl) rfl ?_
    refine s_ob (r := h.R y3 3) (fun z => [(2, .int x2), (0, .ref y3), (1, .int y4)]) (fun z => [z, .int x2]) (fun a6 => ?_)
    refine s_chk (fun hk9 => ?_)
    refine s_callV_I 2 (kJ2_size G n K hK a6 h) (by decide) (by decide) dX0_isOpen_7 hk9 rfl rfl q732 q552 q553 q107 q554 hyJ2_size rfl rfl (Nat.le_of_ble_eq_true rfl) (fun r7 h8 => ?_)
    refine s_icmp_ge 50 dX0_isOpen_10 (by decide) (fun c10 => ?_) (fun c10 => ?_)
    · refine s_iconst (1 : Int32) dX0_isOpen_50 (by decide) ?_
      exact s_zret dX0_isOpen_51 rfl rfl rfl
    · refine s_aload_n dX0_isOpen_13 1 rfl ?_
      refine s_aload_n dX0_isOpen_14 1 rfl ?_
      refine s_chk (fun hk11 => ?_)
      refine s_get (j := 3) 0 (va_rf (h8.R y3 3)) dX0_isOpen_15 hk11 rfl (by decide) q236 (Or.inl rfl) rfl ?_
      refine s_iload_n dX0_isOpen_18 0 rfl ?_
      refine s_ob (r := h8.R y3 3) (fun z => [(2, .int x2), (0, .ref y3), (1, .int y4)]) (fun z => [.int x2, z, .ref y3]) (fun a12 => ?_)
      refine s_chk (fun hk15 => ?_)
      refine s_callV_R 2 (kJ2_get G n K hK a12 x2 h8) (by decide) (by decide) dX0_isOpen_19 hk15 rfl rfl q733 q734 q735 q107 q736 hyJ2_get rfl rfl (Nat.le_of_ble_eq_true rfl) (fun r13 h14 => ?_)
      refine s_ob (r := r13) (fun z => [(2, .int x2), (0, .ref y3), (1, .int y4)]) (fun z => [z, .ref y3]) (fun a16 => ?_)
      refine s_chk (fun hk17 => ?_)
      refine s_cast 10 dX0_isOpen_22 hk17 rfl q747 ?_
      refine s_aload_n dX0_isOpen_25 1 rfl ?_
      refine s_chk (fun hk18 => ?_)
      refine s_get (j := 3) 0 (va_rf (h14.R y3 3)) dX0_isOpen_26 hk18 rfl (by decide) q236 (Or.inl rfl) rfl ?_
      refine s_iload_n dX0_isOpen_29 2 rfl ?_
      refine s_ob (r := h14.R y3 3) (fun z => [(2, .int x2), (0, .ref y3), (1, .int y4)]) (fun z => [.int y4, z, .ref a16, .ref y3]) (fun a19 => ?_)
      refine s_chk (fun hk22 => ?_)
      refine s_callV_R 2 (kJ2_get G n K hK a19 y4 h14) (by decide) (by decide) dX0_isOpen_30 hk22 rfl rfl q733 q734 q735 q107 q736 hyJ2_get rfl rfl (Nat.le_of_ble_eq_true rfl) (fun r20 h21 => ?_)
      refine s_ob (r := r20) (fun z => [(2, .int x2), (0, .ref y3), (1, .int y4)]) (fun z => [z, .ref a16, .ref y3]) (fun a23 => ?_)
      refine s_chk (fun hk24 => ?_)
      refine s_cast 10 dX0_isOpen_33 hk24 rfl q747 ?_
      refine s_chk (fun hk27 => ?_)
      refine s_callV_I 0 (kX0_covers G n K hK y3 (some a16) (some a23) h21) (by decide) (by decide) dX0_isOpen_36 hk27 rfl rfl q1056 q1058 qs37 q103 q1059 hyX0_covers rfl rfl (Nat.le_of_ble_eq_true rfl) (fun r25 h26 => ?_)
      refine s_if_eq 44 dX0_isOpen_39 (by decide) (fun c28 => ?_) (fun c28 => ?_)
      · refine s_iinc (1 : Int32) [(2, .int (x2 + (1 : Int32))), (0, .ref y3), (1, .int y4)] dX0_isOpen_44 0 rfl (by decide) (by decide) (by decide) rfl ?_
        refine s_goto 2 dX0_isOpen_47 (by decide) ?_
        exact ih (x2 + (1 : Int32)) h26
      · refine s_iconst (0 : Int32) dX0_isOpen_42 (by decide) ?_
        exact s_zret dX0_isOpen_43 rfl rfl rfl
theorem kX0_isOpen (G : Gl) (n : Nat) (K : Nat → Nat) (hK : K = G.ad) (p0 : Nat) (p1 : Int32) (h : AH) : OkM G yX0_isOpen cX0_isOpen 3 (some .boolean) 9 cvI [.ref p0, .int p1] h (F_X0_isOpen n K p0 p1 h) := by
  refine ok_of_sim [(0, .ref p0), (1, .int p1)] (by decide +kernel) (fun r => ⟨_, rfl⟩) (by simp [uns, lv_args, lg_sl, catI, catL, catA, va_rfc]) (by simp [uns, lv_args, lg_sl, catI, catL, catA, va_rfc]) (by simp [uns, lv_args, lg_sl, catI, catL, catA, va_rfc]) ?_
  unfold F_X0_isOpen
  refine s_iconst (0 : Int32) dX0_isOpen_0 (by decide) ?_
  refine s_istore_n [(2, .int (0 : Int32)), (0, .ref p0), (1, .int p1)] dX0_isOpen_1 (by decide) (by decide) rfl ?_
  exact sX0_isOpen_L2 G n K hK p0 p1 n (0 : Int32) h
theorem hyX0_best : yX0_best.cls ≠ "java/lang/invoke/MethodHandle" ∧ yX0_best.cls ≠ "java/lang/invoke/VarHandle" ∧ (parseMethodDescriptor yX0_best.desc).map (fun d => d.parameters.length) = some 1 := by decide +kernel
theorem sX0_best_L25 (G : Gl) (n : Nat) (K : Nat → Nat) (hK : K = G.ad) (y13 : Nat) (y14 : Int32) : ∀ (f : Nat) (x11 : Int32) (x12 : Int32) (h : AH), Sim G yX0_best.cls yX0_best.name cX0_best 4 (some .int) 10 cvI 25 [(3, .int x11), (2, .int x12), (0, .ref y13), (1, .int y14)] [] h (F_X0_best_L25 n K y13 y14 f x11 x12 h) := by
  intro f
  induction f with
  | zero =>
    intro x11 x12 h
    exact s_none
  | succ f ih =>
    intro x11 x12 h
    unfold F_X0_best_L25
    refine s_iload_n dX0_best_25 0 rfl ?_
    refine s_aload_n dX0_best_26 2 rfl ?_
    refine s_chk (fun hk15 => ?_)
    refine s_get (j := 3) 0 (va_rf (h.R y13 3)) dX0_best_27 hk15 rfl (by decide) q236 (Or.inl rfl) rfl ?_
    refine s_ob (r := h.R y13 3) (fun z => [(3, .int x11), (2, .int x12), (0, .ref y13), (1, .int y14)]) (fun z => [z, .int x11]) (fun a16 => ?_)
    refine s_chk (fun hk19 => ?_)
    refine s_callV_I 2 (kJ2_size G n K hK a16 h) (by decide) (by decide) dX0_best_30 hk19 rfl rfl q732 q552 q553 q107 q554 hyJ2_size rfl rfl (Nat.le_of_ble_eq_true rfl) (fun r17 h18 => ?_)
    refine s_icmp_ge 75 dX0_best_33 (by decide) (fun c20 => ?_) (fun c20 => ?_)
    · refine s_iload_n dX0_best_75 1 rfl ?_
      exact s_iret dX0_best_76 rfl rfl
    · refine s_iload_n dX0_best_36 1 rfl ?_
      refine s_iload_n dX0_best_37 3 rfl ?_
      refine s_jn (fun j22 => ∀ (h21 : AH), Sim G yX0_best.cls yX0_best.name cX0_best 4 (some .int) 10 cvI 60 [(3, .int x11), (0, .ref y13), (1, .int y14)] [.int x12] h21 (j22 h21)) ?_ (fun j22 hj23 => ?_)
      · intro h21
        refine s_iconst (1 : Int32) dX0_best_60 (by decide) ?_
        refine s_iload_n dX0_best_61 0 rfl ?_
        refine s_ishl dX0_best_62 ?_
        refine s_goto 67 dX0_best_63 (by decide) ?_
        refine s_ior dX0_best_67 ?_
        refine s_istore_n [(2, .int (x12 ||| ((1 : Int32) <<< (x11 &&& 31)))), (3, .int x11), (0, .ref y13), (1, .int y14)] dX0_best_68 (by decide) (by decide) rfl ?_
        refine s_iinc (1 : Int32) [(3, .int (x11 + (1 : Int32))), (2, .int (x12 ||| ((1 : Int32) <<< (x11 &&& 31)))), (0, .ref y13), (1, .int y14)] dX0_best_69 1 rfl (by decide) (by decide) (by decide) rfl ?_
        refine s_goto 25 dX0_best_72 (by decide) ?_
        exact ih (x11 + (1 : Int32)) (x12 ||| ((1 : Int32) <<< (x11 &&& 31))) h21
      refine s_if_ne 52 dX0_best_38 (by decide) (fun c24 => ?_) (fun c24 => ?_)
      · refine s_aload_n dX0_best_52 2 rfl ?_
        refine s_iload_n dX0_best_53 0 rfl ?_
        refine s_chk (fun hk27 => ?_)
        refine s_callV_I 0 (kX0_isOpen G n K hK y13 x11 h18) (by decide) (by decide) dX0_best_54 hk27 rfl rfl q1052 q1054 qs36 q103 q1055 hyX0_isOpen rfl rfl (Nat.le_of_ble_eq_true rfl) (fun r25 h26 => ?_)
        refine s_if_eq 66 dX0_best_57 (by decide) (fun c28 => ?_) (fun c28 => ?_)
        · refine s_iconst (0 : Int32) dX0_best_66 (by decide) ?_
          refine s_ior dX0_best_67 ?_
          refine s_istore_n [(2, .int (x12 ||| (0 : Int32))), (3, .int x11), (0, .ref y13), (1, .int y14)] dX0_best_68 (by decide) (by decide) rfl ?_
          refine s_iinc (1 : Int32) [(3, .int (x11 + (1 : Int32))), (2, .int (x12 ||| (0 : Int32))), (0, .ref y13), (1, .int y14)] dX0_best_69 1 rfl (by decide) (by decide) (by decide) rfl ?_
          refine s_goto 25 dX0_best_72 (by decide) ?_
          exact ih (x11 + (1 : Int32)) (x12 ||| (0 : Int32)) h26
        · refine s_sub [0, 2, 3] rfl ?_
          exact hj23 h26
      · refine s_aload_n dX0_best_41 2 rfl ?_
        refine s_iload_n dX0_best_42 0 rfl ?_
        refine s_chk (fun hk31 => ?_)
        refine s_callV_I 0 (kX0_reaches G n K hK y13 x11 h18) (by decide) (by decide) dX0_best_43 hk31 rfl rfl q1048 q1050 qs35 q103 q1051 hyX0_reaches rfl rfl (Nat.le_of_ble_eq_true rfl) (fun r29 h30 => ?_)
        refine s_if_eq 66 dX0_best_46 (by decide) (fun c32 => ?_) (fun c32 => ?_)
        · refine s_iconst (0 : Int32) dX0_best_66 (by decide) ?_
          refine s_ior dX0_best_67 ?_
          refine s_istore_n [(2, .int (x12 ||| (0 : Int32))), (3, .int x11), (0, .ref y13), (1, .int y14)] dX0_best_68 (by decide) (by decide) rfl ?_
          refine s_iinc (1 : Int32) [(3, .int (x11 + (1 : Int32))), (2, .int (x12 ||| (0 : Int32))), (0, .ref y13), (1, .int y14)] dX0_best_69 1 rfl (by decide) (by decide) (by decide) rfl ?_
          refine s_goto 25 dX0_best_72 (by decide) ?_
          exact ih (x11 + (1 : Int32)) (x12 ||| (0 : Int32)) h30
        · refine s_goto 60 dX0_best_49 (by decide) ?_
          refine s_sub [0, 2, 3] rfl ?_
          exact hj23 h30
theorem kX0_best (G : Gl) (n : Nat) (K : Nat → Nat) (hK : K = G.ad) (p0 : Nat) (p1 : Int32) (h : AH) : OkM G yX0_best cX0_best 4 (some .int) 10 cvI [.ref p0, .int p1] h (F_X0_best n K p0 p1 h) := by
  refine ok_of_sim [(0, .ref p0), (1, .int p1)] (by decide +kernel) (fun r => ⟨_, rfl⟩) (by simp [uns, lv_args, lg_sl, catI, catL, catA, va_rfc]) (by simp [uns, lv_args, lg_sl, catI, catL, catA, va_rfc]) (by simp [uns, lv_args, lg_sl, catI, catL, catA, va_rfc]) ?_
  unfold F_X0_best
  refine s_aload_n dX0_best_0 0 rfl ?_
  refine s_chk (fun hk1 => ?_)
  refine s_get (j := 2) 0 (va_rf (h.R p0 2)) dX0_best_1 hk1 rfl (by decide) q235 (Or.inl rfl) rfl ?_
  refine s_ob (r := h.R p0 2) (fun z => [(0, .ref p0), (1, .int p1)]) (fun z => [z]) (fun a2 => ?_)
  refine s_chk (fun hk5 => ?_)
  refine s_callV_I 2 (kJ2_isEmpty G n K hK a2 h) (by decide) (by decide) dX0_best_4 hk5 rfl rfl q787 q723 q724 q107 q725 hyJ2_isEmpty rfl rfl (Nat.le_of_ble_eq_true rfl) (fun r3 h4 => ?_)
  refine s_if_ne 19 dX0_best_7 (by decide) (fun c6 => ?_) (fun c6 => ?_)
  · refine s_iconst (-1 : Int32) dX0_best_19 (by decide) ?_
    exact s_iret dX0_best_20 rfl rfl
  · refine s_iload_n dX0_best_10 1 rfl ?_
    refine s_iconst (0 : Int32) dX0_best_11 (by decide) ?_
    refine s_iconst (1 : Int32) dX0_best_12 (by decide) ?_
    refine s_callS_I (kX0_in G n K hK p1 (0 : Int32) (1 : Int32) h4) (by decide) (by decide) dX0_best_13 q335 q336 q103 q337 hyX0_in rfl rfl (Nat.le_of_ble_eq_true rfl) (fun r7 h8 => ?_)
    refine s_if_ne 21 dX0_best_16 (by decide) (fun c9 => ?_) (fun c9 => ?_)
    · refine s_iconst (0 : Int32) dX0_best_21 (by decide) ?_
      refine s_istore_n [(2, .int (0 : Int32)), (0, .ref p0), (1, .int p1)] dX0_best_22 (by decide) (by decide) rfl ?_
      refine s_iconst (0 : Int32) dX0_best_23 (by decide) ?_
      refine s_istore_n [(3, .int (0 : Int32)), (2, .int (0 : Int32)), (0, .ref p0), (1, .int p1)] dX0_best_24 (by decide) (by decide) rfl ?_
      exact sX0_best_L25 G n K hK p0 p1 n (0 : Int32) (0 : Int32) h8
    · refine s_iconst (-1 : Int32) dX0_best_19 (by decide) ?_
      exact s_iret dX0_best_20 rfl rfl
theorem hyX0_between : yX0_between.cls ≠ "java/lang/invoke/MethodHandle" ∧ yX0_between.cls ≠ "java/lang/invoke/VarHandle" ∧ (parseMethodDescriptor yX0_between.desc).map (fun d => d.parameters.length) = some 2 := by decide +kernel
theorem sX0_between_L16 (G : Gl) (n : Nat) (K : Nat → Nat) (hK : K = G.ad) (y9 : Option Nat) (y10 : Option Nat) (y11 : Nat) : ∀ (f : Nat) (x8 : Int32) (h : AH), Sim G yX0_between.cls yX0_between.name cX0_between 6 (some .int) 7 cvI 16 [(5, .int x8), (4, va_rf y9), (3, va_rf y10), (0, .ref y11)] [] h (F_X0_between_L16 n K y9 y10 y11 f x8 h) := by
  intro f
  induction f with
  | zero =>
    intro x8 h
    exact s_none
  | succ f ih =>
    intro x8 h
    unfold F_X0_between_L16
    refine s_iload dX0_between_16 0 rfl (by decide) ?_
    refine s_sipush (10000 : Int32) dX0_between_18 (by decide) ?_
    refine s_icmp_ge 94 dX0_between_21 (by decide) (fun c12 => ?_) (fun c12 => ?_)
    · refine s_iconst (-1 : Int32) dX0_between_94 (by decide) ?_
      exact s_iret dX0_between_95 rfl rfl
    · refine s_oload_n dX0_between_24 2 rfl ?_
      refine s_ifnull (r := y10) 94 (fun z => [(5, .int x8), (4, va_rf y9), (3, va_rf y10), (0, .ref y11)]) (fun z => []) dX0_between_25 (by decide) ?_ (fun a13 => ?_)
      · refine s_iconst (-1 : Int32) dX0_between_94 (by decide) ?_
        exact s_iret dX0_between_95 rfl rfl
      · refine s_oload dX0_between_28 1 rfl (by decide) ?_
        refine s_ifnull (r := y9) 94 (fun z => [(5, .int x8), (4, va_rf y9), (3, va_rf y10), (0, .ref y11)]) (fun z => []) dX0_between_30 (by decide) ?_ (fun a14 => ?_)
        · refine s_iconst (-1 : Int32) dX0_between_94 (by decide) ?_
          exact s_iret dX0_between_95 rfl rfl
        · refine s_aload_n dX0_between_33 3 rfl ?_
          refine s_oload_n dX0_between_34 2 rfl ?_
          refine s_ob (r := y10) (fun z => [(5, .int x8), (4, va_rf y9), (3, va_rf y10), (0, .ref y11)]) (fun z => [z, .ref y11]) (fun a15 => ?_)
          refine s_chk (fun hk16 => ?_)
          refine s_getN (j := 0) 10 (.int (h.I a15 0)) dX0_between_35 hk16 rfl (by decide) q705 (Or.inl rfl) rfl ?_
          refine s_oload_n dX0_between_38 2 rfl ?_
          refine s_ob (r := y10) (fun z => [(5, .int x8), (4, va_rf y9), (3, va_rf y10), (0, .ref y11)]) (fun z => [z, .int (h.I a15 0), .ref y11]) (fun a17 => ?_)
          refine s_chk (fun hk18 => ?_)
          refine s_getN (j := 1) 10 (.int (h.I a17 1)) dX0_between_39 hk18 rfl (by decide) q707 (Or.inl rfl) rfl ?_
          refine s_iload dX0_between_42 0 rfl (by decide) ?_
          refine s_bipush (100 : Int32) dX0_between_44 (by decide) ?_
          refine s_idiv dX0_between_46 (by decide) ?_
          refine s_iload dX0_between_47 0 rfl (by decide) ?_
          refine s_bipush (100 : Int32) dX0_between_49 (by decide) ?_
          refine s_irem dX0_between_51 (by decide) ?_
          refine s_chk (fun hk21 => ?_)
          refine s_callV_I 0 (kX0_isBeaten G n K hK y11 (h.I a15 0) (h.I a17 1) (x8 / (100 : Int32)) (x8 - x8 / (100 : Int32) * (100 : Int32)) h) (by decide) (by decide) dX0_between_52 hk21 rfl rfl q863 q865 qs22 q103 q866 hyX0_isBeaten rfl rfl (Nat.le_of_ble_eq_true rfl) (fun r19 h20 => ?_)
          refine s_if_eq 88 dX0_between_55 (by decide) (fun c22 => ?_) (fun c22 => ?_)
          · refine s_iinc (1 : Int32) [(5, .int (x8 + (1 : Int32))), (4, va_rf y9), (3, va_rf y10), (0, .ref y11)] dX0_between_88 0 rfl (by decide) (by decide) (by decide) rfl ?_
            refine s_goto 16 dX0_between_91 (by decide) ?_
            exact ih (x8 + (1 : Int32)) h20
          · refine s_aload_n dX0_between_58 3 rfl ?_
            refine s_iload dX0_between_59 0 rfl (by decide) ?_
            refine s_bipush (100 : Int32) dX0_between_61 (by decide) ?_
            refine s_idiv dX0_between_63 (by decide) ?_
            refine s_iload dX0_between_64 0 rfl (by decide) ?_
            refine s_bipush (100 : Int32) dX0_between_66 (by decide) ?_
            refine s_irem dX0_between_68 (by decide) ?_
            refine s_oload dX0_between_69 1 rfl (by decide) ?_
            refine s_ob (r := y9) (fun z => [(5, .int x8), (4, va_rf y9), (3, va_rf y10), (0, .ref y11)]) (fun z => [z, .int (x8 - x8 / (100 : Int32) * (100 : Int32)), .int (x8 / (100 : Int32)), .ref y11]) (fun a23 => ?_)
            refine s_chk (fun hk24 => ?_)
            refine s_getN (j := 0) 10 (.int (h20.I a23 0)) dX0_between_71 hk24 rfl (by decide) q705 (Or.inl rfl) rfl ?_
            refine s_oload dX0_between_74 1 rfl (by decide) ?_
            refine s_ob (r := y9) (fun z => [(5, .int x8), (4, va_rf y9), (3, va_rf y10), (0, .ref y11)]) (fun z => [z, .int (h20.I a23 0), .int (x8 - x8 / (100 : Int32) * (100 : Int32)), .int (x8 / (100 : Int32)), .ref y11]) (fun a25 => ?_)
            refine s_chk (fun hk26 => ?_)
            refine s_getN (j := 1) 10 (.int (h20.I a25 1)) dX0_between_76 hk26 rfl (by decide) q707 (Or.inl rfl) rfl ?_
            refine s_chk (fun hk29 => ?_)
            refine s_callV_I 0 (kX0_isBeaten G n K hK y11 (x8 / (100 : Int32)) (x8 - x8 / (100 : Int32) * (100 : Int32)) (h20.I a23 0) (h20.I a25 1) h20) (by decide) (by decide) dX0_between_79 hk29 rfl rfl q863 q865 qs22 q103 q866 hyX0_isBeaten rfl rfl (Nat.le_of_ble_eq_true rfl) (fun r27 h28 => ?_)
            refine s_if_eq 88 dX0_between_82 (by decide) (fun c30 => ?_) (fun c30 => ?_)
            · refine s_iinc (1 : Int32) [(5, .int (x8 + (1 : Int32))), (4, va_rf y9), (3, va_rf y10), (0, .ref y11)] dX0_between_88 0 rfl (by decide) (by decide) (by decide) rfl ?_
              refine s_goto 16 dX0_between_91 (by decide) ?_
              exact ih (x8 + (1 : Int32)) h28
            · refine s_iload dX0_between_85 0 rfl (by decide) ?_
              exact s_iret dX0_between_87 rfl rfl
theorem kX0_between (G : Gl) (n : Nat) (K : Nat → Nat) (hK : K = G.ad) (p0 : Nat) (p1 : Int32) (p2 : Int32) (h : AH) : OkM G yX0_between cX0_between 6 (some .int) 7 cvI [.ref p0, .int p1, .int p2] h (F_X0_between n K p0 p1 p2 h) := by
  refine ok_of_sim [(0, .ref p0), (1, .int p1), (2, .int p2)] (by decide +kernel) (fun r => ⟨_, rfl⟩) (by simp [uns, lv_args, lg_sl, catI, catL, catA, va_rfc]) (by simp [uns, lv_args, lg_sl, catI, catL, catA, va_rfc]) (by simp [uns, lv_args, lg_sl, catI, catL, catA, va_rfc]) ?_
  unfold F_X0_between
  refine s_aload_n dX0_between_0 0 rfl ?_
  refine s_iload_n dX0_between_1 1 rfl ?_
  refine s_chk (fun hk3 => ?_)
  refine s_callV_R 0 (kX0_placeAt G n K hK p0 p1 h) (by decide) (by decide) dX0_between_2 hk3 rfl rfl q779 q781 qs18 q103 q782 hyX0_placeAt rfl rfl (Nat.le_of_ble_eq_true rfl) (fun r1 h2 => ?_)
  refine s_ostore_n [(3, va_rf r1), (0, .ref p0), (1, .int p1), (2, .int p2)] dX0_between_5 (by decide) (by decide) rfl ?_
  refine s_aload_n dX0_between_6 1 rfl ?_
  refine s_iload_n dX0_between_7 3 rfl ?_
  refine s_chk (fun hk6 => ?_)
  refine s_callV_R 0 (kX0_placeAt G n K hK p0 p2 h2) (by decide) (by decide) dX0_between_8 hk6 rfl rfl q779 q781 qs18 q103 q782 hyX0_placeAt rfl rfl (Nat.le_of_ble_eq_true rfl) (fun r4 h5 => ?_)
  refine s_ostore [(4, va_rf r4), (3, va_rf r1), (0, .ref p0), (1, .int p1), (2, .int p2)] dX0_between_11 (by decide) (by decide) rfl ?_
  refine s_iconst (0 : Int32) dX0_between_13 (by decide) ?_
  refine s_istore [(5, .int (0 : Int32)), (4, va_rf r4), (3, va_rf r1), (0, .ref p0), (1, .int p1), (2, .int p2)] dX0_between_14 (by decide) (by decide) rfl ?_
  refine s_sub [0, 1, 2, 3] rfl ?_
  exact sX0_between_L16 G n K hK r4 r1 p0 n (0 : Int32) h5
theorem hyX0_gains : yX0_gains.cls ≠ "java/lang/invoke/MethodHandle" ∧ yX0_gains.cls ≠ "java/lang/invoke/VarHandle" ∧ (parseMethodDescriptor yX0_gains.desc).map (fun d => d.parameters.length) = some 0 := by decide +kernel
theorem sX0_gains_L22 (G : Gl) (n : Nat) (K : Nat → Nat) (hK : K = G.ad) (y13 : Int32) (y14 : Int32) (y15 : Nat) : ∀ (f : Nat) (x12 : Int32) (h : AH) (k : AH → Option (Int32 × AH)) (hk : ∀ (h : AH), Sim G yX0_gains.cls yX0_gains.name cX0_gains 4 (some .int) 7 cvI 94 [(2, .int y13), (1, .int y14), (0, .ref y15)] [] h (k h)), Sim G yX0_gains.cls yX0_gains.name cX0_gains 4 (some .int) 7 cvI 22 [(3, .int x12), (2, .int y13), (1, .int y14), (0, .ref y15)] [] h (F_X0_gains_L22 n K y13 y14 y15 f x12 h k) := by
  intro f
  induction f with
  | zero =>
    intro x12 h k hk
    exact s_none
  | succ f ih =>
    intro x12 h k hk
    unfold F_X0_gains_L22
    refine s_iload_n dX0_gains_22 0 rfl ?_
    refine s_iload_n dX0_gains_23 2 rfl ?_
    refine s_icmp_ge 94 dX0_gains_24 (by decide) (fun c16 => ?_) (fun c16 => ?_)
    · refine s_sub [1, 2, 3] rfl ?_
      exact hk h
    · refine s_aload_n dX0_gains_27 3 rfl ?_
      refine s_chk (fun hk17 => ?_)
      refine s_get (j := 26) 0 (va_rf (h.R y15 26)) dX0_gains_28 hk17 rfl (by decide) q259 (Or.inl rfl) rfl ?_
      refine s_iload_n dX0_gains_31 1 rfl ?_
      refine s_ob (r := h.R y15 26) (fun z => [(3, .int x12), (2, .int y13), (1, .int y14), (0, .ref y15)]) (fun z => [.int y13, z]) (fun a18 => ?_)
      refine s_chk (fun hk19 => ?_)
      refine s_chk (fun hi20 => ?_)
      refine s_aald dX0_gains_32 hk19 rfl rfl rfl hi20 ?_
      refine s_iload_n dX0_gains_33 0 rfl ?_
      refine s_aload_n dX0_gains_34 3 rfl ?_
      refine s_aload_n dX0_gains_35 3 rfl ?_
      refine s_get (j := 3) 0 (va_rf (h.R y15 3)) dX0_gains_36 hk17 rfl (by decide) q236 (Or.inl rfl) rfl ?_
      refine s_iload_n dX0_gains_39 1 rfl ?_
      refine s_ob (r := h.R y15 3) (fun z => [(3, .int x12), (2, .int y13), (1, .int y14), (0, .ref y15)]) (fun z => [.int y13, z, .ref y15, .int x12, va_rf (h.R a18 (ix y13))]) (fun a21 => ?_)
      refine s_chk (fun hk24 => ?_)
      refine s_callV_R 2 (kJ2_get G n K hK a21 y13 h) (by decide) (by decide) dX0_gains_40 hk24 rfl rfl q733 q734 q735 q107 q736 hyJ2_get rfl rfl (by simp [catI, catL, catA, va_rfc]) (fun r22 h23 => ?_)
      refine s_ob (r := r22) (fun z => [(3, .int x12), (2, .int y13), (1, .int y14), (0, .ref y15)]) (fun z => [z, .ref y15, .int x12, va_rf (h.R a18 (ix y13))]) (fun a25 => ?_)
      refine s_chk (fun hk26 => ?_)
      refine s_cast 10 dX0_gains_43 hk26 rfl q747 ?_
      refine s_aload_n dX0_gains_46 3 rfl ?_
      refine s_chk (fun hk27 => ?_)
      refine s_get (j := 3) 0 (va_rf (h23.R y15 3)) dX0_gains_47 hk27 rfl (by decide) q236 (Or.inl rfl) rfl ?_
      refine s_iload_n dX0_gains_50 0 rfl ?_
      refine s_ob (r := h23.R y15 3) (fun z => [(3, .int x12), (2, .int y13), (1, .int y14), (0, .ref y15)]) (fun z => [.int x12, z, .ref a25, .ref y15, .int x12, va_rf (h.R a18 (ix y13))]) (fun a28 => ?_)
      refine s_chk (fun hk31 => ?_)
      refine s_callV_R 2 (kJ2_get G n K hK a28 x12 h23) (by decide) (by decide) dX0_gains_51 hk31 rfl rfl q733 q734 q735 q107 q736 hyJ2_get rfl rfl (by simp [catI, catL, catA, va_rfc]) (fun r29 h30 => ?_)
      refine s_ob (r := r29) (fun z => [(3, .int x12), (2, .int y13), (1, .int y14), (0, .ref y15)]) (fun z => [z, .ref a25, .ref y15, .int x12, va_rf (h.R a18 (ix y13))]) (fun a32 => ?_)
      refine s_chk (fun hk33 => ?_)
      refine s_cast 10 dX0_gains_54 hk33 rfl q747 ?_
      refine s_chk (fun hk36 => ?_)
      refine s_callV_I 0 (kX0_votesOf G n K hK y15 (some a25) (some a32) h30) (by decide) (by decide) dX0_gains_57 hk36 rfl rfl q835 q837 qs19 q103 q838 hyX0_votesOf rfl rfl (by simp [catI, catL, catA, va_rfc]) (fun r34 h35 => ?_)
      refine s_aload_n dX0_gains_60 3 rfl ?_
      refine s_aload_n dX0_gains_61 3 rfl ?_
      refine s_chk (fun hk37 => ?_)
      refine s_get (j := 3) 0 (va_rf (h35.R y15 3)) dX0_gains_62 hk37 rfl (by decide) q236 (Or.inl rfl) rfl ?_
      refine s_iload_n dX0_gains_65 0 rfl ?_
      refine s_ob (r := h35.R y15 3) (fun z => [(3, .int x12), (2, .int y13), (1, .int y14), (0, .ref y15)]) (fun z => [.int x12, z, .ref y15, .int r34, .int x12, va_rf (h.R a18 (ix y13))]) (fun a38 => ?_)
      refine s_chk (fun hk41 => ?_)
      refine s_callV_R 2 (kJ2_get G n K hK a38 x12 h35) (by decide) (by decide) dX0_gains_66 hk41 rfl rfl q733 q734 q735 q107 q736 hyJ2_get rfl rfl (by simp [catI, catL, catA, va_rfc]) (fun r39 h40 => ?_)
      refine s_ob (r := r39) (fun z => [(3, .int x12), (2, .int y13), (1, .int y14), (0, .ref y15)]) (fun z => [z, .ref y15, .int r34, .int x12, va_rf (h.R a18 (ix y13))]) (fun a42 => ?_)
      refine s_chk (fun hk43 => ?_)
      refine s_cast 10 dX0_gains_69 hk43 rfl q747 ?_
      refine s_aload_n dX0_gains_72 3 rfl ?_
      refine s_chk (fun hk44 => ?_)
      refine s_get (j := 3) 0 (va_rf (h40.R y15 3)) dX0_gains_73 hk44 rfl (by decide) q236 (Or.inl rfl) rfl ?_
      refine s_iload_n dX0_gains_76 1 rfl ?_
      refine s_ob (r := h40.R y15 3) (fun z => [(3, .int x12), (2, .int y13), (1, .int y14), (0, .ref y15)]) (fun z => [.int y13, z, .ref a42, .ref y15, .int r34, .int x12, va_rf (h.R a18 (ix y13))]) (fun a45 => ?_)
      refine s_chk (fun hk48 => ?_)
      refine s_callV_R 2 (kJ2_get G n K hK a45 y13 h40) (by decide) (by decide) dX0_gains_77 hk48 rfl rfl q733 q734 q735 q107 q736 hyJ2_get rfl rfl (by simp [catI, catL, catA, va_rfc]) (fun r46 h47 => ?_)
      refine s_ob (r := r46) (fun z => [(3, .int x12), (2, .int y13), (1, .int y14), (0, .ref y15)]) (fun z => [z, .ref a42, .ref y15, .int r34, .int x12, va_rf (h.R a18 (ix y13))]) (fun a49 => ?_)
      refine s_chk (fun hk50 => ?_)
      refine s_cast 10 dX0_gains_80 hk50 rfl q747 ?_
      refine s_chk (fun hk53 => ?_)
      refine s_callV_I 0 (kX0_votesOf G n K hK y15 (some a42) (some a49) h47) (by decide) (by decide) dX0_gains_83 hk53 rfl rfl q835 q837 qs19 q103 q838 hyX0_votesOf rfl rfl (by simp [catI, catL, catA, va_rfc]) (fun r51 h52 => ?_)
      refine s_isub dX0_gains_86 ?_
      refine s_ob (r := h.R a18 (ix y13)) (fun z => [(3, .int x12), (2, .int y13), (1, .int y14), (0, .ref y15)]) (fun z => [.int (r34 - r51), .int x12, z]) (fun a54 => ?_)
      refine s_chk (fun hk55 => ?_)
      refine s_chk (fun hi56 => ?_)
      refine s_iast dX0_gains_87 hk55 rfl (by decide) hi56 ?_
      refine s_hl (fun h57 e58 => ?_)
      refine s_iinc (1 : Int32) [(3, .int (x12 + (1 : Int32))), (2, .int y13), (1, .int y14), (0, .ref y15)] dX0_gains_88 0 rfl (by decide) (by decide) (by decide) rfl ?_
      refine s_goto 22 dX0_gains_91 (by decide) ?_
      exact ih (x12 + (1 : Int32)) h57 k hk
theorem sX0_gains_L15 (G : Gl) (n : Nat) (K : Nat → Nat) (hK : K = G.ad) (y8 : Int32) (y9 : Nat) : ∀ (f : Nat) (x7 : Int32) (h : AH), Sim G yX0_gains.cls yX0_gains.name cX0_gains 4 (some .int) 7 cvI 15 [(2, .int x7), (1, .int y8), (0, .ref y9)] [] h (F_X0_gains_L15 n K y8 y9 f x7 h) := by
  intro f
  induction f with
  | zero =>
    intro x7 h
    exact s_none
  | succ f ih =>
    intro x7 h
    unfold F_X0_gains_L15
    refine s_iload_n dX0_gains_15 0 rfl ?_
    refine s_iload_n dX0_gains_16 1 rfl ?_
    refine s_icmp_ge 100 dX0_gains_17 (by decide) (fun c10 => ?_) (fun c10 => ?_)
    · refine s_iload_n dX0_gains_100 1 rfl ?_
      exact s_iret dX0_gains_101 rfl rfl
    · refine s_iconst (0 : Int32) dX0_gains_20 (by decide) ?_
      refine s_istore_n [(3, .int (0 : Int32)), (2, .int x7), (1, .int y8), (0, .ref y9)] dX0_gains_21 (by decide) (by decide) rfl ?_
      refine sX0_gains_L22 G n K hK x7 y8 y9 n (0 : Int32) h _ ?_
      intro h59
      refine s_iinc (1 : Int32) [(2, .int (x7 + (1 : Int32))), (1, .int y8), (0, .ref y9)] dX0_gains_94 0 rfl (by decide) (by decide) (by decide) rfl ?_
      refine s_goto 15 dX0_gains_97 (by decide) ?_
      exact ih (x7 + (1 : Int32)) h59
theorem kX0_gains (G : Gl) (n : Nat) (K : Nat → Nat) (hK : K = G.ad) (p0 : Nat) (h : AH) : OkM G yX0_gains cX0_gains 4 (some .int) 7 cvI [.ref p0] h (F_X0_gains n K p0 h) := by
  refine ok_of_sim [(0, .ref p0)] (by decide +kernel) (fun r => ⟨_, rfl⟩) (by simp [uns, lv_args, lg_sl, catI, catL, catA, va_rfc]) (by simp [uns, lv_args, lg_sl, catI, catL, catA, va_rfc]) (by simp [uns, lv_args, lg_sl, catI, catL, catA, va_rfc]) ?_
  unfold F_X0_gains
  refine s_bipush (8 : Int32) dX0_gains_0 (by decide) ?_
  refine s_aload_n dX0_gains_2 0 rfl ?_
  refine s_chk (fun hk1 => ?_)
  refine s_get (j := 3) 0 (va_rf (h.R p0 3)) dX0_gains_3 hk1 rfl (by decide) q236 (Or.inl rfl) rfl ?_
  refine s_ob (r := h.R p0 3) (fun z => [(0, .ref p0)]) (fun z => [z, .int (8 : Int32)]) (fun a2 => ?_)
  refine s_chk (fun hk5 => ?_)
  refine s_callV_I 2 (kJ2_size G n K hK a2 h) (by decide) (by decide) dX0_gains_6 hk5 rfl rfl q732 q552 q553 q107 q554 hyJ2_size rfl rfl (Nat.le_of_ble_eq_true rfl) (fun r3 h4 => ?_)
  refine s_mmin dX0_gains_9 (by decide) q1072 q477 q116 q478 (Nat.le_of_ble_eq_true rfl) ?_
  refine s_istore_n [(1, .int (if r3 < (8 : Int32) then r3 else (8 : Int32))), (0, .ref p0)] dX0_gains_12 (by decide) (by decide) rfl ?_
  refine s_iconst (0 : Int32) dX0_gains_13 (by decide) ?_
  refine s_istore_n [(2, .int (0 : Int32)), (1, .int (if r3 < (8 : Int32) then r3 else (8 : Int32))), (0, .ref p0)] dX0_gains_14 (by decide) (by decide) rfl ?_
  exact sX0_gains_L15 G n K hK (if r3 < (8 : Int32) then r3 else (8 : Int32)) p0 n (0 : Int32) h4
