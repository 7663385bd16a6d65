set_option maxRecDepth 100000
theorem hyX1_tells : yX1_tells.cls ≠ "java/lang/invoke/MethodHandle" ∧ yX1_tells.cls ≠ "java/lang/invoke/VarHandle" ∧ (parseMethodDescriptor yX1_tells.desc).map (fun d => d.parameters.length) = some 0 := by decide +kernel
theorem kX1_tells (G : Gl) (n : Nat) (K : Nat → Nat) (hK : K = G.ad) (p0 : Nat) (h : AH) : OkT G yX1_tells cX1_tells 4 none 9 (cvT cvV) [.ref p0] h (F_X1_tells n K p0 h) := by
  refine okT_of_sim [(0, .ref p0)] (by decide +kernel) (by simp [uns, lv_args, lg_sl, catI, catL, catA, va_rfc]) (by simp [uns, lv_args, lg_sl, catI, catL, catA, va_rfc]) (by simp [uns, lv_args, lg_sl, catI, catL, catA, va_rfc]) ?_
  unfold F_X1_tells
  refine s_aload_n dX1_tells_0 0 rfl ?_
  refine s_ldcS dX1_tells_1 0 rfl hK ?_
  refine s_chk (fun hk3 => ?_)
  refine s_callV_I 1 (kX1_word G n K hK p0 (some (K 1)) h) (by decide) (by decide) dX1_tells_3 hk3 rfl rfl q440 q442 qs5 q104 q443 hyX1_word rfl rfl (Nat.le_of_ble_eq_true rfl) (fun r1 h2 => ?_)
  refine s_istore_n [(1, .int r1), (0, .ref p0)] dX1_tells_6 (by decide) (by decide) rfl ?_
  refine s_iload_n dX1_tells_7 0 rfl ?_
  refine s_iconst (2 : Int32) dX1_tells_8 (by decide) ?_
  refine s_jn (fun j6 => ∀ (x4 : Int32) (h5 : AH), Sim G yX1_tells.cls yX1_tells.name cX1_tells 4 none 9 (cvT cvV) 58 [(1, .int r1), (0, .ref p0)] [.int x4] h5 (j6 x4 h5)) ?_ (fun j6 hj66 => ?_)
  · intro x4 h5
    refine s_istore_n [(2, .int x4), (1, .int r1), (0, .ref p0)] dX1_tells_58 (by decide) (by decide) rfl ?_
    refine s_iload_n dX1_tells_59 1 rfl ?_
    refine s_iconst (-1 : Int32) dX1_tells_60 (by decide) ?_
    refine s_jn (fun j7 => Sim G yX1_tells.cls yX1_tells.name cX1_tells 4 none 9 (cvT cvV) 68 [(0, .ref p0)] [] h5 (j7 )) ?_ (fun j7 hj12 => ?_)
    · skip
      refine s_aload_n dX1_tells_68 0 rfl ?_
      refine s_chk (fun hk10 => ?_)
      refine s_callV_R 1 (kX1_wrong G n K hK p0 h5) (by decide) (by decide) dX1_tells_69 hk10 rfl rfl q363 q365 qs2 q104 q366 hyX1_wrong rfl rfl (Nat.le_of_ble_eq_true rfl) (fun r8 h9 => ?_)
      refine s_ob (r := r8) (fun z => [(0, .ref p0)]) (fun z => [z]) (fun a11 => ?_)
      exact s_athrow dX1_tells_72
    refine s_icmp_eq 68 dX1_tells_61 (by decide) (fun c13 => ?_) (fun c13 => ?_)
    · refine s_sub [2] rfl ?_
      exact hj12
    · refine s_iload_n dX1_tells_64 0 rfl ?_
      refine s_if_eq 73 dX1_tells_65 (by decide) (fun c14 => ?_) (fun c14 => ?_)
      · refine s_aload_n dX1_tells_73 2 rfl ?_
        refine s_chk (fun hk17 => ?_)
        refine s_callT_V 1 (kX1_next G n K hK p0 h5) (by decide) (by decide) dX1_tells_74 hk17 rfl rfl q353 q355 qs1 q104 q356 hyX1_next rfl rfl (Nat.le_of_ble_eq_true rfl) (fun r15 h16 => ?_)
        refine s_iload_n dX1_tells_77 1 rfl ?_
        refine s_jn (fun j19 => ∀ (h18 : AH), Sim G yX1_tells.cls yX1_tells.name cX1_tells 4 none 9 (cvT cvV) 191 [(0, .ref p0)] [] h18 (j19 h18)) ?_ (fun j19 hj23 => ?_)
        · intro h18
          refine s_aload_n dX1_tells_191 0 rfl ?_
          refine s_bipush (59 : Int32) dX1_tells_192 (by decide) ?_
          refine s_chk (fun hk22 => ?_)
          refine s_callT_V 1 (kX1_needs G n K hK p0 (59 : Int32) h18) (by decide) (by decide) dX1_tells_194 hk22 rfl rfl q718 q720 qs15 q104 q721 hyX1_needs rfl rfl (Nat.le_of_ble_eq_true rfl) (fun r20 h21 => ?_)
          exact s_vret dX1_tells_197 rfl rfl
        refine s_ite (fun c24 => ?_) (fun c24 => ?_)
        · refine s_tblIn (0 : Int32) 108 c24 dX1_tells_78 (by decide) (by decide) rfl (by decide) ?_
          refine s_aload_n dX1_tells_108 2 rfl ?_
          refine s_aload_n dX1_tells_109 2 rfl ?_
          refine s_ldcS dX1_tells_110 1 rfl hK ?_
          refine s_chk (fun hk27 => ?_)
          refine s_callT_I 1 (kX1_needsWord G n K hK p0 (some (K 2)) h16) (by decide) (by decide) dX1_tells_112 hk27 rfl rfl q556 q558 qs7 q104 q559 hyX1_needsWord rfl rfl (Nat.le_of_ble_eq_true rfl) (fun r25 h26 => ?_)
          refine s_chk (fun hk28 => ?_)
          refine s_put (j := 4) 1 (v := .int r25) dX1_tells_115 hk28 rfl (by decide) q180 (Or.inl rfl) rfl rfl rfl (Upd.i (fun _ => rfl)) ?_
          refine s_hl (fun h29 e30 => ?_)
          refine s_goto 191 dX1_tells_118 (by decide) ?_
          refine s_sub [2] rfl ?_
          exact hj23 h29
        refine s_ite (fun c31 => ?_) (fun c31 => ?_)
        · refine s_tblIn (1 : Int32) 121 c31 dX1_tells_78 (by decide) (by decide) rfl (by decide) ?_
          refine s_aload_n dX1_tells_121 2 rfl ?_
          refine s_aload_n dX1_tells_122 2 rfl ?_
          refine s_iconst (1 : Int32) dX1_tells_123 (by decide) ?_
          refine s_bipush (9 : Int32) dX1_tells_124 (by decide) ?_
          refine s_chk (fun hk34 => ?_)
          refine s_callT_I 1 (kX1_number G n K hK p0 (1 : Int32) (9 : Int32) h16) (by decide) (by decide) dX1_tells_126 hk34 rfl rfl q560 q562 qs8 q104 q563 hyX1_number rfl rfl (Nat.le_of_ble_eq_true rfl) (fun r32 h33 => ?_)
          refine s_chk (fun hk35 => ?_)
          refine s_put (j := 5) 1 (v := .int r32) dX1_tells_129 hk35 rfl (by decide) q181 (Or.inl rfl) rfl rfl rfl (Upd.i (fun _ => rfl)) ?_
          refine s_hl (fun h36 e37 => ?_)
          refine s_aload_n dX1_tells_132 2 rfl ?_
          refine s_aload_n dX1_tells_133 2 rfl ?_
          refine s_iconst (1 : Int32) dX1_tells_134 (by decide) ?_
          refine s_bipush (9 : Int32) dX1_tells_135 (by decide) ?_
          refine s_callT_I 1 (kX1_number G n K hK p0 (1 : Int32) (9 : Int32) h36) (by decide) (by decide) dX1_tells_137 (show h36.kind p0 = 2 by rw [e37]; exact hk35) rfl rfl q560 q562 qs8 q104 q563 hyX1_number rfl rfl (Nat.le_of_ble_eq_true rfl) (fun r38 h39 => ?_)
          refine s_chk (fun hk40 => ?_)
          refine s_put (j := 6) 1 (v := .int r38) dX1_tells_140 hk40 rfl (by decide) q182 (Or.inl rfl) rfl rfl rfl (Upd.i (fun _ => rfl)) ?_
          refine s_hl (fun h41 e42 => ?_)
          refine s_goto 191 dX1_tells_143 (by decide) ?_
          refine s_sub [2] rfl ?_
          exact hj23 h41
        refine s_ite (fun c43 => ?_) (fun c43 => ?_)
        · refine s_tblIn (2 : Int32) 146 c43 dX1_tells_78 (by decide) (by decide) rfl (by decide) ?_
          refine s_aload_n dX1_tells_146 2 rfl ?_
          refine s_chk (fun hk46 => ?_)
          refine s_callT_V 1 (kX1_voter G n K hK p0 h16) (by decide) (by decide) dX1_tells_147 hk46 rfl rfl q566 q568 qs9 q104 q569 hyX1_voter rfl rfl (Nat.le_of_ble_eq_true rfl) (fun r44 h45 => ?_)
          refine s_goto 191 dX1_tells_150 (by decide) ?_
          refine s_sub [2] rfl ?_
          exact hj23 h45
        refine s_ite (fun c47 => ?_) (fun c47 => ?_)
        · refine s_tblIn (3 : Int32) 153 c47 dX1_tells_78 (by decide) (by decide) rfl (by decide) ?_
          refine s_aload_n dX1_tells_153 2 rfl ?_
          refine s_iconst (0 : Int32) dX1_tells_154 (by decide) ?_
          refine s_bipush (99 : Int32) dX1_tells_155 (by decide) ?_
          refine s_chk (fun hk50 => ?_)
          refine s_callT_I 1 (kX1_number G n K hK p0 (0 : Int32) (99 : Int32) h16) (by decide) (by decide) dX1_tells_157 hk50 rfl rfl q560 q562 qs8 q104 q563 hyX1_number rfl rfl (Nat.le_of_ble_eq_true rfl) (fun r48 h49 => ?_)
          refine s_istore_n [(3, .int r48), (2, .int x4), (1, .int r1), (0, .ref p0)] dX1_tells_160 (by decide) (by decide) rfl ?_
          refine s_aload_n dX1_tells_161 3 rfl ?_
          refine s_chk (fun hk51 => ?_)
          refine s_get (j := 9) 1 (va_rf (h49.R p0 9)) dX1_tells_162 hk51 rfl (by decide) q186 (Or.inl rfl) rfl ?_
          refine s_new 10 dX1_tells_165 rfl q698 q699 q128 ?_
          refine s_hl (fun h52 e53 => ?_)
          refine s_dup dX1_tells_168 rfl ?_
          refine s_iload_n dX1_tells_169 0 rfl ?_
          refine s_aload_n dX1_tells_170 3 rfl ?_
          refine s_iconst (0 : Int32) dX1_tells_171 (by decide) ?_
          refine s_bipush (99 : Int32) dX1_tells_172 (by decide) ?_
          refine s_chk (fun hk56 => ?_)
          refine s_callT_I 1 (kX1_number G n K hK p0 (0 : Int32) (99 : Int32) h52) (by decide) (by decide) dX1_tells_174 hk56 rfl rfl q560 q562 qs8 q104 q563 hyX1_number rfl rfl (by simp [catI, catL, catA, va_rfc]) (fun r54 h55 => ?_)
          refine s_callI_V (kX10_init G n K hK h49.n r48 r54 h55) (by decide) (by decide) dX1_tells_177 q700 q701 q128 q702 rfl hyX10_init rfl rfl (by simp [catI, catL, catA, va_rfc]) (fun r57 h58 => ?_)
          refine s_ob (r := h49.R p0 9) (fun z => [(3, .int r48), (2, .int x4), (1, .int r1), (0, .ref p0)]) (fun z => [.ref h49.n, z]) (fun a59 => ?_)
          refine s_chk (fun hk62 => ?_)
          refine s_callV_I 2 (kJ2_add G n K hK a59 (some h49.n) h58) (by decide) (by decide) dX1_tells_180 hk62 rfl rfl q641 q642 q643 q107 q644 hyJ2_add rfl rfl (Nat.le_of_ble_eq_true rfl) (fun r60 h61 => ?_)
          refine s_pop dX1_tells_183 rfl ?_
          refine s_goto 191 dX1_tells_184 (by decide) ?_
          refine s_sub [3] rfl ?_
          exact hj23 h61
        have zc24 := lv_neT c24 (a := 0) rfl
        have zc31 := lv_neT c31 (a := 1) rfl
        have zc43 := lv_neT c43 (a := 2) rfl
        have zc47 := lv_neT c47 (a := 3) rfl
        refine s_tblOut 187 dX1_tells_78 (by omega) (by decide) ?_
        refine s_aload_n dX1_tells_187 2 rfl ?_
        refine s_chk (fun hk65 => ?_)
        refine s_callT_V 1 (kX1_win G n K hK p0 h16) (by decide) (by decide) dX1_tells_188 hk65 rfl rfl q713 q715 qs14 q104 q716 hyX1_win rfl rfl (Nat.le_of_ble_eq_true rfl) (fun r63 h64 => ?_)
        refine s_sub [2] rfl ?_
        exact hj23 h64
      · refine s_sub [2] rfl ?_
        exact hj12
  refine s_jn (fun j68 => ∀ (h67 : AH), Sim G yX1_tells.cls yX1_tells.name cX1_tells 4 none 9 (cvT cvV) 24 [(1, .int r1), (0, .ref p0)] [] h67 (j68 h67)) ?_ (fun j68 hj82 => ?_)
  · intro h67
    refine s_iload_n dX1_tells_24 0 rfl ?_
    refine s_iconst (3 : Int32) dX1_tells_25 (by decide) ?_
    refine s_jn (fun j70 => ∀ (h69 : AH), Sim G yX1_tells.cls yX1_tells.name cX1_tells 4 none 9 (cvT cvV) 41 [(1, .int r1), (0, .ref p0)] [] h69 (j70 h69)) ?_ (fun j70 hj74 => ?_)
    · intro h69
      refine s_iload_n dX1_tells_41 0 rfl ?_
      refine s_iconst (4 : Int32) dX1_tells_42 (by decide) ?_
      refine s_icmp_ne 57 dX1_tells_43 (by decide) (fun c71 => ?_) (fun c71 => ?_)
      · refine s_iconst (0 : Int32) dX1_tells_57 (by decide) ?_
        exact hj66 (0 : Int32) h69
      · refine s_aload_n dX1_tells_46 1 rfl ?_
        refine s_chk (fun hk72 => ?_)
        refine s_get (j := 7) 1 (.int (h69.I p0 7)) dX1_tells_47 hk72 rfl (by decide) q183 (Or.inl rfl) rfl ?_
        refine s_if_eq 57 dX1_tells_50 (by decide) (fun c73 => ?_) (fun c73 => ?_)
        · refine s_iconst (0 : Int32) dX1_tells_57 (by decide) ?_
          exact hj66 (0 : Int32) h69
        · refine s_iconst (1 : Int32) dX1_tells_53 (by decide) ?_
          refine s_goto 58 dX1_tells_54 (by decide) ?_
          exact hj66 (1 : Int32) h69
    refine s_icmp_ne 41 dX1_tells_26 (by decide) (fun c75 => ?_) (fun c75 => ?_)
    · exact hj74 h67
    · refine s_aload_n dX1_tells_29 1 rfl ?_
      refine s_chk (fun hk76 => ?_)
      refine s_get (j := 9) 1 (va_rf (h67.R p0 9)) dX1_tells_30 hk76 rfl (by decide) q186 (Or.inl rfl) rfl ?_
      refine s_ob (r := h67.R p0 9) (fun z => [(1, .int r1), (0, .ref p0)]) (fun z => [z]) (fun a77 => ?_)
      refine s_chk (fun hk80 => ?_)
      refine s_callV_I 2 (kJ2_size G n K hK a77 h67) (by decide) (by decide) dX1_tells_33 hk80 rfl rfl q551 q552 q553 q107 q554 hyJ2_size rfl rfl (Nat.le_of_ble_eq_true rfl) (fun r78 h79 => ?_)
      refine s_bipush (20 : Int32) dX1_tells_36 (by decide) ?_
      refine s_icmp_eq 53 dX1_tells_38 (by decide) (fun c81 => ?_) (fun c81 => ?_)
      · refine s_iconst (1 : Int32) dX1_tells_53 (by decide) ?_
        refine s_goto 58 dX1_tells_54 (by decide) ?_
        exact hj66 (1 : Int32) h79
      · exact hj74 h79
  refine s_icmp_ne 24 dX1_tells_9 (by decide) (fun c83 => ?_) (fun c83 => ?_)
  · exact hj82 h2
  · refine s_aload_n dX1_tells_12 1 rfl ?_
    refine s_chk (fun hk84 => ?_)
    refine s_get (j := 8) 1 (va_rf (h2.R p0 8)) dX1_tells_13 hk84 rfl (by decide) q184 (Or.inl rfl) rfl ?_
    refine s_ob (r := h2.R p0 8) (fun z => [(1, .int r1), (0, .ref p0)]) (fun z => [z]) (fun a85 => ?_)
    refine s_chk (fun hk88 => ?_)
    refine s_callV_I 2 (kJ2_size G n K hK a85 h2) (by decide) (by decide) dX1_tells_16 hk88 rfl rfl q551 q552 q553 q107 q554 hyJ2_size rfl rfl (Nat.le_of_ble_eq_true rfl) (fun r86 h87 => ?_)
    refine s_bipush (15 : Int32) dX1_tells_19 (by decide) ?_
    refine s_icmp_eq 53 dX1_tells_21 (by decide) (fun c89 => ?_) (fun c89 => ?_)
    · refine s_iconst (1 : Int32) dX1_tells_53 (by decide) ?_
      refine s_goto 58 dX1_tells_54 (by decide) ?_
      exact hj66 (1 : Int32) h87
    · exact hj82 h87
theorem hyJ2_isEmpty : yJ2_isEmpty.cls ≠ "java/lang/invoke/MethodHandle" ∧ yJ2_isEmpty.cls ≠ "java/lang/invoke/VarHandle" ∧ (parseMethodDescriptor yJ2_isEmpty.desc).map (fun d => d.parameters.length) = some 0 := by decide +kernel
theorem kJ2_isEmpty (G : Gl) (n : Nat) (K : Nat → Nat) (hK : K = G.ad) (p0 : Nat) (h : AH) : OkM G yJ2_isEmpty cJ2_isEmpty 1 (some .boolean) 1 cvI [.ref p0] h (F_J2_isEmpty n K p0 h) := by
  refine ok_of_sim [(0, .ref p0)] (by decide +kernel) (fun r => ⟨_, rfl⟩) (by simp [uns, lv_args, lg_sl, catI, catL, catA, va_rfc]) (by simp [uns, lv_args, lg_sl, catI, catL, catA, va_rfc]) (by simp [uns, lv_args, lg_sl, catI, catL, catA, va_rfc]) ?_
  unfold F_J2_isEmpty
  refine s_aload_n dJ2_isEmpty_0 0 rfl ?_
  refine s_chk (fun hk1 => ?_)
  refine s_get (j := 2) 2 (.int (h.I p0 2)) dJ2_isEmpty_1 hk1 rfl (by decide) q164 (Or.inl rfl) rfl ?_
  refine s_if_ne 11 dJ2_isEmpty_4 (by decide) (fun c2 => ?_) (fun c2 => ?_)
  · refine s_iconst (0 : Int32) dJ2_isEmpty_11 (by decide) ?_
    exact s_zret dJ2_isEmpty_12 rfl rfl rfl
  · refine s_iconst (1 : Int32) dJ2_isEmpty_7 (by decide) ?_
    refine s_goto 12 dJ2_isEmpty_8 (by decide) ?_
    exact s_zret dJ2_isEmpty_12 rfl rfl rfl
theorem hyX1_read : yX1_read.cls ≠ "java/lang/invoke/MethodHandle" ∧ yX1_read.cls ≠ "java/lang/invoke/VarHandle" ∧ (parseMethodDescriptor yX1_read.desc).map (fun d => d.parameters.length) = some 2 := by decide +kernel
theorem sX1_read_L71 (G : Gl) (n : Nat) (K : Nat → Nat) (hK : K = G.ad) (y38 : Nat) : ∀ (f : Nat) (h : AH), Sim G yX1_read.cls yX1_read.name cX1_read 3 none 10 (cvT cvV) 71 [(0, .ref y38)] [] h (F_X1_read_L71 n K y38 f h) := by
  intro f
  induction f with
  | zero =>
    intro h
    exact s_none
  | succ f ih =>
    intro h
    unfold F_X1_read_L71
    refine s_aload_n dX1_read_71 0 rfl ?_
    refine s_chk (fun hk41 => ?_)
    refine s_callV_I 1 (kX1_isOver G n K hK y38 h) (by decide) (by decide) dX1_read_72 hk41 rfl rfl q454 q456 qs6 q104 q457 hyX1_isOver rfl rfl (Nat.le_of_ble_eq_true rfl) (fun r39 h40 => ?_)
    refine s_if_ne 85 dX1_read_75 (by decide) (fun c42 => ?_) (fun c42 => ?_)
    · refine s_aload_n dX1_read_85 0 rfl ?_
      refine s_chk (fun hk43 => ?_)
      refine s_get (j := 8) 1 (va_rf (h40.R y38 8)) dX1_read_86 hk43 rfl (by decide) q184 (Or.inl rfl) rfl ?_
      refine s_ob (r := h40.R y38 8) (fun z => [(0, .ref y38)]) (fun z => [z]) (fun a44 => ?_)
      refine s_chk (fun hk47 => ?_)
      refine s_callV_I 2 (kJ2_isEmpty G n K hK a44 h40) (by decide) (by decide) dX1_read_89 hk47 rfl rfl q722 q723 q724 q107 q725 hyJ2_isEmpty rfl rfl (Nat.le_of_ble_eq_true rfl) (fun r45 h46 => ?_)
      refine s_if_eq 100 dX1_read_92 (by decide) (fun c48 => ?_) (fun c48 => ?_)
      · exact s_vret dX1_read_100 rfl rfl
      · refine s_aload_n dX1_read_95 0 rfl ?_
        refine s_chk (fun hk51 => ?_)
        refine s_callV_R 1 (kX1_wrong G n K hK y38 h46) (by decide) (by decide) dX1_read_96 hk51 rfl rfl q363 q365 qs2 q104 q366 hyX1_wrong rfl rfl (Nat.le_of_ble_eq_true rfl) (fun r49 h50 => ?_)
        refine s_ob (r := r49) (fun z => [(0, .ref y38)]) (fun z => [z]) (fun a52 => ?_)
        exact s_athrow dX1_read_99
    · refine s_aload_n dX1_read_78 0 rfl ?_
      refine s_chk (fun hk55 => ?_)
      refine s_callT_V 1 (kX1_tells G n K hK y38 h40) (by decide) (by decide) dX1_read_79 hk55 rfl rfl q435 q437 qs4 q104 q438 hyX1_tells rfl rfl (Nat.le_of_ble_eq_true rfl) (fun r53 h54 => ?_)
      refine s_goto 71 dX1_read_82 (by decide) ?_
      exact ih h54
theorem kX1_read (G : Gl) (n : Nat) (K : Nat → Nat) (hK : K = G.ad) (p0 : Nat) (p1 : Option Nat) (p2 : Int32) (h : AH) : OkT G yX1_read cX1_read 3 none 10 (cvT cvV) [.ref p0, va_rf p1, .int p2] h (F_X1_read n K p0 p1 p2 h) := by
  refine okT_of_sim [(0, .ref p0), (1, va_rf p1), (2, .int p2)] (by decide +kernel) (by simp [uns, lv_args, lg_sl, catI, catL, catA, va_rfc]) (by simp [uns, lv_args, lg_sl, catI, catL, catA, va_rfc]) (by simp [uns, lv_args, lg_sl, catI, catL, catA, va_rfc]) ?_
  unfold F_X1_read
  refine s_aload_n dX1_read_0 0 rfl ?_
  refine s_oload_n dX1_read_1 1 rfl ?_
  refine s_chk (fun hk1 => ?_)
  refine s_put (j := 0) 1 (v := va_rf p1) dX1_read_2 hk1 rfl (by decide) q176 (Or.inl rfl) rfl (nr02 _ _) (fr02 _ _) (Upd.r (fun _ => rfl)) ?_
  refine s_hl (fun h2 e3 => ?_)
  refine s_aload_n dX1_read_5 0 rfl ?_
  refine s_iload_n dX1_read_6 2 rfl ?_
  refine s_put (j := 1) 1 (v := .int p2) dX1_read_7 (show h2.kind p0 = 2 by rw [e3]; exact hk1) rfl (by decide) q177 (Or.inl rfl) rfl rfl rfl (Upd.i (fun _ => rfl)) ?_
  refine s_hl (fun h4 e5 => ?_)
  refine s_aload_n dX1_read_10 0 rfl ?_
  refine s_iconst (0 : Int32) dX1_read_11 (by decide) ?_
  refine s_put (j := 2) 1 (v := .int (0 : Int32)) dX1_read_12 (show h4.kind p0 = 2 by rw [e5, e3]; exact hk1) rfl (by decide) q178 (Or.inl rfl) rfl rfl rfl (Upd.i (fun _ => rfl)) ?_
  refine s_hl (fun h6 e7 => ?_)
  refine s_aload_n dX1_read_15 0 rfl ?_
  refine s_iconst (0 : Int32) dX1_read_16 (by decide) ?_
  refine s_put (j := 4) 1 (v := .int (0 : Int32)) dX1_read_17 (show h6.kind p0 = 2 by rw [e7, e5, e3]; exact hk1) rfl (by decide) q180 (Or.inl rfl) rfl rfl rfl (Upd.i (fun _ => rfl)) ?_
  refine s_hl (fun h8 e9 => ?_)
  refine s_aload_n dX1_read_20 0 rfl ?_
  refine s_iconst (1 : Int32) dX1_read_21 (by decide) ?_
  refine s_put (j := 5) 1 (v := .int (1 : Int32)) dX1_read_22 (show h8.kind p0 = 2 by rw [e9, e7, e5, e3]; exact hk1) rfl (by decide) q181 (Or.inl rfl) rfl rfl rfl (Upd.i (fun _ => rfl)) ?_
  refine s_hl (fun h10 e11 => ?_)
  refine s_aload_n dX1_read_25 0 rfl ?_
  refine s_iconst (1 : Int32) dX1_read_26 (by decide) ?_
  refine s_put (j := 6) 1 (v := .int (1 : Int32)) dX1_read_27 (show h10.kind p0 = 2 by rw [e11, e9, e7, e5, e3]; exact hk1) rfl (by decide) q182 (Or.inl rfl) rfl rfl rfl (Upd.i (fun _ => rfl)) ?_
  refine s_hl (fun h12 e13 => ?_)
  refine s_aload_n dX1_read_30 0 rfl ?_
  refine s_iconst (0 : Int32) dX1_read_31 (by decide) ?_
  refine s_put (j := 7) 1 (v := .int (0 : Int32)) dX1_read_32 (show h12.kind p0 = 2 by rw [e13, e11, e9, e7, e5, e3]; exact hk1) rfl (by decide) q183 (Or.inl rfl) rfl rfl rfl (Upd.i (fun _ => rfl)) ?_
  refine s_hl (fun h14 e15 => ?_)
  refine s_aload_n dX1_read_35 0 rfl ?_
  refine s_get (j := 8) 1 (va_rf (h14.R p0 8)) dX1_read_36 (show h14.kind p0 = 2 by rw [e15, e13, e11, e9, e7, e5, e3]; exact hk1) rfl (by decide) q184 (Or.inl rfl) rfl ?_
  refine s_ob (r := h14.R p0 8) (fun z => [(0, .ref p0), (1, va_rf p1), (2, .int p2)]) (fun z => [z]) (fun a16 => ?_)
  refine s_chk (fun hk19 => ?_)
  refine s_callV_V 2 (kJ2_clear G n K hK a16 h14) (by decide) (by decide) dX1_read_39 hk19 rfl rfl q347 q348 q349 q107 q350 hyJ2_clear rfl rfl (Nat.le_of_ble_eq_true rfl) (fun r17 h18 => ?_)
  refine s_aload_n dX1_read_42 0 rfl ?_
  refine s_chk (fun hk20 => ?_)
  refine s_get (j := 9) 1 (va_rf (h18.R p0 9)) dX1_read_43 hk20 rfl (by decide) q186 (Or.inl rfl) rfl ?_
  refine s_ob (r := h18.R p0 9) (fun z => [(0, .ref p0), (1, va_rf p1), (2, .int p2)]) (fun z => [z]) (fun a21 => ?_)
  refine s_chk (fun hk24 => ?_)
  refine s_callV_V 2 (kJ2_clear G n K hK a21 h18) (by decide) (by decide) dX1_read_46 hk24 rfl rfl q347 q348 q349 q107 q350 hyJ2_clear rfl rfl (Nat.le_of_ble_eq_true rfl) (fun r22 h23 => ?_)
  refine s_aload_n dX1_read_49 0 rfl ?_
  refine s_new 3 dX1_read_50 rfl q351 q216 q108 ?_
  refine s_hl (fun h25 e26 => ?_)
  refine s_dup dX1_read_53 rfl ?_
  refine s_iconst (0 : Int32) dX1_read_54 (by decide) ?_
  refine s_iconst (1 : Int32) dX1_read_55 (by decide) ?_
  refine s_iconst (2 : Int32) dX1_read_56 (by decide) ?_
  refine s_callI_V (kX2_init G n K hK h23.n (0 : Int32) (1 : Int32) (2 : Int32) h25) (by decide) (by decide) dX1_read_57 q352 q218 q108 q219 rfl hyX2_init rfl rfl (Nat.le_of_ble_eq_true rfl) (fun r27 h28 => ?_)
  refine s_chk (fun hk29 => ?_)
  refine s_put (j := 10) 1 (v := va_rf (some h23.n)) dX1_read_60 hk29 rfl (by decide) q189 (Or.inl rfl) rfl rfl rfl (Upd.r (fun _ => rfl)) ?_
  refine s_hl (fun h30 e31 => ?_)
  refine s_aload_n dX1_read_63 0 rfl ?_
  refine s_callT_V 1 (kX1_next G n K hK p0 h30) (by decide) (by decide) dX1_read_64 (show h30.kind p0 = 2 by rw [e31]; exact hk29) rfl rfl q353 q355 qs1 q104 q356 hyX1_next rfl rfl (Nat.le_of_ble_eq_true rfl) (fun r32 h33 => ?_)
  refine s_aload_n dX1_read_67 0 rfl ?_
  refine s_chk (fun hk36 => ?_)
  refine s_callT_V 1 (kX1_tells G n K hK p0 h33) (by decide) (by decide) dX1_read_68 hk36 rfl rfl q435 q437 qs4 q104 q438 hyX1_tells rfl rfl (Nat.le_of_ble_eq_true rfl) (fun r34 h35 => ?_)
  refine s_sub [0] rfl ?_
  exact sX1_read_L71 G n K hK p0 n h35
theorem hyJ14_checkIndex : yJ14_checkIndex.cls ≠ "java/lang/invoke/MethodHandle" ∧ yJ14_checkIndex.cls ≠ "java/lang/invoke/VarHandle" ∧ (parseMethodDescriptor yJ14_checkIndex.desc).map (fun d => d.parameters.length) = some 2 := by decide +kernel
theorem kJ14_checkIndex (G : Gl) (n : Nat) (K : Nat → Nat) (hK : K = G.ad) (p0 : Int32) (p1 : Int32) (h : AH) : OkM G yJ14_checkIndex cJ14_checkIndex 2 (some .int) 2 cvI [.int p0, .int p1] h (F_J14_checkIndex n K p0 p1 h) := by
  refine ok_of_sim [(0, .int p0), (1, .int p1)] (by decide +kernel) (fun r => ⟨_, rfl⟩) (by simp [uns, lv_args, lg_sl, catI, catL, catA, va_rfc]) (by simp [uns, lv_args, lg_sl, catI, catL, catA, va_rfc]) (by simp [uns, lv_args, lg_sl, catI, catL, catA, va_rfc]) ?_
  unfold F_J14_checkIndex
  refine s_iload_n dJ14_checkIndex_0 0 rfl ?_
  refine s_iload_n dJ14_checkIndex_1 1 rfl ?_
  refine s_null dJ14_checkIndex_2 ?_
  refine s_callS_I (kJ10_checkIndex G n K hK p0 p1 none h) (by decide) (by decide) dJ14_checkIndex_3 q740 q542 q118 q543 hyJ10_checkIndex rfl rfl (Nat.le_of_ble_eq_true rfl) (fun r1 h2 => ?_)
  exact s_iret dJ14_checkIndex_6 rfl rfl
theorem hyJ2_elementData : yJ2_elementData.cls ≠ "java/lang/invoke/MethodHandle" ∧ yJ2_elementData.cls ≠ "java/lang/invoke/VarHandle" ∧ (parseMethodDescriptor yJ2_elementData.desc).map (fun d => d.parameters.length) = some 1 := by decide +kernel
theorem kJ2_elementData (G : Gl) (n : Nat) (K : Nat → Nat) (hK : K = G.ad) (p0 : Nat) (p1 : Int32) (h : AH) : OkM G yJ2_elementData cJ2_elementData 2 (some (.object "java/lang/Object")) 1 cvR [.ref p0, .int p1] h (F_J2_elementData n K p0 p1 h) := by
  refine ok_of_sim [(0, .ref p0), (1, .int p1)] (by decide +kernel) (fun r => ⟨_, rfl⟩) (by simp [uns, lv_args, lg_sl, catI, catL, catA, va_rfc]) (by simp [uns, lv_args, lg_sl, catI, catL, catA, va_rfc]) (by simp [uns, lv_args, lg_sl, catI, catL, catA, va_rfc]) ?_
  unfold F_J2_elementData
  refine s_aload_n dJ2_elementData_0 0 rfl ?_
  refine s_chk (fun hk1 => ?_)
  refine s_get (j := 1) 2 (va_rf (h.R p0 1)) dJ2_elementData_1 hk1 rfl (by decide) q163 (Or.inl rfl) rfl ?_
  refine s_iload_n dJ2_elementData_4 1 rfl ?_
  refine s_ob (r := h.R p0 1) (fun z => [(0, .ref p0), (1, .int p1)]) (fun z => [.int p1, z]) (fun a2 => ?_)
  refine s_chk (fun hk3 => ?_)
  refine s_chk (fun hi4 => ?_)
  refine s_aald dJ2_elementData_5 hk3 rfl rfl rfl hi4 ?_
  exact s_aret (v := (h.R a2 (ix p1))) dJ2_elementData_6 rfl (Or.inl ⟨_, rfl⟩) rfl
theorem hyJ2_get : yJ2_get.cls ≠ "java/lang/invoke/MethodHandle" ∧ yJ2_get.cls ≠ "java/lang/invoke/VarHandle" ∧ (parseMethodDescriptor yJ2_get.desc).map (fun d => d.parameters.length) = some 1 := by decide +kernel
theorem kJ2_get (G : Gl) (n : Nat) (K : Nat → Nat) (hK : K = G.ad) (p0 : Nat) (p1 : Int32) (h : AH) : OkM G yJ2_get cJ2_get 2 (some (.object "java/lang/Object")) 3 cvR [.ref p0, .int p1] h (F_J2_get n K p0 p1 h) := by
  refine ok_of_sim [(0, .ref p0), (1, .int p1)] (by decide +kernel) (fun r => ⟨_, rfl⟩) (by simp [uns, lv_args, lg_sl, catI, catL, catA, va_rfc]) (by simp [uns, lv_args, lg_sl, catI, catL, catA, va_rfc]) (by simp [uns, lv_args, lg_sl, catI, catL, catA, va_rfc]) ?_
  unfold F_J2_get
  refine s_iload_n dJ2_get_0 1 rfl ?_
  refine s_aload_n dJ2_get_1 0 rfl ?_
  refine s_chk (fun hk1 => ?_)
  refine s_get (j := 2) 2 (.int (h.I p0 2)) dJ2_get_2 hk1 rfl (by decide) q164 (Or.inl rfl) rfl ?_
  refine s_callS_I (kJ14_checkIndex G n K hK p1 (h.I p0 2) h) (by decide) (by decide) dJ2_get_5 q737 q738 q129 q739 hyJ14_checkIndex rfl rfl (Nat.le_of_ble_eq_true rfl) (fun r2 h3 => ?_)
  refine s_pop dJ2_get_8 rfl ?_
  refine s_aload_n dJ2_get_9 0 rfl ?_
  refine s_iload_n dJ2_get_10 1 rfl ?_
  refine s_chk (fun hk6 => ?_)
  refine s_callV_R 2 (kJ2_elementData G n K hK p0 p1 h3) (by decide) (by decide) dJ2_get_11 hk6 rfl rfl q741 q742 q743 q107 q744 hyJ2_elementData rfl rfl (Nat.le_of_ble_eq_true rfl) (fun r4 h5 => ?_)
  exact s_aret (v := r4) dJ2_get_14 rfl (Or.inl ⟨_, rfl⟩) rfl
theorem hyX0_stale : yX0_stale.cls ≠ "java/lang/invoke/MethodHandle" ∧ yX0_stale.cls ≠ "java/lang/invoke/VarHandle" ∧ (parseMethodDescriptor yX0_stale.desc).map (fun d => d.parameters.length) = some 0 := by decide +kernel
theorem kX0_stale (G : Gl) (n : Nat) (K : Nat → Nat) (hK : K = G.ad) (p0 : Nat) (h : AH) : OkM G yX0_stale cX0_stale 1 none 1 cvV [.ref p0] h (F_X0_stale n K p0 h) := by
  refine ok_of_sim [(0, .ref p0)] (by decide +kernel) (fun r => ⟨_, rfl⟩) (by simp [uns, lv_args, lg_sl, catI, catL, catA, va_rfc]) (by simp [uns, lv_args, lg_sl, catI, catL, catA, va_rfc]) (by simp [uns, lv_args, lg_sl, catI, catL, catA, va_rfc]) ?_
  unfold F_X0_stale
  refine s_aload_n dX0_stale_0 0 rfl ?_
  refine s_iconst (0 : Int32) dX0_stale_1 (by decide) ?_
  refine s_chk (fun hk1 => ?_)
  refine s_put (j := 11) 0 (v := .int (0 : Int32)) dX0_stale_2 hk1 rfl (by decide) q244 (Or.inl rfl) rfl rfl rfl (Upd.i (fun _ => rfl)) ?_
  refine s_hl (fun h2 e3 => ?_)
  refine s_aload_n dX0_stale_5 0 rfl ?_
  refine s_iconst (0 : Int32) dX0_stale_6 (by decide) ?_
  refine s_put (j := 12) 0 (v := .int (0 : Int32)) dX0_stale_7 (show h2.kind p0 = 1 by rw [e3]; exact hk1) rfl (by decide) q245 (Or.inl rfl) rfl rfl rfl (Upd.i (fun _ => rfl)) ?_
  refine s_hl (fun h4 e5 => ?_)
  refine s_aload_n dX0_stale_10 0 rfl ?_
  refine s_iconst (0 : Int32) dX0_stale_11 (by decide) ?_
  refine s_put (j := 13) 0 (v := .int (0 : Int32)) dX0_stale_12 (show h4.kind p0 = 1 by rw [e5, e3]; exact hk1) rfl (by decide) q246 (Or.inl rfl) rfl rfl rfl (Upd.i (fun _ => rfl)) ?_
  refine s_hl (fun h6 e7 => ?_)
  exact s_vret dX0_stale_15 rfl rfl
theorem hyX0_voterAt : yX0_voterAt.cls ≠ "java/lang/invoke/MethodHandle" ∧ yX0_voterAt.cls ≠ "java/lang/invoke/VarHandle" ∧ (parseMethodDescriptor yX0_voterAt.desc).map (fun d => d.parameters.length) = some 1 := by decide +kernel
theorem kX0_voterAt (G : Gl) (n : Nat) (K : Nat → Nat) (hK : K = G.ad) (p0 : Nat) (p1 : Int32) (h : AH) : OkM G yX0_voterAt cX0_voterAt 2 (some (.object "MiddleSheet$Voter")) 4 cvR [.ref p0, .int p1] h (F_X0_voterAt n K p0 p1 h) := by
  refine ok_of_sim [(0, .ref p0), (1, .int p1)] (by decide +kernel) (fun r => ⟨_, rfl⟩) (by simp [uns, lv_args, lg_sl, catI, catL, catA, va_rfc]) (by simp [uns, lv_args, lg_sl, catI, catL, catA, va_rfc]) (by simp [uns, lv_args, lg_sl, catI, catL, catA, va_rfc]) ?_
  unfold F_X0_voterAt
  refine s_iload_n dX0_voterAt_0 1 rfl ?_
  refine s_iconst (0 : Int32) dX0_voterAt_1 (by decide) ?_
  refine s_aload_n dX0_voterAt_2 0 rfl ?_
  refine s_chk (fun hk1 => ?_)
  refine s_get (j := 2) 0 (va_rf (h.R p0 2)) dX0_voterAt_3 hk1 rfl (by decide) q235 (Or.inl rfl) rfl ?_
  refine s_ob (r := h.R p0 2) (fun z => [(0, .ref p0), (1, .int p1)]) (fun z => [z, .int (0 : Int32), .int p1]) (fun a2 => ?_)
  refine s_chk (fun hk5 => ?_)
  refine s_callV_I 2 (kJ2_size G n K hK a2 h) (by decide) (by decide) dX0_voterAt_6 hk5 rfl rfl q732 q552 q553 q107 q554 hyJ2_size rfl rfl (Nat.le_of_ble_eq_true rfl) (fun r3 h4 => ?_)
  refine s_iconst (1 : Int32) dX0_voterAt_9 (by decide) ?_
  refine s_isub dX0_voterAt_10 ?_
  refine s_callS_I (kX0_in G n K hK p1 (0 : Int32) (r3 - (1 : Int32)) h4) (by decide) (by decide) dX0_voterAt_11 q335 q336 q103 q337 hyX0_in rfl rfl (Nat.le_of_ble_eq_true rfl) (fun r6 h7 => ?_)
  refine s_if_eq 31 dX0_voterAt_14 (by decide) (fun c8 => ?_) (fun c8 => ?_)
  · refine s_null dX0_voterAt_31 ?_
    exact s_aret (v := none) dX0_voterAt_32 rfl (Or.inl ⟨_, rfl⟩) rfl
  · refine s_aload_n dX0_voterAt_17 0 rfl ?_
    refine s_chk (fun hk9 => ?_)
    refine s_get (j := 2) 0 (va_rf (h7.R p0 2)) dX0_voterAt_18 hk9 rfl (by decide) q235 (Or.inl rfl) rfl ?_
    refine s_iload_n dX0_voterAt_21 1 rfl ?_
    refine s_ob (r := h7.R p0 2) (fun z => [(0, .ref p0), (1, .int p1)]) (fun z => [.int p1, z]) (fun a10 => ?_)
    refine s_chk (fun hk13 => ?_)
    refine s_callV_R 2 (kJ2_get G n K hK a10 p1 h7) (by decide) (by decide) dX0_voterAt_22 hk13 rfl rfl q733 q734 q735 q107 q736 hyJ2_get rfl rfl (Nat.le_of_ble_eq_true rfl) (fun r11 h12 => ?_)
    refine s_ob (r := r11) (fun z => [(0, .ref p0), (1, .int p1)]) (fun z => [z]) (fun a14 => ?_)
    refine s_chk (fun hk15 => ?_)
    refine s_castV dX0_voterAt_25 hk15 q745 ?_
    refine s_goto 32 dX0_voterAt_28 (by decide) ?_
    exact s_aret (v := (some a14)) dX0_voterAt_32 rfl (Or.inl ⟨_, rfl⟩) rfl
theorem hyX6_measure : yX6_measure.cls ≠ "java/lang/invoke/MethodHandle" ∧ yX6_measure.cls ≠ "java/lang/invoke/VarHandle" ∧ (parseMethodDescriptor yX6_measure.desc).map (fun d => d.parameters.length) = some 0 := by decide +kernel
theorem kX6_measure (G : Gl) (n : Nat) (K : Nat → Nat) (hK : K = G.ad) (p0 : Nat) (h : AH) : OkM G yX6_measure cX6_measure 1 (some .int) 1 cvI [.ref p0] h (F_X6_measure n K p0 h) := by
  refine ok_of_sim [(0, .ref p0)] (by decide +kernel) (fun r => ⟨_, rfl⟩) (by simp [uns, lv_args, lg_sl, catI, catL, catA, va_rfc]) (by simp [uns, lv_args, lg_sl, catI, catL, catA, va_rfc]) (by simp [uns, lv_args, lg_sl, catI, catL, catA, va_rfc]) ?_
  unfold F_X6_measure
  refine s_iconst (0 : Int32) dX6_measure_0 (by decide) ?_
  exact s_iret dX6_measure_1 rfl rfl
theorem hyX7_measure : yX7_measure.cls ≠ "java/lang/invoke/MethodHandle" ∧ yX7_measure.cls ≠ "java/lang/invoke/VarHandle" ∧ (parseMethodDescriptor yX7_measure.desc).map (fun d => d.parameters.length) = some 0 := by decide +kernel
theorem kX7_measure (G : Gl) (n : Nat) (K : Nat → Nat) (hK : K = G.ad) (p0 : Nat) (h : AH) : OkM G yX7_measure cX7_measure 1 (some .int) 1 cvI [.ref p0] h (F_X7_measure n K p0 h) := by
  refine ok_of_sim [(0, .ref p0)] (by decide +kernel) (fun r => ⟨_, rfl⟩) (by simp [uns, lv_args, lg_sl, catI, catL, catA, va_rfc]) (by simp [uns, lv_args, lg_sl, catI, catL, catA, va_rfc]) (by simp [uns, lv_args, lg_sl, catI, catL, catA, va_rfc]) ?_
  unfold F_X7_measure
  refine s_iconst (1 : Int32) dX7_measure_0 (by decide) ?_
  exact s_iret dX7_measure_1 rfl rfl
theorem hyX8_measure : yX8_measure.cls ≠ "java/lang/invoke/MethodHandle" ∧ yX8_measure.cls ≠ "java/lang/invoke/VarHandle" ∧ (parseMethodDescriptor yX8_measure.desc).map (fun d => d.parameters.length) = some 0 := by decide +kernel
theorem kX8_measure (G : Gl) (n : Nat) (K : Nat → Nat) (hK : K = G.ad) (p0 : Nat) (h : AH) : OkM G yX8_measure cX8_measure 1 (some .int) 1 cvI [.ref p0] h (F_X8_measure n K p0 h) := by
  refine ok_of_sim [(0, .ref p0)] (by decide +kernel) (fun r => ⟨_, rfl⟩) (by simp [uns, lv_args, lg_sl, catI, catL, catA, va_rfc]) (by simp [uns, lv_args, lg_sl, catI, catL, catA, va_rfc]) (by simp [uns, lv_args, lg_sl, catI, catL, catA, va_rfc]) ?_
  unfold F_X8_measure
  refine s_iconst (2 : Int32) dX8_measure_0 (by decide) ?_
  exact s_iret dX8_measure_1 rfl rfl
theorem hyX9_measure : yX9_measure.cls ≠ "java/lang/invoke/MethodHandle" ∧ yX9_measure.cls ≠ "java/lang/invoke/VarHandle" ∧ (parseMethodDescriptor yX9_measure.desc).map (fun d => d.parameters.length) = some 0 := by decide +kernel
theorem kX9_measure (G : Gl) (n : Nat) (K : Nat → Nat) (hK : K = G.ad) (p0 : Nat) (h : AH) : OkM G yX9_measure cX9_measure 1 (some .int) 1 cvI [.ref p0] h (F_X9_measure n K p0 h) := by
  refine ok_of_sim [(0, .ref p0)] (by decide +kernel) (fun r => ⟨_, rfl⟩) (by simp [uns, lv_args, lg_sl, catI, catL, catA, va_rfc]) (by simp [uns, lv_args, lg_sl, catI, catL, catA, va_rfc]) (by simp [uns, lv_args, lg_sl, catI, catL, catA, va_rfc]) ?_
  unfold F_X9_measure
  refine s_iconst (3 : Int32) dX9_measure_0 (by decide) ?_
  exact s_iret dX9_measure_1 rfl rfl
theorem hyX0_voter : yX0_voter.cls ≠ "java/lang/invoke/MethodHandle" ∧ yX0_voter.cls ≠ "java/lang/invoke/VarHandle" ∧ (parseMethodDescriptor yX0_voter.desc).map (fun d => d.parameters.length) = some 2 := by decide +kernel
theorem kX0_voter (G : Gl) (n : Nat) (K : Nat → Nat) (hK : K = G.ad) (p0 : Nat) (p1 : Int32) (p2 : Int32) (h : AH) : OkM G yX0_voter cX0_voter 4 (some .int) 5 cvI [.ref p0, .int p1, .int p2] h (F_X0_voter n K p0 p1 p2 h) := by
  refine ok_of_sim [(0, .ref p0), (1, .int p1), (2, .int p2)] (by decide +kernel) (fun r => ⟨_, rfl⟩) (by simp [uns, lv_args, lg_sl, catI, catL, catA, va_rfc]) (by simp [uns, lv_args, lg_sl, catI, catL, catA, va_rfc]) (by simp [uns, lv_args, lg_sl, catI, catL, catA, va_rfc]) ?_
  unfold F_X0_voter
  refine s_aload_n dX0_voter_0 0 rfl ?_
  refine s_iload_n dX0_voter_1 1 rfl ?_
  refine s_chk (fun hk3 => ?_)
  refine s_callV_R 0 (kX0_voterAt G n K hK p0 p1 h) (by decide) (by decide) dX0_voter_2 hk3 rfl rfl q756 q758 qs17 q103 q759 hyX0_voterAt rfl rfl (Nat.le_of_ble_eq_true rfl) (fun r1 h2 => ?_)
  refine s_ostore_n [(3, va_rf r1), (0, .ref p0), (1, .int p1), (2, .int p2)] dX0_voter_5 (by decide) (by decide) rfl ?_
  refine s_oload_n dX0_voter_6 0 rfl ?_
  refine s_ifnonnull (r := r1) 12 (fun z => [(3, z), (0, .ref p0), (1, .int p1), (2, .int p2)]) (fun z => []) dX0_voter_7 (by decide) ?_ (fun a4 => ?_)
  · refine s_iconst (-1 : Int32) dX0_voter_10 (by decide) ?_
    exact s_iret dX0_voter_11 rfl rfl
  · refine s_iload_n dX0_voter_12 3 rfl ?_
    refine s_ite (fun c5 => ?_) (fun c5 => ?_)
    · refine s_tblIn (0 : Int32) 52 c5 dX0_voter_13 (by decide) (by decide) rfl (by decide) ?_
      refine s_aload_n dX0_voter_52 0 rfl ?_
      refine s_chk (fun hk6 => ?_)
      refine s_getV (j := 3) dX0_voter_53 hk6 (by decide) q591 ?_
      exact s_iret dX0_voter_56 rfl rfl
    refine s_ite (fun c7 => ?_) (fun c7 => ?_)
    · refine s_tblIn (1 : Int32) 57 c7 dX0_voter_13 (by decide) (by decide) rfl (by decide) ?_
      refine s_aload_n dX0_voter_57 0 rfl ?_
      refine s_chk (fun hk8 => ?_)
      refine s_getV (j := 4) dX0_voter_58 hk8 (by decide) q593 ?_
      exact s_iret dX0_voter_61 rfl rfl
    refine s_ite (fun c9 => ?_) (fun c9 => ?_)
    · refine s_tblIn (2 : Int32) 62 c9 dX0_voter_13 (by decide) (by decide) rfl (by decide) ?_
      refine s_aload_n dX0_voter_62 0 rfl ?_
      refine s_chk (fun hk10 => ?_)
      refine s_getV (j := 0) dX0_voter_63 hk10 (by decide) q585 ?_
      exact s_iret dX0_voter_66 rfl rfl
    refine s_ite (fun c11 => ?_) (fun c11 => ?_)
    · refine s_tblIn (3 : Int32) 67 c11 dX0_voter_13 (by decide) (by decide) rfl (by decide) ?_
      refine s_aload_n dX0_voter_67 0 rfl ?_
      refine s_chk (fun hk14 => ?_)
      refine s_callA (n := 0) (kX6_measure G n K hK a4 h2) (kX7_measure G n K hK a4 h2) (kX8_measure G n K hK a4 h2) (kX9_measure G n K hK a4 h2) ⟨by decide, by decide⟩ ⟨by decide, by decide⟩ ⟨by decide, by decide⟩ ⟨by decide, by decide⟩ dX0_voter_68 hk14 q760 q762 q763 q772 q766 q769 q764 q773 q767 q770 q121 q122 q123 q124 q765 q774 q768 q771 q761 (by decide +kernel) rfl rfl (Nat.le_of_ble_eq_true rfl) (fun r12 h13 => ?_)
      exact s_iret dX0_voter_71 rfl rfl
    refine s_ite (fun c15 => ?_) (fun c15 => ?_)
    · refine s_tblIn (4 : Int32) 72 c15 dX0_voter_13 (by decide) (by decide) rfl (by decide) ?_
      refine s_aload_n dX0_voter_72 0 rfl ?_
      refine s_chk (fun hk16 => ?_)
      refine s_getV (j := 1) dX0_voter_73 hk16 (by decide) q587 ?_
      exact s_iret dX0_voter_76 rfl rfl
    refine s_ite (fun c17 => ?_) (fun c17 => ?_)
    · refine s_tblIn (5 : Int32) 77 c17 dX0_voter_13 (by decide) (by decide) rfl (by decide) ?_
      refine s_aload_n dX0_voter_77 0 rfl ?_
      refine s_chk (fun hk18 => ?_)
      refine s_getV (j := 2) dX0_voter_78 hk18 (by decide) q589 ?_
      exact s_iret dX0_voter_81 rfl rfl
    have zc5 := lv_neT c5 (a := 0) rfl
    have zc7 := lv_neT c7 (a := 1) rfl
    have zc9 := lv_neT c9 (a := 2) rfl
    have zc11 := lv_neT c11 (a := 3) rfl
    have zc15 := lv_neT c15 (a := 4) rfl
    have zc17 := lv_neT c17 (a := 5) rfl
    refine s_tblOut 82 dX0_voter_13 (by omega) (by decide) ?_
    refine s_iconst (-1 : Int32) dX0_voter_82 (by decide) ?_
    exact s_iret dX0_voter_83 rfl rfl
theorem hyX0_placeAt : yX0_placeAt.cls ≠ "java/lang/invoke/MethodHandle" ∧ yX0_placeAt.cls ≠ "java/lang/invoke/VarHandle" ∧ (parseMethodDescriptor yX0_placeAt.desc).map (fun d => d.parameters.length) = some 1 := by decide +kernel
theorem kX0_placeAt (G : Gl) (n : Nat) (K : Nat → Nat) (hK : K = G.ad) (p0 : Nat) (p1 : Int32) (h : AH) : OkM G yX0_placeAt cX0_placeAt 2 (some (.object "MiddleSheet$Place")) 4 cvR [.ref p0, .int p1] h (F_X0_placeAt n K p0 p1 h) := by
  refine ok_of_sim [(0, .ref p0), (1, .int p1)] (by decide +kernel) (fun r => ⟨_, rfl⟩) (by simp [uns, lv_args, lg_sl, catI, catL, catA, va_rfc]) (by simp [uns, lv_args, lg_sl, catI, catL, catA, va_rfc]) (by simp [uns, lv_args, lg_sl, catI, catL, catA, va_rfc]) ?_
  unfold F_X0_placeAt
  refine s_iload_n dX0_placeAt_0 1 rfl ?_
  refine s_iconst (0 : Int32) dX0_placeAt_1 (by decide) ?_
  refine s_aload_n dX0_placeAt_2 0 rfl ?_
  refine s_chk (fun hk1 => ?_)
  refine s_get (j := 3) 0 (va_rf (h.R p0 3)) dX0_placeAt_3 hk1 rfl (by decide) q236 (Or.inl rfl) rfl ?_
  refine s_ob (r := h.R p0 3) (fun z => [(0, .ref p0), (1, .int p1)]) (fun z => [z, .int (0 : Int32), .int p1]) (fun a2 => ?_)
  refine s_chk (fun hk5 => ?_)
  refine s_callV_I 2 (kJ2_size G n K hK a2 h) (by decide) (by decide) dX0_placeAt_6 hk5 rfl rfl q732 q552 q553 q107 q554 hyJ2_size rfl rfl (Nat.le_of_ble_eq_true rfl) (fun r3 h4 => ?_)
  refine s_iconst (1 : Int32) dX0_placeAt_9 (by decide) ?_
  refine s_isub dX0_placeAt_10 ?_
  refine s_callS_I (kX0_in G n K hK p1 (0 : Int32) (r3 - (1 : Int32)) h4) (by decide) (by decide) dX0_placeAt_11 q335 q336 q103 q337 hyX0_in rfl rfl (Nat.le_of_ble_eq_true rfl) (fun r6 h7 => ?_)
  refine s_if_eq 31 dX0_placeAt_14 (by decide) (fun c8 => ?_) (fun c8 => ?_)
  · refine s_null dX0_placeAt_31 ?_
    exact s_aret (v := none) dX0_placeAt_32 rfl (Or.inl ⟨_, rfl⟩) rfl
  · refine s_aload_n dX0_placeAt_17 0 rfl ?_
    refine s_chk (fun hk9 => ?_)
    refine s_get (j := 3) 0 (va_rf (h7.R p0 3)) dX0_placeAt_18 hk9 rfl (by decide) q236 (Or.inl rfl) rfl ?_
    refine s_iload_n dX0_placeAt_21 1 rfl ?_
    refine s_ob (r := h7.R p0 3) (fun z => [(0, .ref p0), (1, .int p1)]) (fun z => [.int p1, z]) (fun a10 => ?_)
    refine s_chk (fun hk13 => ?_)
    refine s_callV_R 2 (kJ2_get G n K hK a10 p1 h7) (by decide) (by decide) dX0_placeAt_22 hk13 rfl rfl q733 q734 q735 q107 q736 hyJ2_get rfl rfl (Nat.le_of_ble_eq_true rfl) (fun r11 h12 => ?_)
    refine s_ob (r := r11) (fun z => [(0, .ref p0), (1, .int p1)]) (fun z => [z]) (fun a14 => ?_)
    refine s_chk (fun hk15 => ?_)
    refine s_cast 10 dX0_placeAt_25 hk15 rfl q747 ?_
    refine s_goto 32 dX0_placeAt_28 (by decide) ?_
    exact s_aret (v := (some a14)) dX0_placeAt_32 rfl (Or.inl ⟨_, rfl⟩) rfl
theorem hyX0_place : yX0_place.cls ≠ "java/lang/invoke/MethodHandle" ∧ yX0_place.cls ≠ "java/lang/invoke/VarHandle" ∧ (parseMethodDescriptor yX0_place.desc).map (fun d => d.parameters.length) = some 2 := by decide +kernel
theorem kX0_place (G : Gl) (n : Nat) (K : Nat → Nat) (hK : K = G.ad) (p0 : Nat) (p1 : Int32) (p2 : Int32) (h : AH) : OkM G yX0_place cX0_place 4 (some .int) 5 cvI [.ref p0, .int p1, .int p2] h (F_X0_place n K p0 p1 p2 h) := by
  refine ok_of_sim [(0, .ref p0), (1, .int p1), (2, .int p2)] (by decide +kernel) (fun r => ⟨_, rfl⟩) (by simp [uns, lv_args, lg_sl, catI, catL, catA, va_rfc]) (by simp [uns, lv_args, lg_sl, catI, catL, catA, va_rfc]) (by simp [uns, lv_args, lg_sl, catI, catL, catA, va_rfc]) ?_
  unfold F_X0_place
  refine s_aload_n dX0_place_0 0 rfl ?_
  refine s_iload_n dX0_place_1 1 rfl ?_
  refine s_chk (fun hk3 => ?_)
  refine s_callV_R 0 (kX0_placeAt G n K hK p0 p1 h) (by decide) (by decide) dX0_place_2 hk3 rfl rfl q779 q781 qs18 q103 q782 hyX0_placeAt rfl rfl (Nat.le_of_ble_eq_true rfl) (fun r1 h2 => ?_)
  refine s_ostore_n [(3, va_rf r1), (0, .ref p0), (1, .int p1), (2, .int p2)] dX0_place_5 (by decide) (by decide) rfl ?_
  refine s_oload_n dX0_place_6 0 rfl ?_
  refine s_ifnonnull (r := r1) 14 (fun z => [(3, z), (0, .ref p0), (1, .int p1), (2, .int p2)]) (fun z => []) dX0_place_7 (by decide) ?_ (fun a4 => ?_)
  · refine s_iconst (-1 : Int32) dX0_place_10 (by decide) ?_
    refine s_goto 38 dX0_place_11 (by decide) ?_
    exact s_iret dX0_place_38 rfl rfl
  · refine s_iload_n dX0_place_14 3 rfl ?_
    refine s_if_ne 25 dX0_place_15 (by decide) (fun c5 => ?_) (fun c5 => ?_)
    · refine s_iload_n dX0_place_25 3 rfl ?_
      refine s_iconst (1 : Int32) dX0_place_26 (by decide) ?_
      refine s_icmp_ne 37 dX0_place_27 (by decide) (fun c6 => ?_) (fun c6 => ?_)
      · refine s_iconst (-1 : Int32) dX0_place_37 (by decide) ?_
        exact s_iret dX0_place_38 rfl rfl
      · refine s_aload_n dX0_place_30 0 rfl ?_
        refine s_chk (fun hk7 => ?_)
        refine s_getN (j := 1) 10 (.int (h2.I a4 1)) dX0_place_31 hk7 rfl (by decide) q707 (Or.inl rfl) rfl ?_
        refine s_goto 38 dX0_place_34 (by decide) ?_
        exact s_iret dX0_place_38 rfl rfl
    · refine s_aload_n dX0_place_18 0 rfl ?_
      refine s_chk (fun hk8 => ?_)
      refine s_getN (j := 0) 10 (.int (h2.I a4 0)) dX0_place_19 hk8 rfl (by decide) q705 (Or.inl rfl) rfl ?_
      refine s_goto 38 dX0_place_22 (by decide) ?_
      exact s_iret dX0_place_38 rfl rfl
theorem hyX0_isPoint : yX0_isPoint.cls ≠ "java/lang/invoke/MethodHandle" ∧ yX0_isPoint.cls ≠ "java/lang/invoke/VarHandle" ∧ (parseMethodDescriptor yX0_isPoint.desc).map (fun d => d.parameters.length) = some 2 := by decide +kernel
theorem kX0_isPoint (G : Gl) (n : Nat) (K : Nat → Nat) (hK : K = G.ad) (p0 : Int32) (p1 : Int32) (h : AH) : OkM G yX0_isPoint cX0_isPoint 2 (some .boolean) 2 cvI [.int p0, .int p1] h (F_X0_isPoint n K p0 p1 h) := by
  refine ok_of_sim [(0, .int p0), (1, .int p1)] (by decide +kernel) (fun r => ⟨_, rfl⟩) (by simp [uns, lv_args, lg_sl, catI, catL, catA, va_rfc]) (by simp [uns, lv_args, lg_sl, catI, catL, catA, va_rfc]) (by simp [uns, lv_args, lg_sl, catI, catL, catA, va_rfc]) ?_
  unfold F_X0_isPoint
  refine s_iload_n dX0_isPoint_0 0 rfl ?_
  refine s_iconst (0 : Int32) dX0_isPoint_1 (by decide) ?_
  refine s_bipush (99 : Int32) dX0_isPoint_2 (by decide) ?_
  refine s_callS_I (kX0_in G n K hK p0 (0 : Int32) (99 : Int32) h) (by decide) (by decide) dX0_isPoint_4 q335 q336 q103 q337 hyX0_in rfl rfl (Nat.le_of_ble_eq_true rfl) (fun r1 h2 => ?_)
  refine s_if_eq 24 dX0_isPoint_7 (by decide) (fun c3 => ?_) (fun c3 => ?_)
  · refine s_iconst (0 : Int32) dX0_isPoint_24 (by decide) ?_
    exact s_zret dX0_isPoint_25 rfl rfl rfl
  · refine s_iload_n dX0_isPoint_10 1 rfl ?_
    refine s_iconst (0 : Int32) dX0_isPoint_11 (by decide) ?_
    refine s_bipush (99 : Int32) dX0_isPoint_12 (by decide) ?_
    refine s_callS_I (kX0_in G n K hK p1 (0 : Int32) (99 : Int32) h2) (by decide) (by decide) dX0_isPoint_14 q335 q336 q103 q337 hyX0_in rfl rfl (Nat.le_of_ble_eq_true rfl) (fun r4 h5 => ?_)
    refine s_if_eq 24 dX0_isPoint_17 (by decide) (fun c6 => ?_) (fun c6 => ?_)
    · refine s_iconst (0 : Int32) dX0_isPoint_24 (by decide) ?_
      exact s_zret dX0_isPoint_25 rfl rfl rfl
    · refine s_iconst (1 : Int32) dX0_isPoint_20 (by decide) ?_
      refine s_goto 25 dX0_isPoint_21 (by decide) ?_
      exact s_zret dX0_isPoint_25 rfl rfl rfl
theorem hyX0_propose : yX0_propose.cls ≠ "java/lang/invoke/MethodHandle" ∧ yX0_propose.cls ≠ "java/lang/invoke/VarHandle" ∧ (parseMethodDescriptor yX0_propose.desc).map (fun d => d.parameters.length) = some 2 := by decide +kernel
theorem kX0_propose (G : Gl) (n : Nat) (K : Nat → Nat) (hK : K = G.ad) (p0 : Nat) (p1 : Int32) (p2 : Int32) (h : AH) : OkM G yX0_propose cX0_propose 3 (some .int) 7 cvI [.ref p0, .int p1, .int p2] h (F_X0_propose n K p0 p1 p2 h) := by
  refine ok_of_sim [(0, .ref p0), (1, .int p1), (2, .int p2)] (by decide +kernel) (fun r => ⟨_, rfl⟩) (by simp [uns, lv_args, lg_sl, catI, catL, catA, va_rfc]) (by simp [uns, lv_args, lg_sl, catI, catL, catA, va_rfc]) (by simp [uns, lv_args, lg_sl, catI, catL, catA, va_rfc]) ?_
  unfold F_X0_propose
  refine s_aload_n dX0_propose_0 0 rfl ?_
  refine s_chk (fun hk1 => ?_)
  refine s_get (j := 2) 0 (va_rf (h.R p0 2)) dX0_propose_1 hk1 rfl (by decide) q235 (Or.inl rfl) rfl ?_
  refine s_ob (r := h.R p0 2) (fun z => [(0, .ref p0), (1, .int p1), (2, .int p2)]) (fun z => [z]) (fun a2 => ?_)
  refine s_chk (fun hk5 => ?_)
  refine s_callV_I 2 (kJ2_isEmpty G n K hK a2 h) (by decide) (by decide) dX0_propose_4 hk5 rfl rfl q787 q723 q724 q107 q725 hyJ2_isEmpty rfl rfl (Nat.le_of_ble_eq_true rfl) (fun r3 h4 => ?_)
  refine s_if_ne 30 dX0_propose_7 (by decide) (fun c6 => ?_) (fun c6 => ?_)
  · refine s_iconst (-1 : Int32) dX0_propose_30 (by decide) ?_
    exact s_iret dX0_propose_31 rfl rfl
  · refine s_iload_n dX0_propose_10 1 rfl ?_
    refine s_iload_n dX0_propose_11 2 rfl ?_
    refine s_callS_I (kX0_isPoint G n K hK p1 p2 h4) (by decide) (by decide) dX0_propose_12 q788 q789 q103 q790 hyX0_isPoint rfl rfl (Nat.le_of_ble_eq_true rfl) (fun r7 h8 => ?_)
    refine s_if_eq 30 dX0_propose_15 (by decide) (fun c9 => ?_) (fun c9 => ?_)
    · refine s_iconst (-1 : Int32) dX0_propose_30 (by decide) ?_
      exact s_iret dX0_propose_31 rfl rfl
    · refine s_aload_n dX0_propose_18 0 rfl ?_
      refine s_chk (fun hk10 => ?_)
      refine s_get (j := 3) 0 (va_rf (h8.R p0 3)) dX0_propose_19 hk10 rfl (by decide) q236 (Or.inl rfl) rfl ?_
      refine s_ob (r := h8.R p0 3) (fun z => [(0, .ref p0), (1, .int p1), (2, .int p2)]) (fun z => [z]) (fun a11 => ?_)
      refine s_chk (fun hk14 => ?_)
      refine s_callV_I 2 (kJ2_size G n K hK a11 h8) (by decide) (by decide) dX0_propose_22 hk14 rfl rfl q732 q552 q553 q107 q554 hyJ2_size rfl rfl (Nat.le_of_ble_eq_true rfl) (fun r12 h13 => ?_)
      refine s_bipush (20 : Int32) dX0_propose_25 (by decide) ?_
      refine s_icmp_ne 32 dX0_propose_27 (by decide) (fun c15 => ?_) (fun c15 => ?_)
      · refine s_aload_n dX0_propose_32 0 rfl ?_
        refine s_chk (fun hk16 => ?_)
        refine s_get (j := 3) 0 (va_rf (h13.R p0 3)) dX0_propose_33 hk16 rfl (by decide) q236 (Or.inl rfl) rfl ?_
        refine s_new 10 dX0_propose_36 rfl q747 q699 q128 ?_
        refine s_hl (fun h17 e18 => ?_)
        refine s_dup dX0_propose_39 rfl ?_
        refine s_iload_n dX0_propose_40 1 rfl ?_
        refine s_iload_n dX0_propose_41 2 rfl ?_
        refine s_callI_V (kX10_init G n K hK h13.n p1 p2 h17) (by decide) (by decide) dX0_propose_42 q791 q701 q128 q702 rfl hyX10_init rfl rfl (by simp [catI, catL, catA, va_rfc]) (fun r19 h20 => ?_)
        refine s_ob (r := h13.R p0 3) (fun z => [(0, .ref p0), (1, .int p1), (2, .int p2)]) (fun z => [.ref h13.n, z]) (fun a21 => ?_)
        refine s_chk (fun hk24 => ?_)
        refine s_callV_I 2 (kJ2_add G n K hK a21 (some h13.n) h20) (by decide) (by decide) dX0_propose_45 hk24 rfl rfl q746 q642 q643 q107 q644 hyJ2_add rfl rfl (Nat.le_of_ble_eq_true rfl) (fun r22 h23 => ?_)
        refine s_pop dX0_propose_48 rfl ?_
        refine s_aload_n dX0_propose_49 0 rfl ?_
        refine s_chk (fun hk25 => ?_)
        refine s_get (j := 3) 0 (va_rf (h23.R p0 3)) dX0_propose_50 hk25 rfl (by decide) q236 (Or.inl rfl) rfl ?_
        refine s_ob (r := h23.R p0 3) (fun z => [(0, .ref p0), (1, .int p1), (2, .int p2)]) (fun z => [z]) (fun a26 => ?_)
        refine s_chk (fun hk29 => ?_)
        refine s_callV_I 2 (kJ2_size G n K hK a26 h23) (by decide) (by decide) dX0_propose_53 hk29 rfl rfl q732 q552 q553 q107 q554 hyJ2_size rfl rfl (Nat.le_of_ble_eq_true rfl) (fun r27 h28 => ?_)
        refine s_iconst (1 : Int32) dX0_propose_56 (by decide) ?_
        refine s_isub dX0_propose_57 ?_
        exact s_iret dX0_propose_58 rfl rfl
      · refine s_iconst (-1 : Int32) dX0_propose_30 (by decide) ?_
        exact s_iret dX0_propose_31 rfl rfl
theorem hyX6_joined : yX6_joined.cls ≠ "java/lang/invoke/MethodHandle" ∧ yX6_joined.cls ≠ "java/lang/invoke/VarHandle" ∧ (parseMethodDescriptor yX6_joined.desc).map (fun d => d.parameters.length) = some 2 := by decide +kernel
theorem kX6_joined (G : Gl) (n : Nat) (K : Nat → Nat) (hK : K = G.ad) (p0 : Nat) (p1 : Int32) (p2 : Int32) (h : AH) : OkM G yX6_joined cX6_joined 3 (some .int) 1 cvI [.ref p0, .int p1, .int p2] h (F_X6_joined n K p0 p1 p2 h) := by
  refine ok_of_sim [(0, .ref p0), (1, .int p1), (2, .int p2)] (by decide +kernel) (fun r => ⟨_, rfl⟩) (by simp [uns, lv_args, lg_sl, catI, catL, catA, va_rfc]) (by simp [uns, lv_args, lg_sl, catI, catL, catA, va_rfc]) (by simp [uns, lv_args, lg_sl, catI, catL, catA, va_rfc]) ?_
  unfold F_X6_joined
  refine s_iload_n dX6_joined_0 1 rfl ?_
  refine s_iload_n dX6_joined_1 1 rfl ?_
  refine s_imul dX6_joined_2 ?_
  refine s_iload_n dX6_joined_3 2 rfl ?_
  refine s_iload_n dX6_joined_4 2 rfl ?_
  refine s_imul dX6_joined_5 ?_
  refine s_iadd dX6_joined_6 ?_
  exact s_iret dX6_joined_7 rfl rfl
theorem hyX7_joined : yX7_joined.cls ≠ "java/lang/invoke/MethodHandle" ∧ yX7_joined.cls ≠ "java/lang/invoke/VarHandle" ∧ (parseMethodDescriptor yX7_joined.desc).map (fun d => d.parameters.length) = some 2 := by decide +kernel
theorem kX7_joined (G : Gl) (n : Nat) (K : Nat → Nat) (hK : K = G.ad) (p0 : Nat) (p1 : Int32) (p2 : Int32) (h : AH) : OkM G yX7_joined cX7_joined 3 (some .int) 1 cvI [.ref p0, .int p1, .int p2] h (F_X7_joined n K p0 p1 p2 h) := by
  refine ok_of_sim [(0, .ref p0), (1, .int p1), (2, .int p2)] (by decide +kernel) (fun r => ⟨_, rfl⟩) (by simp [uns, lv_args, lg_sl, catI, catL, catA, va_rfc]) (by simp [uns, lv_args, lg_sl, catI, catL, catA, va_rfc]) (by simp [uns, lv_args, lg_sl, catI, catL, catA, va_rfc]) ?_
  unfold F_X7_joined
  refine s_iload_n dX7_joined_0 1 rfl ?_
  refine s_iload_n dX7_joined_1 2 rfl ?_
  refine s_iadd dX7_joined_2 ?_
  exact s_iret dX7_joined_3 rfl rfl
theorem hyX8_joined : yX8_joined.cls ≠ "java/lang/invoke/MethodHandle" ∧ yX8_joined.cls ≠ "java/lang/invoke/VarHandle" ∧ (parseMethodDescriptor yX8_joined.desc).map (fun d => d.parameters.length) = some 2 := by decide +kernel
theorem kX8_joined (G : Gl) (n : Nat) (K : Nat → Nat) (hK : K = G.ad) (p0 : Nat) (p1 : Int32) (p2 : Int32) (h : AH) : OkM G yX8_joined cX8_joined 3 (some .int) 1 cvI [.ref p0, .int p1, .int p2] h (F_X8_joined n K p0 p1 p2 h) := by
  refine ok_of_sim [(0, .ref p0), (1, .int p1), (2, .int p2)] (by decide +kernel) (fun r => ⟨_, rfl⟩) (by simp [uns, lv_args, lg_sl, catI, catL, catA, va_rfc]) (by simp [uns, lv_args, lg_sl, catI, catL, catA, va_rfc]) (by simp [uns, lv_args, lg_sl, catI, catL, catA, va_rfc]) ?_
  unfold F_X8_joined
  refine s_iload_n dX8_joined_0 1 rfl ?_
  refine s_iload_n dX8_joined_1 2 rfl ?_
  refine s_mmax dX8_joined_2 (by decide) q824 q474 q116 q475 (Nat.le_of_ble_eq_true rfl) ?_
  exact s_iret dX8_joined_5 rfl rfl
theorem hyX9_joined : yX9_joined.cls ≠ "java/lang/invoke/MethodHandle" ∧ yX9_joined.cls ≠ "java/lang/invoke/VarHandle" ∧ (parseMethodDescriptor yX9_joined.desc).map (fun d => d.parameters.length) = some 2 := by decide +kernel
theorem kX9_joined (G : Gl) (n : Nat) (K : Nat → Nat) (hK : K = G.ad) (p0 : Nat) (p1 : Int32) (p2 : Int32) (h : AH) : OkM G yX9_joined cX9_joined 3 (some .int) 1 cvI [.ref p0, .int p1, .int p2] h (F_X9_joined n K p0 p1 p2 h) := by
  refine ok_of_sim [(0, .ref p0), (1, .int p1), (2, .int p2)] (by decide +kernel) (fun r => ⟨_, rfl⟩) (by simp [uns, lv_args, lg_sl, catI, catL, catA, va_rfc]) (by simp [uns, lv_args, lg_sl, catI, catL, catA, va_rfc]) (by simp [uns, lv_args, lg_sl, catI, catL, catA, va_rfc]) ?_
  unfold F_X9_joined
  refine s_iload_n dX9_joined_0 1 rfl ?_
  exact s_iret dX9_joined_1 rfl rfl
theorem hyX5_wayFrom : yX5_wayFrom.cls ≠ "java/lang/invoke/MethodHandle" ∧ yX5_wayFrom.cls ≠ "java/lang/invoke/VarHandle" ∧ (parseMethodDescriptor yX5_wayFrom.desc).map (fun d => d.parameters.length) = some 4 := by decide +kernel
theorem kX5_wayFrom (G : Gl) (n : Nat) (K : Nat → Nat) (hK : K = G.ad) (p0 : Nat) (p1 : Int32) (p2 : Int32) (p3 : Int32) (p4 : Int32) (h : AH) : OkM G yX5_wayFrom cX5_wayFrom 5 (some .int) 2 cvI [.ref p0, .int p1, .int p2, .int p3, .int p4] h (F_X5_wayFrom n K p0 p1 p2 p3 p4 h) := by
  refine ok_of_sim [(0, .ref p0), (1, .int p1), (2, .int p2), (3, .int p3), (4, .int p4)] (by decide +kernel) (fun r => ⟨_, rfl⟩) (by simp [uns, lv_args, lg_sl, catI, catL, catA, va_rfc]) (by simp [uns, lv_args, lg_sl, catI, catL, catA, va_rfc]) (by simp [uns, lv_args, lg_sl, catI, catL, catA, va_rfc]) ?_
  unfold F_X5_wayFrom
  refine s_aload_n dX5_wayFrom_0 0 rfl ?_
  refine s_aload_n dX5_wayFrom_1 0 rfl ?_
  refine s_chk (fun hk1 => ?_)
  refine s_getV (j := 1) dX5_wayFrom_2 hk1 (by decide) q586 ?_
  refine s_iload_n dX5_wayFrom_5 3 rfl ?_
  refine s_iload_n dX5_wayFrom_6 1 rfl ?_
  refine s_isub dX5_wayFrom_7 ?_
  refine s_mabs dX5_wayFrom_8 (by decide) q812 q813 q116 q814 (Nat.le_of_ble_eq_true rfl) ?_
  refine s_imul dX5_wayFrom_11 ?_
  refine s_aload_n dX5_wayFrom_12 0 rfl ?_
  refine s_getV (j := 2) dX5_wayFrom_13 hk1 (by decide) q588 ?_
  refine s_iload dX5_wayFrom_16 4 rfl (by decide) ?_
  refine s_iload_n dX5_wayFrom_18 2 rfl ?_
  refine s_isub dX5_wayFrom_19 ?_
  refine s_mabs dX5_wayFrom_20 (by decide) q812 q813 q116 q814 (Nat.le_of_ble_eq_true rfl) ?_
  refine s_imul dX5_wayFrom_23 ?_
  refine s_callA (n := 2) (kX6_joined G n K hK p0 ((h.I p0 1) * (if 0 ≤ (p3 - p1) then (p3 - p1) else 0 - (p3 - p1))) ((h.I p0 2) * (if 0 ≤ (p4 - p2) then (p4 - p2) else 0 - (p4 - p2))) h) (kX7_joined G n K hK p0 ((h.I p0 1) * (if 0 ≤ (p3 - p1) then (p3 - p1) else 0 - (p3 - p1))) ((h.I p0 2) * (if 0 ≤ (p4 - p2) then (p4 - p2) else 0 - (p4 - p2))) h) (kX8_joined G n K hK p0 ((h.I p0 1) * (if 0 ≤ (p3 - p1) then (p3 - p1) else 0 - (p3 - p1))) ((h.I p0 2) * (if 0 ≤ (p4 - p2) then (p4 - p2) else 0 - (p4 - p2))) h) (kX9_joined G n K hK p0 ((h.I p0 1) * (if 0 ≤ (p3 - p1) then (p3 - p1) else 0 - (p3 - p1))) ((h.I p0 2) * (if 0 ≤ (p4 - p2) then (p4 - p2) else 0 - (p4 - p2))) h) ⟨by decide, by decide⟩ ⟨by decide, by decide⟩ ⟨by decide, by decide⟩ ⟨by decide, by decide⟩ dX5_wayFrom_24 hk1 q815 q817 q818 q828 q821 q825 q819 q829 q822 q826 q121 q122 q123 q124 q820 q830 q823 q827 q816 (by decide +kernel) rfl rfl (Nat.le_of_ble_eq_true rfl) (fun r2 h3 => ?_)
  exact s_iret dX5_wayFrom_27 rfl rfl
theorem hyX5_way : yX5_way.cls ≠ "java/lang/invoke/MethodHandle" ∧ yX5_way.cls ≠ "java/lang/invoke/VarHandle" ∧ (parseMethodDescriptor yX5_way.desc).map (fun d => d.parameters.length) = some 2 := by decide +kernel
theorem kX5_way (G : Gl) (n : Nat) (K : Nat → Nat) (hK : K = G.ad) (p0 : Nat) (p1 : Int32) (p2 : Int32) (h : AH) : OkM G yX5_way cX5_way 3 (some .int) 3 cvI [.ref p0, .int p1, .int p2] h (F_X5_way n K p0 p1 p2 h) := by
  refine ok_of_sim [(0, .ref p0), (1, .int p1), (2, .int p2)] (by decide +kernel) (fun r => ⟨_, rfl⟩) (by simp [uns, lv_args, lg_sl, catI, catL, catA, va_rfc]) (by simp [uns, lv_args, lg_sl, catI, catL, catA, va_rfc]) (by simp [uns, lv_args, lg_sl, catI, catL, catA, va_rfc]) ?_
  unfold F_X5_way
  refine s_aload_n dX5_way_0 0 rfl ?_
  refine s_aload_n dX5_way_1 0 rfl ?_
  refine s_chk (fun hk1 => ?_)
  refine s_getV (j := 3) dX5_way_2 hk1 (by decide) q590 ?_
  refine s_aload_n dX5_way_5 0 rfl ?_
  refine s_getV (j := 4) dX5_way_6 hk1 (by decide) q592 ?_
  refine s_iload_n dX5_way_9 1 rfl ?_
  refine s_iload_n dX5_way_10 2 rfl ?_
  refine s_callUV (n := 4) (kX5_wayFrom G n K hK p0 (h.I p0 3) (h.I p0 4) p1 p2 h) (by decide) (by decide) dX5_way_11 hk1 q804 q806 q807 q810 q808 q809 q805 q120 q811 (by decide +kernel) rfl rfl (Nat.le_of_ble_eq_true rfl) (fun r2 h3 => ?_)
  exact s_iret dX5_way_14 rfl rfl
theorem hyX0_way : yX0_way.cls ≠ "java/lang/invoke/MethodHandle" ∧ yX0_way.cls ≠ "java/lang/invoke/VarHandle" ∧ (parseMethodDescriptor yX0_way.desc).map (fun d => d.parameters.length) = some 3 := by decide +kernel
theorem kX0_way (G : Gl) (n : Nat) (K : Nat → Nat) (hK : K = G.ad) (p0 : Nat) (p1 : Int32) (p2 : Int32) (p3 : Int32) (h : AH) : OkM G yX0_way cX0_way 5 (some .int) 5 cvI [.ref p0, .int p1, .int p2, .int p3] h (F_X0_way n K p0 p1 p2 p3 h) := by
  refine ok_of_sim [(0, .ref p0), (1, .int p1), (2, .int p2), (3, .int p3)] (by decide +kernel) (fun r => ⟨_, rfl⟩) (by simp [uns, lv_args, lg_sl, catI, catL, catA, va_rfc]) (by simp [uns, lv_args, lg_sl, catI, catL, catA, va_rfc]) (by simp [uns, lv_args, lg_sl, catI, catL, catA, va_rfc]) ?_
  unfold F_X0_way
  refine s_aload_n dX0_way_0 0 rfl ?_
  refine s_iload_n dX0_way_1 1 rfl ?_
  refine s_chk (fun hk3 => ?_)
  refine s_callV_R 0 (kX0_voterAt G n K hK p0 p1 h) (by decide) (by decide) dX0_way_2 hk3 rfl rfl q756 q758 qs17 q103 q759 hyX0_voterAt rfl rfl (Nat.le_of_ble_eq_true rfl) (fun r1 h2 => ?_)
  refine s_ostore [(4, va_rf r1), (0, .ref p0), (1, .int p1), (2, .int p2), (3, .int p3)] dX0_way_5 (by decide) (by decide) rfl ?_
  refine s_oload dX0_way_7 0 rfl (by decide) ?_
  refine s_ifnull (r := r1) 20 (fun z => [(4, z), (0, .ref p0), (1, .int p1), (2, .int p2), (3, .int p3)]) (fun z => []) dX0_way_9 (by decide) ?_ (fun a4 => ?_)
  · refine s_iconst (-1 : Int32) dX0_way_20 (by decide) ?_
    refine s_goto 31 dX0_way_21 (by decide) ?_
    exact s_iret dX0_way_31 rfl rfl
  · refine s_iload_n dX0_way_12 3 rfl ?_
    refine s_iload_n dX0_way_13 4 rfl ?_
    refine s_callS_I (kX0_isPoint G n K hK p2 p3 h2) (by decide) (by decide) dX0_way_14 q788 q789 q103 q790 hyX0_isPoint rfl rfl (Nat.le_of_ble_eq_true rfl) (fun r5 h6 => ?_)
    refine s_if_ne 24 dX0_way_17 (by decide) (fun c7 => ?_) (fun c7 => ?_)
    · refine s_aload dX0_way_24 0 rfl (by decide) ?_
      refine s_iload_n dX0_way_26 3 rfl ?_
      refine s_iload_n dX0_way_27 4 rfl ?_
      refine s_chk (fun hk10 => ?_)
      refine s_callUV (n := 2) (kX5_way G n K hK a4 p2 p3 h6) (by decide) (by decide) dX0_way_28 hk10 q796 q798 q799 q802 q800 q801 q797 q120 q803 (by decide +kernel) rfl rfl (Nat.le_of_ble_eq_true rfl) (fun r8 h9 => ?_)
      exact s_iret dX0_way_31 rfl rfl
    · refine s_iconst (-1 : Int32) dX0_way_20 (by decide) ?_
      refine s_goto 31 dX0_way_21 (by decide) ?_
      exact s_iret dX0_way_31 rfl rfl
theorem hyJ15_compare : yJ15_compare.cls ≠ "java/lang/invoke/MethodHandle" ∧ yJ15_compare.cls ≠ "java/lang/invoke/VarHandle" ∧ (parseMethodDescriptor yJ15_compare.desc).map (fun d => d.parameters.length) = some 2 := by decide +kernel
theorem kJ15_compare (G : Gl) (n : Nat) (K : Nat → Nat) (hK : K = G.ad) (p0 : Int32) (p1 : Int32) (h : AH) : OkM G yJ15_compare cJ15_compare 2 (some .int) 1 cvI [.int p0, .int p1] h (F_J15_compare n K p0 p1 h) := by
  refine ok_of_sim [(0, .int p0), (1, .int p1)] (by decide +kernel) (fun r => ⟨_, rfl⟩) (by simp [uns, lv_args, lg_sl, catI, catL, catA, va_rfc]) (by simp [uns, lv_args, lg_sl, catI, catL, catA, va_rfc]) (by simp [uns, lv_args, lg_sl, catI, catL, catA, va_rfc]) ?_
  unfold F_J15_compare
  refine s_iload_n dJ15_compare_0 0 rfl ?_
  refine s_iload_n dJ15_compare_1 1 rfl ?_
  refine s_icmp_ge 9 dJ15_compare_2 (by decide) (fun c1 => ?_) (fun c1 => ?_)
  · refine s_iload_n dJ15_compare_9 0 rfl ?_
    refine s_iload_n dJ15_compare_10 1 rfl ?_
    refine s_icmp_ne 18 dJ15_compare_11 (by decide) (fun c2 => ?_) (fun c2 => ?_)
    · refine s_iconst (1 : Int32) dJ15_compare_18 (by decide) ?_
      exact s_iret dJ15_compare_19 rfl rfl
    · refine s_iconst (0 : Int32) dJ15_compare_14 (by decide) ?_
      refine s_goto 19 dJ15_compare_15 (by decide) ?_
      exact s_iret dJ15_compare_19 rfl rfl
  · refine s_iconst (-1 : Int32) dJ15_compare_5 (by decide) ?_
    refine s_goto 19 dJ15_compare_6 (by decide) ?_
    exact s_iret dJ15_compare_19 rfl rfl
theorem hyX5_rather : yX5_rather.cls ≠ "java/lang/invoke/MethodHandle" ∧ yX5_rather.cls ≠ "java/lang/invoke/VarHandle" ∧ (parseMethodDescriptor yX5_rather.desc).map (fun d => d.parameters.length) = some 4 := by decide +kernel
theorem kX5_rather (G : Gl) (n : Nat) (K : Nat → Nat) (hK : K = G.ad) (p0 : Nat) (p1 : Int32) (p2 : Int32) (p3 : Int32) (p4 : Int32) (h : AH) : OkM G yX5_rather cX5_rather 5 (some .int) 4 cvI [.ref p0, .int p1, .int p2, .int p3, .int p4] h (F_X5_rather n K p0 p1 p2 p3 p4 h) := by
  refine ok_of_sim [(0, .ref p0), (1, .int p1), (2, .int p2), (3, .int p3), (4, .int p4)] (by decide +kernel) (fun r => ⟨_, rfl⟩) (by simp [uns, lv_args, lg_sl, catI, catL, catA, va_rfc]) (by simp [uns, lv_args, lg_sl, catI, catL, catA, va_rfc]) (by simp [uns, lv_args, lg_sl, catI, catL, catA, va_rfc]) ?_
  unfold F_X5_rather
  refine s_aload_n dX5_rather_0 0 rfl ?_
  refine s_iload_n dX5_rather_1 3 rfl ?_
  refine s_iload dX5_rather_2 4 rfl (by decide) ?_
  refine s_chk (fun hk3 => ?_)
  refine s_callUV (n := 2) (kX5_way G n K hK p0 p3 p4 h) (by decide) (by decide) dX5_rather_4 hk3 q851 q798 q799 q802 q800 q801 q797 q120 q803 (by decide +kernel) rfl rfl (Nat.le_of_ble_eq_true rfl) (fun r1 h2 => ?_)
  refine s_aload_n dX5_rather_7 0 rfl ?_
  refine s_iload_n dX5_rather_8 1 rfl ?_
  refine s_iload_n dX5_rather_9 2 rfl ?_
  refine s_chk (fun hk6 => ?_)
  refine s_callUV (n := 2) (kX5_way G n K hK p0 p1 p2 h2) (by decide) (by decide) dX5_rather_10 hk6 q851 q798 q799 q802 q800 q801 q797 q120 q803 (by decide +kernel) rfl rfl (Nat.le_of_ble_eq_true rfl) (fun r4 h5 => ?_)
  refine s_callS_I (kJ15_compare G n K hK r1 r4 h5) (by decide) (by decide) dX5_rather_13 q852 q853 q130 q854 hyJ15_compare rfl rfl (Nat.le_of_ble_eq_true rfl) (fun r7 h8 => ?_)
  exact s_iret dX5_rather_16 rfl rfl
theorem hyX0_votesFor : yX0_votesFor.cls ≠ "java/lang/invoke/MethodHandle" ∧ yX0_votesFor.cls ≠ "java/lang/invoke/VarHandle" ∧ (parseMethodDescriptor yX0_votesFor.desc).map (fun d => d.parameters.length) = some 4 := by decide +kernel
theorem sX0_votesFor_L6 (G : Gl) (n : Nat) (K : Nat → Nat) (hK : K = G.ad) (y4 : Nat) (y5 : Int32) (y6 : Int32) (y7 : Int32) (y8 : Int32) : ∀ (f : Nat) (x2 : Int32) (x3 : Int32) (h : AH), Sim G yX0_votesFor.cls yX0_votesFor.name cX0_votesFor 7 (some .int) 5 cvI 6 [(6, .int x2), (5, .int x3), (0, .ref y4), (1, .int y5), (2, .int y6), (3, .int y7), (4, .int y8)] [] h (F_X0_votesFor_L6 n K y4 y5 y6 y7 y8 f x2 x3 h) := by
  intro f
  induction f with
  | zero =>
    intro x2 x3 h
    exact s_none
  | succ f ih =>
    intro x2 x3 h
    unfold F_X0_votesFor_L6
    refine s_iload dX0_votesFor_6 0 rfl (by decide) ?_
    refine s_aload_n dX0_votesFor_8 2 rfl ?_
    refine s_chk (fun hk9 => ?_)
    refine s_get (j := 2) 0 (va_rf (h.R y4 2)) dX0_votesFor_9 hk9 rfl (by decide) q235 (Or.inl rfl) rfl ?_
    refine s_ob (r := h.R y4 2) (fun z => [(6, .int x2), (5, .int x3), (0, .ref y4), (1, .int y5), (2, .int y6), (3, .int y7), (4, .int y8)]) (fun z => [z, .int x2]) (fun a10 => ?_)
    refine s_chk (fun hk13 => ?_)
    refine s_callV_I 2 (kJ2_size G n K hK a10 h) (by decide) (by decide) dX0_votesFor_12 hk13 rfl rfl q732 q552 q553 q107 q554 hyJ2_size rfl rfl (Nat.le_of_ble_eq_true rfl) (fun r11 h12 => ?_)
    refine s_icmp_ge 71 dX0_votesFor_15 (by decide) (fun c14 => ?_) (fun c14 => ?_)
    · refine s_iload dX0_votesFor_71 1 rfl (by decide) ?_
      exact s_iret dX0_votesFor_73 rfl rfl
    · refine s_iload dX0_votesFor_18 1 rfl (by decide) ?_
      refine s_aload_n dX0_votesFor_20 2 rfl ?_
      refine s_chk (fun hk15 => ?_)
      refine s_get (j := 2) 0 (va_rf (h12.R y4 2)) dX0_votesFor_21 hk15 rfl (by decide) q235 (Or.inl rfl) rfl ?_
      refine s_iload dX0_votesFor_24 0 rfl (by decide) ?_
      refine s_ob (r := h12.R y4 2) (fun z => [(6, .int x2), (5, .int x3), (0, .ref y4), (1, .int y5), (2, .int y6), (3, .int y7), (4, .int y8)]) (fun z => [.int x2, z, .int x3]) (fun a16 => ?_)
      refine s_chk (fun hk19 => ?_)
      refine s_callV_R 2 (kJ2_get G n K hK a16 x2 h12) (by decide) (by decide) dX0_votesFor_26 hk19 rfl rfl q733 q734 q735 q107 q736 hyJ2_get rfl rfl (Nat.le_of_ble_eq_true rfl) (fun r17 h18 => ?_)
      refine s_ob (r := r17) (fun z => [(6, .int x2), (5, .int x3), (0, .ref y4), (1, .int y5), (2, .int y6), (3, .int y7), (4, .int y8)]) (fun z => [z, .int x3]) (fun a20 => ?_)
      refine s_chk (fun hk21 => ?_)
      refine s_castV dX0_votesFor_29 hk21 q745 ?_
      refine s_iload_n dX0_votesFor_32 3 rfl ?_
      refine s_iload_n dX0_votesFor_33 4 rfl ?_
      refine s_iload_n dX0_votesFor_34 5 rfl ?_
      refine s_iload dX0_votesFor_35 6 rfl (by decide) ?_
      refine s_callUV (n := 4) (kX5_rather G n K hK a20 y5 y6 y7 y8 h18) (by decide) (by decide) dX0_votesFor_37 hk21 q843 q845 q846 q849 q847 q848 q844 q120 q850 (by decide +kernel) rfl rfl (Nat.le_of_ble_eq_true rfl) (fun r22 h23 => ?_)
      refine s_if_le 61 dX0_votesFor_40 (by decide) (fun c24 => ?_) (fun c24 => ?_)
      · refine s_iconst (0 : Int32) dX0_votesFor_61 (by decide) ?_
        refine s_iadd dX0_votesFor_62 ?_
        refine s_istore [(5, .int (x3 + (0 : Int32))), (6, .int x2), (0, .ref y4), (1, .int y5), (2, .int y6), (3, .int y7), (4, .int y8)] dX0_votesFor_63 (by decide) (by decide) rfl ?_
        refine s_iinc (1 : Int32) [(6, .int (x2 + (1 : Int32))), (5, .int (x3 + (0 : Int32))), (0, .ref y4), (1, .int y5), (2, .int y6), (3, .int y7), (4, .int y8)] dX0_votesFor_65 1 rfl (by decide) (by decide) (by decide) rfl ?_
        refine s_goto 6 dX0_votesFor_68 (by decide) ?_
        exact ih (x2 + (1 : Int32)) (x3 + (0 : Int32)) h23
      · refine s_aload_n dX0_votesFor_43 2 rfl ?_
        refine s_chk (fun hk25 => ?_)
        refine s_get (j := 2) 0 (va_rf (h23.R y4 2)) dX0_votesFor_44 hk25 rfl (by decide) q235 (Or.inl rfl) rfl ?_
        refine s_iload dX0_votesFor_47 0 rfl (by decide) ?_
        refine s_ob (r := h23.R y4 2) (fun z => [(6, .int x2), (5, .int x3), (0, .ref y4), (1, .int y5), (2, .int y6), (3, .int y7), (4, .int y8)]) (fun z => [.int x2, z, .int x3]) (fun a26 => ?_)
        refine s_chk (fun hk29 => ?_)
        refine s_callV_R 2 (kJ2_get G n K hK a26 x2 h23) (by decide) (by decide) dX0_votesFor_49 hk29 rfl rfl q733 q734 q735 q107 q736 hyJ2_get rfl rfl (Nat.le_of_ble_eq_true rfl) (fun r27 h28 => ?_)
        refine s_ob (r := r27) (fun z => [(6, .int x2), (5, .int x3), (0, .ref y4), (1, .int y5), (2, .int y6), (3, .int y7), (4, .int y8)]) (fun z => [z, .int x3]) (fun a30 => ?_)
        refine s_chk (fun hk31 => ?_)
        refine s_castV dX0_votesFor_52 hk31 q745 ?_
        refine s_getV (j := 0) dX0_votesFor_55 hk31 (by decide) q585 ?_
        refine s_goto 62 dX0_votesFor_58 (by decide) ?_
        refine s_iadd dX0_votesFor_62 ?_
        refine s_istore [(5, .int (x3 + (h28.I a30 0))), (6, .int x2), (0, .ref y4), (1, .int y5), (2, .int y6), (3, .int y7), (4, .int y8)] dX0_votesFor_63 (by decide) (by decide) rfl ?_
        refine s_iinc (1 : Int32) [(6, .int (x2 + (1 : Int32))), (5, .int (x3 + (h28.I a30 0))), (0, .ref y4), (1, .int y5), (2, .int y6), (3, .int y7), (4, .int y8)] dX0_votesFor_65 1 rfl (by decide) (by decide) (by decide) rfl ?_
        refine s_goto 6 dX0_votesFor_68 (by decide) ?_
        exact ih (x2 + (1 : Int32)) (x3 + (h28.I a30 0)) h28
theorem kX0_votesFor (G : Gl) (n : Nat) (K : Nat → Nat) (hK : K = G.ad) (p0 : Nat) (p1 : Int32) (p2 : Int32) (p3 : Int32) (p4 : Int32) (h : AH) : OkM G yX0_votesFor cX0_votesFor 7 (some .int) 5 cvI [.ref p0, .int p1, .int p2, .int p3, .int p4] h (F_X0_votesFor n K p0 p1 p2 p3 p4 h) := by
  refine ok_of_sim [(0, .ref p0), (1, .int p1), (2, .int p2), (3, .int p3), (4, .int p4)] (by decide +kernel) (fun r => ⟨_, rfl⟩) (by simp [uns, lv_args, lg_sl, catI, catL, catA, va_rfc]) (by simp [uns, lv_args, lg_sl, catI, catL, catA, va_rfc]) (by simp [uns, lv_args, lg_sl, catI, catL, catA, va_rfc]) ?_
  unfold F_X0_votesFor
  refine s_iconst (0 : Int32) dX0_votesFor_0 (by decide) ?_
  refine s_istore [(5, .int (0 : Int32)), (0, .ref p0), (1, .int p1), (2, .int p2), (3, .int p3), (4, .int p4)] dX0_votesFor_1 (by decide) (by decide) rfl ?_
  refine s_iconst (0 : Int32) dX0_votesFor_3 (by decide) ?_
  refine s_istore [(6, .int (0 : Int32)), (5, .int (0 : Int32)), (0, .ref p0), (1, .int p1), (2, .int p2), (3, .int p3), (4, .int p4)] dX0_votesFor_4 (by decide) (by decide) rfl ?_
  exact sX0_votesFor_L6 G n K hK p0 p1 p2 p3 p4 n (0 : Int32) (0 : Int32) h
theorem hyX0_votesOf : yX0_votesOf.cls ≠ "java/lang/invoke/MethodHandle" ∧ yX0_votesOf.cls ≠ "java/lang/invoke/VarHandle" ∧ (parseMethodDescriptor yX0_votesOf.desc).map (fun d => d.parameters.length) = some 2 := by decide +kernel
theorem kX0_votesOf (G : Gl) (n : Nat) (K : Nat → Nat) (hK : K = G.ad) (p0 : Nat) (p1 : Option Nat) (p2 : Option Nat) (h : AH) : OkM G yX0_votesOf cX0_votesOf 3 (some .int) 6 cvI [.ref p0, va_rf p1, va_rf p2] h (F_X0_votesOf n K p0 p1 p2 h) := by
  refine ok_of_sim [(0, .ref p0), (1, va_rf p1), (2, va_rf p2)] (by decide +kernel) (fun r => ⟨_, rfl⟩) (by simp [uns, lv_args, lg_sl, catI, catL, catA, va_rfc]) (by simp [uns, lv_args, lg_sl, catI, catL, catA, va_rfc]) (by simp [uns, lv_args, lg_sl, catI, catL, catA, va_rfc]) ?_
  unfold F_X0_votesOf
  refine s_aload_n dX0_votesOf_0 0 rfl ?_
  refine s_oload_n dX0_votesOf_1 1 rfl ?_
  refine s_ob (r := p1) (fun z => [(0, .ref p0), (1, z), (2, va_rf p2)]) (fun z => [z, .ref p0]) (fun a1 => ?_)
  refine s_chk (fun hk2 => ?_)
  refine s_getN (j := 0) 10 (.int (h.I a1 0)) dX0_votesOf_2 hk2 rfl (by decide) q705 (Or.inl rfl) rfl ?_
  refine s_aload_n dX0_votesOf_5 1 rfl ?_
  refine s_getN (j := 1) 10 (.int (h.I a1 1)) dX0_votesOf_6 hk2 rfl (by decide) q707 (Or.inl rfl) rfl ?_
  refine s_oload_n dX0_votesOf_9 2 rfl ?_
  refine s_ob (r := p2) (fun z => [(0, .ref p0), (1, .ref a1), (2, z)]) (fun z => [z, .int (h.I a1 1), .int (h.I a1 0), .ref p0]) (fun a3 => ?_)
  refine s_chk (fun hk4 => ?_)
  refine s_getN (j := 0) 10 (.int (h.I a3 0)) dX0_votesOf_10 hk4 rfl (by decide) q705 (Or.inl rfl) rfl ?_
  refine s_aload_n dX0_votesOf_13 2 rfl ?_
  refine s_getN (j := 1) 10 (.int (h.I a3 1)) dX0_votesOf_14 hk4 rfl (by decide) q707 (Or.inl rfl) rfl ?_
  refine s_chk (fun hk7 => ?_)
  refine s_callV_I 0 (kX0_votesFor G n K hK p0 (h.I a1 0) (h.I a1 1) (h.I a3 0) (h.I a3 1) h) (by decide) (by decide) dX0_votesOf_17 hk7 rfl rfl q839 q841 qs20 q103 q842 hyX0_votesFor rfl rfl (Nat.le_of_ble_eq_true rfl) (fun r5 h6 => ?_)
  exact s_iret dX0_votesOf_20 rfl rfl
