set_option maxRecDepth 100000
theorem hyX0_findMiddles : yX0_findMiddles.cls ≠ "java/lang/invoke/MethodHandle" ∧ yX0_findMiddles.cls ≠ "java/lang/invoke/VarHandle" ∧ (parseMethodDescriptor yX0_findMiddles.desc).map (fun d => d.parameters.length) = some 0 := by decide +kernel
theorem sX0_findMiddles_L33 (G : Gl) (n : Nat) (K : Nat → Nat) (hK : K = G.ad) (y20 : Nat) : ∀ (f : Nat) (x19 : Int32) (h : AH) (k : AH → Option (Unit × AH)) (hk : ∀ (h : AH), Sim G yX0_findMiddles.cls yX0_findMiddles.name cX0_findMiddles 3 none 7 cvV 92 [(0, .ref y20)] [] h (k h)), Sim G yX0_findMiddles.cls yX0_findMiddles.name cX0_findMiddles 3 none 7 cvV 33 [(1, .int x19), (0, .ref y20)] [] h (F_X0_findMiddles_L33 n K y20 f x19 h k) := by
  intro f
  induction f with
  | zero =>
    intro x19 h k hk
    exact s_none
  | succ f ih =>
    intro x19 h k hk
    unfold F_X0_findMiddles_L33
    refine s_iload_n dX0_findMiddles_33 0 rfl ?_
    refine s_aload_n dX0_findMiddles_34 1 rfl ?_
    refine s_chk (fun hk21 => ?_)
    refine s_get (j := 2) 0 (va_rf (h.R y20 2)) dX0_findMiddles_35 hk21 rfl (by decide) q235 (Or.inl rfl) rfl ?_
    refine s_ob (r := h.R y20 2) (fun z => [(1, .int x19), (0, .ref y20)]) (fun z => [z, .int x19]) (fun a22 => ?_)
    refine s_chk (fun hk25 => ?_)
    refine s_callV_I 2 (kJ2_size G n K hK a22 h) (by decide) (by decide) dX0_findMiddles_38 hk25 rfl rfl q732 q552 q553 q107 q554 hyJ2_size rfl rfl (Nat.le_of_ble_eq_true rfl) (fun r23 h24 => ?_)
    refine s_icmp_ge 92 dX0_findMiddles_41 (by decide) (fun c26 => ?_) (fun c26 => ?_)
    · refine s_sub [1] rfl ?_
      exact hk h24
    · refine s_aload_n dX0_findMiddles_44 1 rfl ?_
      refine s_new 12 dX0_findMiddles_45 rfl q948 q949 q133 ?_
      refine s_hl (fun h27 e28 => ?_)
      refine s_dup dX0_findMiddles_48 rfl ?_
      refine s_aload_n dX0_findMiddles_49 1 rfl ?_
      refine s_chk (fun hk29 => ?_)
      refine s_get (j := 2) 0 (va_rf (h27.R y20 2)) dX0_findMiddles_50 hk29 rfl (by decide) q235 (Or.inl rfl) rfl ?_
      refine s_iload_n dX0_findMiddles_53 0 rfl ?_
      refine s_ob (r := h27.R y20 2) (fun z => [(1, .int x19), (0, .ref y20)]) (fun z => [.int x19, z, .ref h24.n, .ref h24.n, .ref y20]) (fun a30 => ?_)
      refine s_chk (fun hk33 => ?_)
      refine s_callV_R 2 (kJ2_get G n K hK a30 x19 h27) (by decide) (by decide) dX0_findMiddles_54 hk33 rfl rfl q733 q734 q735 q107 q736 hyJ2_get rfl rfl (Nat.le_of_ble_eq_true rfl) (fun r31 h32 => ?_)
      refine s_ob (r := r31) (fun z => [(1, .int x19), (0, .ref y20)]) (fun z => [z, .ref h24.n, .ref h24.n, .ref y20]) (fun a34 => ?_)
      refine s_chk (fun hk35 => ?_)
      refine s_castV dX0_findMiddles_57 hk35 q745 ?_
      refine s_getV (j := 3) dX0_findMiddles_60 hk35 (by decide) q591 ?_
      refine s_i2l dX0_findMiddles_63 ?_
      refine s_aload_n dX0_findMiddles_64 1 rfl ?_
      refine s_chk (fun hk36 => ?_)
      refine s_get (j := 2) 0 (va_rf (h32.R y20 2)) dX0_findMiddles_65 hk36 rfl (by decide) q235 (Or.inl rfl) rfl ?_
      refine s_iload_n dX0_findMiddles_68 0 rfl ?_
      refine s_ob (r := h32.R y20 2) (fun z => [(1, .int x19), (0, .ref y20)]) (fun z => [.int x19, z, .long ((h32.I a34 3).toInt64), .ref h24.n, .ref h24.n, .ref y20]) (fun a37 => ?_)
      refine s_chk (fun hk40 => ?_)
      refine s_callV_R 2 (kJ2_get G n K hK a37 x19 h32) (by decide) (by decide) dX0_findMiddles_69 hk40 rfl rfl q733 q734 q735 q107 q736 hyJ2_get rfl rfl (Nat.le_of_ble_eq_true rfl) (fun r38 h39 => ?_)
      refine s_ob (r := r38) (fun z => [(1, .int x19), (0, .ref y20)]) (fun z => [z, .long ((h32.I a34 3).toInt64), .ref h24.n, .ref h24.n, .ref y20]) (fun a41 => ?_)
      refine s_chk (fun hk42 => ?_)
      refine s_castV dX0_findMiddles_72 hk42 q745 ?_
      refine s_getV (j := 4) dX0_findMiddles_75 hk42 (by decide) q593 ?_
      refine s_i2l dX0_findMiddles_78 ?_
      refine s_lconst (1 : Int64) dX0_findMiddles_79 (by decide) ?_
      refine s_callI_V (kX12_init G n K hK h24.n ((h32.I a34 3).toInt64) ((h39.I a41 4).toInt64) (1 : Int64) h39) (by decide) (by decide) dX0_findMiddles_80 q950 q951 q133 q952 rfl hyX12_init rfl rfl (Nat.le_of_ble_eq_true rfl) (fun r43 h44 => ?_)
      refine s_chk (fun hk47 => ?_)
      refine s_callV_V 0 (kX0_comes G n K hK y20 (some h24.n) h44) (by decide) (by decide) dX0_findMiddles_83 hk47 rfl rfl q968 q970 qs27 q103 q971 hyX0_comes rfl rfl (Nat.le_of_ble_eq_true rfl) (fun r45 h46 => ?_)
      refine s_iinc (1 : Int32) [(1, .int (x19 + (1 : Int32))), (0, .ref y20)] dX0_findMiddles_86 0 rfl (by decide) (by decide) (by decide) rfl ?_
      refine s_goto 33 dX0_findMiddles_89 (by decide) ?_
      exact ih (x19 + (1 : Int32)) h46 k hk
theorem sX0_findMiddles_L107 (G : Gl) (n : Nat) (K : Nat → Nat) (hK : K = G.ad) (y69 : Int32) (y70 : Nat) : ∀ (f : Nat) (x68 : Int32) (h : AH) (k : AH → Option (Unit × AH)) (hk : ∀ (h : AH), Sim G yX0_findMiddles.cls yX0_findMiddles.name cX0_findMiddles 3 none 7 cvV 175 [(1, .int y69), (0, .ref y70)] [] h (k h)), Sim G yX0_findMiddles.cls yX0_findMiddles.name cX0_findMiddles 3 none 7 cvV 107 [(2, .int x68), (1, .int y69), (0, .ref y70)] [] h (F_X0_findMiddles_L107 n K y69 y70 f x68 h k) := by
  intro f
  induction f with
  | zero =>
    intro x68 h k hk
    exact s_none
  | succ f ih =>
    intro x68 h k hk
    unfold F_X0_findMiddles_L107
    refine s_iload_n dX0_findMiddles_107 0 rfl ?_
    refine s_iload_n dX0_findMiddles_108 1 rfl ?_
    refine s_icmp_ge 175 dX0_findMiddles_109 (by decide) (fun c71 => ?_) (fun c71 => ?_)
    · refine s_sub [1, 2] rfl ?_
      exact hk h
    · refine s_aload_n dX0_findMiddles_112 2 rfl ?_
      refine s_chk (fun hk72 => ?_)
      refine s_get (j := 8) 0 (va_rf (h.R y70 8)) dX0_findMiddles_113 hk72 rfl (by decide) q241 (Or.inl rfl) rfl ?_
      refine s_iload_n dX0_findMiddles_116 1 rfl ?_
      refine s_ob (r := h.R y70 8) (fun z => [(2, .int x68), (1, .int y69), (0, .ref y70)]) (fun z => [.int y69, z]) (fun a73 => ?_)
      refine s_chk (fun hk76 => ?_)
      refine s_callV_R 2 (kJ2_get G n K hK a73 y69 h) (by decide) (by decide) dX0_findMiddles_117 hk76 rfl rfl q733 q734 q735 q107 q736 hyJ2_get rfl rfl (Nat.le_of_ble_eq_true rfl) (fun r74 h75 => ?_)
      refine s_ob (r := r74) (fun z => [(2, .int x68), (1, .int y69), (0, .ref y70)]) (fun z => [z]) (fun a77 => ?_)
      refine s_chk (fun hk78 => ?_)
      refine s_cast 11 dX0_findMiddles_120 hk78 rfl q883 ?_
      refine s_aload_n dX0_findMiddles_123 2 rfl ?_
      refine s_chk (fun hk79 => ?_)
      refine s_get (j := 8) 0 (va_rf (h75.R y70 8)) dX0_findMiddles_124 hk79 rfl (by decide) q241 (Or.inl rfl) rfl ?_
      refine s_iload_n dX0_findMiddles_127 0 rfl ?_
      refine s_ob (r := h75.R y70 8) (fun z => [(2, .int x68), (1, .int y69), (0, .ref y70)]) (fun z => [.int x68, z, .ref a77]) (fun a80 => ?_)
      refine s_chk (fun hk83 => ?_)
      refine s_callV_R 2 (kJ2_get G n K hK a80 x68 h75) (by decide) (by decide) dX0_findMiddles_128 hk83 rfl rfl q733 q734 q735 q107 q736 hyJ2_get rfl rfl (Nat.le_of_ble_eq_true rfl) (fun r81 h82 => ?_)
      refine s_ob (r := r81) (fun z => [(2, .int x68), (1, .int y69), (0, .ref y70)]) (fun z => [z, .ref a77]) (fun a84 => ?_)
      refine s_chk (fun hk85 => ?_)
      refine s_cast 11 dX0_findMiddles_131 hk85 rfl q883 ?_
      refine s_chk (fun hk88 => ?_)
      refine s_callV_I 11 (kX11_isAlong G n K hK a77 (some a84) h82) (by decide) (by decide) dX0_findMiddles_134 hk88 rfl rfl q985 q986 q987 q131 q988 hyX11_isAlong rfl rfl (Nat.le_of_ble_eq_true rfl) (fun r86 h87 => ?_)
      refine s_if_ne 169 dX0_findMiddles_137 (by decide) (fun c89 => ?_) (fun c89 => ?_)
      · refine s_iinc (1 : Int32) [(2, .int (x68 + (1 : Int32))), (1, .int y69), (0, .ref y70)] dX0_findMiddles_169 0 rfl (by decide) (by decide) (by decide) rfl ?_
        refine s_goto 107 dX0_findMiddles_172 (by decide) ?_
        exact ih (x68 + (1 : Int32)) h87 k hk
      · refine s_aload_n dX0_findMiddles_140 2 rfl ?_
        refine s_aload_n dX0_findMiddles_141 2 rfl ?_
        refine s_chk (fun hk90 => ?_)
        refine s_get (j := 8) 0 (va_rf (h87.R y70 8)) dX0_findMiddles_142 hk90 rfl (by decide) q241 (Or.inl rfl) rfl ?_
        refine s_iload_n dX0_findMiddles_145 1 rfl ?_
        refine s_ob (r := h87.R y70 8) (fun z => [(2, .int x68), (1, .int y69), (0, .ref y70)]) (fun z => [.int y69, z, .ref y70]) (fun a91 => ?_)
        refine s_chk (fun hk94 => ?_)
        refine s_callV_R 2 (kJ2_get G n K hK a91 y69 h87) (by decide) (by decide) dX0_findMiddles_146 hk94 rfl rfl q733 q734 q735 q107 q736 hyJ2_get rfl rfl (Nat.le_of_ble_eq_true rfl) (fun r92 h93 => ?_)
        refine s_ob (r := r92) (fun z => [(2, .int x68), (1, .int y69), (0, .ref y70)]) (fun z => [z, .ref y70]) (fun a95 => ?_)
        refine s_chk (fun hk96 => ?_)
        refine s_cast 11 dX0_findMiddles_149 hk96 rfl q883 ?_
        refine s_aload_n dX0_findMiddles_152 2 rfl ?_
        refine s_chk (fun hk97 => ?_)
        refine s_get (j := 8) 0 (va_rf (h93.R y70 8)) dX0_findMiddles_153 hk97 rfl (by decide) q241 (Or.inl rfl) rfl ?_
        refine s_iload_n dX0_findMiddles_156 0 rfl ?_
        refine s_ob (r := h93.R y70 8) (fun z => [(2, .int x68), (1, .int y69), (0, .ref y70)]) (fun z => [.int x68, z, .ref a95, .ref y70]) (fun a98 => ?_)
        refine s_chk (fun hk101 => ?_)
        refine s_callV_R 2 (kJ2_get G n K hK a98 x68 h93) (by decide) (by decide) dX0_findMiddles_157 hk101 rfl rfl q733 q734 q735 q107 q736 hyJ2_get rfl rfl (Nat.le_of_ble_eq_true rfl) (fun r99 h100 => ?_)
        refine s_ob (r := r99) (fun z => [(2, .int x68), (1, .int y69), (0, .ref y70)]) (fun z => [z, .ref a95, .ref y70]) (fun a102 => ?_)
        refine s_chk (fun hk103 => ?_)
        refine s_cast 11 dX0_findMiddles_160 hk103 rfl q883 ?_
        refine s_callS_R (kX12_crossing G n K hK (some a95) (some a102) h100) (by decide) (by decide) dX0_findMiddles_163 q989 q990 q133 q991 hyX12_crossing rfl rfl (Nat.le_of_ble_eq_true rfl) (fun r104 h105 => ?_)
        refine s_chk (fun hk108 => ?_)
        refine s_callV_V 0 (kX0_comes G n K hK y70 r104 h105) (by decide) (by decide) dX0_findMiddles_166 hk108 rfl rfl q968 q970 qs27 q103 q971 hyX0_comes rfl rfl (Nat.le_of_ble_eq_true rfl) (fun r106 h107 => ?_)
        refine s_iinc (1 : Int32) [(2, .int (x68 + (1 : Int32))), (1, .int y69), (0, .ref y70)] dX0_findMiddles_169 0 rfl (by decide) (by decide) (by decide) rfl ?_
        refine s_goto 107 dX0_findMiddles_172 (by decide) ?_
        exact ih (x68 + (1 : Int32)) h107 k hk
theorem sX0_findMiddles_L94 (G : Gl) (n : Nat) (K : Nat → Nat) (hK : K = G.ad) (y51 : Nat) : ∀ (f : Nat) (x50 : Int32) (h : AH), Sim G yX0_findMiddles.cls yX0_findMiddles.name cX0_findMiddles 3 none 7 cvV 94 [(1, .int x50), (0, .ref y51)] [] h (F_X0_findMiddles_L94 n K y51 f x50 h) := by
  intro f
  induction f with
  | zero =>
    intro x50 h
    exact s_none
  | succ f ih =>
    intro x50 h
    unfold F_X0_findMiddles_L94
    refine s_iload_n dX0_findMiddles_94 0 rfl ?_
    refine s_aload_n dX0_findMiddles_95 1 rfl ?_
    refine s_chk (fun hk52 => ?_)
    refine s_get (j := 8) 0 (va_rf (h.R y51 8)) dX0_findMiddles_96 hk52 rfl (by decide) q241 (Or.inl rfl) rfl ?_
    refine s_ob (r := h.R y51 8) (fun z => [(1, .int x50), (0, .ref y51)]) (fun z => [z, .int x50]) (fun a53 => ?_)
    refine s_chk (fun hk56 => ?_)
    refine s_callV_I 2 (kJ2_size G n K hK a53 h) (by decide) (by decide) dX0_findMiddles_99 hk56 rfl rfl q732 q552 q553 q107 q554 hyJ2_size rfl rfl (Nat.le_of_ble_eq_true rfl) (fun r54 h55 => ?_)
    refine s_icmp_ge 181 dX0_findMiddles_102 (by decide) (fun c57 => ?_) (fun c57 => ?_)
    · refine s_aload_n dX0_findMiddles_181 1 rfl ?_
      refine s_chk (fun hk58 => ?_)
      refine s_get (j := 9) 0 (va_rf (h55.R y51 9)) dX0_findMiddles_182 hk58 rfl (by decide) q242 (Or.inl rfl) rfl ?_
      refine s_ob (r := h55.R y51 9) (fun z => [(1, .int x50), (0, .ref y51)]) (fun z => [z]) (fun a59 => ?_)
      refine s_chk (fun hk62 => ?_)
      refine s_callV_I 2 (kJ2_isEmpty G n K hK a59 h55) (by decide) (by decide) dX0_findMiddles_185 hk62 rfl rfl q787 q723 q724 q107 q725 hyJ2_isEmpty rfl rfl (Nat.le_of_ble_eq_true rfl) (fun r60 h61 => ?_)
      refine s_if_eq 195 dX0_findMiddles_188 (by decide) (fun c63 => ?_) (fun c63 => ?_)
      · exact s_vret dX0_findMiddles_195 rfl rfl
      · refine s_aload_n dX0_findMiddles_191 1 rfl ?_
        refine s_chk (fun hk66 => ?_)
        refine s_callV_V 0 (kX0_proves G n K hK y51 h61) (by decide) (by decide) dX0_findMiddles_192 hk66 rfl rfl q994 q996 qs29 q103 q997 hyX0_proves rfl rfl (Nat.le_of_ble_eq_true rfl) (fun r64 h65 => ?_)
        exact s_vret dX0_findMiddles_195 rfl rfl
    · refine s_iconst (0 : Int32) dX0_findMiddles_105 (by decide) ?_
      refine s_istore_n [(2, .int (0 : Int32)), (1, .int x50), (0, .ref y51)] dX0_findMiddles_106 (by decide) (by decide) rfl ?_
      refine sX0_findMiddles_L107 G n K hK x50 y51 n (0 : Int32) h55 _ ?_
      intro h109
      refine s_iinc (1 : Int32) [(1, .int (x50 + (1 : Int32))), (0, .ref y51)] dX0_findMiddles_175 0 rfl (by decide) (by decide) (by decide) rfl ?_
      refine s_goto 94 dX0_findMiddles_178 (by decide) ?_
      exact ih (x50 + (1 : Int32)) h109
theorem kX0_findMiddles (G : Gl) (n : Nat) (K : Nat → Nat) (hK : K = G.ad) (p0 : Nat) (h : AH) : OkM G yX0_findMiddles cX0_findMiddles 3 none 7 cvV [.ref p0] h (F_X0_findMiddles n K p0 h) := by
  refine ok_of_sim [(0, .ref p0)] (by decide +kernel) (fun r => ⟨_, rfl⟩) (by simp [uns, lv_args, lg_sl, catI, catL, catA, va_rfc]) (by simp [uns, lv_args, lg_sl, catI, catL, catA, va_rfc]) (by simp [uns, lv_args, lg_sl, catI, catL, catA, va_rfc]) ?_
  unfold F_X0_findMiddles
  refine s_aload_n dX0_findMiddles_0 0 rfl ?_
  refine s_chk (fun hk1 => ?_)
  refine s_get (j := 12) 0 (.int (h.I p0 12)) dX0_findMiddles_1 hk1 rfl (by decide) q245 (Or.inl rfl) rfl ?_
  refine s_if_eq 8 dX0_findMiddles_4 (by decide) (fun c2 => ?_) (fun c2 => ?_)
  · refine s_aload_n dX0_findMiddles_8 0 rfl ?_
    refine s_callV_V 0 (kX0_findLines G n K hK p0 h) (by decide) (by decide) dX0_findMiddles_9 hk1 rfl rfl q879 q881 qs23 q103 q882 hyX0_findLines rfl rfl (Nat.le_of_ble_eq_true rfl) (fun r3 h4 => ?_)
    refine s_aload_n dX0_findMiddles_12 0 rfl ?_
    refine s_iconst (1 : Int32) dX0_findMiddles_13 (by decide) ?_
    refine s_chk (fun hk5 => ?_)
    refine s_put (j := 12) 0 (v := .int (1 : Int32)) dX0_findMiddles_14 hk5 rfl (by decide) q245 (Or.inl rfl) rfl rfl rfl (Upd.i (fun _ => rfl)) ?_
    refine s_hl (fun h6 e7 => ?_)
    refine s_aload_n dX0_findMiddles_17 0 rfl ?_
    refine s_get (j := 9) 0 (va_rf (h6.R p0 9)) dX0_findMiddles_18 (show h6.kind p0 = 1 by rw [e7]; exact hk5) rfl (by decide) q242 (Or.inl rfl) rfl ?_
    refine s_ob (r := h6.R p0 9) (fun z => [(0, .ref p0)]) (fun z => [z]) (fun a8 => ?_)
    refine s_chk (fun hk11 => ?_)
    refine s_callV_V 2 (kJ2_clear G n K hK a8 h6) (by decide) (by decide) dX0_findMiddles_21 hk11 rfl rfl q731 q348 q349 q107 q350 hyJ2_clear rfl rfl (Nat.le_of_ble_eq_true rfl) (fun r9 h10 => ?_)
    refine s_aload_n dX0_findMiddles_24 0 rfl ?_
    refine s_chk (fun hk12 => ?_)
    refine s_get (j := 10) 0 (va_rf (h10.R p0 10)) dX0_findMiddles_25 hk12 rfl (by decide) q243 (Or.inl rfl) rfl ?_
    refine s_iconst (0 : Int32) dX0_findMiddles_28 (by decide) ?_
    refine s_iconst (-1 : Int32) dX0_findMiddles_29 (by decide) ?_
    refine s_ob (r := h10.R p0 10) (fun z => [(0, .ref p0)]) (fun z => [.int (-1 : Int32), .int (0 : Int32), z]) (fun a13 => ?_)
    refine s_chk (fun hk14 => ?_)
    refine s_chk (fun hi15 => ?_)
    refine s_iast dX0_findMiddles_30 hk14 rfl (by decide) hi15 ?_
    refine s_hl (fun h16 e17 => ?_)
    refine s_iconst (0 : Int32) dX0_findMiddles_31 (by decide) ?_
    refine s_istore_n [(1, .int (0 : Int32)), (0, .ref p0)] dX0_findMiddles_32 (by decide) (by decide) rfl ?_
    refine sX0_findMiddles_L33 G n K hK p0 n (0 : Int32) h16 _ ?_
    intro h48
    refine s_iconst (0 : Int32) dX0_findMiddles_92 (by decide) ?_
    refine s_istore_n [(1, .int (0 : Int32)), (0, .ref p0)] dX0_findMiddles_93 (by decide) (by decide) rfl ?_
    exact sX0_findMiddles_L94 G n K hK p0 n (0 : Int32) h48
  · exact s_vret dX0_findMiddles_7 rfl rfl
theorem hyX0_middle : yX0_middle.cls ≠ "java/lang/invoke/MethodHandle" ∧ yX0_middle.cls ≠ "java/lang/invoke/VarHandle" ∧ (parseMethodDescriptor yX0_middle.desc).map (fun d => d.parameters.length) = some 2 := by decide +kernel
theorem kX0_middle (G : Gl) (n : Nat) (K : Nat → Nat) (hK : K = G.ad) (p0 : Nat) (p1 : Int32) (p2 : Int32) (h : AH) : OkM G yX0_middle cX0_middle 4 (some .int) 8 cvI [.ref p0, .int p1, .int p2] h (F_X0_middle n K p0 p1 p2 h) := by
  refine ok_of_sim [(0, .ref p0), (1, .int p1), (2, .int p2)] (by decide +kernel) (fun r => ⟨_, rfl⟩) (by simp [uns, lv_args, lg_sl, catI, catL, catA, va_rfc]) (by simp [uns, lv_args, lg_sl, catI, catL, catA, va_rfc]) (by simp [uns, lv_args, lg_sl, catI, catL, catA, va_rfc]) ?_
  unfold F_X0_middle
  refine s_aload_n dX0_middle_0 0 rfl ?_
  refine s_chk (fun hk3 => ?_)
  refine s_callV_V 0 (kX0_findMiddles G n K hK p0 h) (by decide) (by decide) dX0_middle_1 hk3 rfl rfl q944 q946 qs26 q103 q947 hyX0_findMiddles rfl rfl (Nat.le_of_ble_eq_true rfl) (fun r1 h2 => ?_)
  refine s_iload_n dX0_middle_4 1 rfl ?_
  refine s_iconst (-1 : Int32) dX0_middle_5 (by decide) ?_
  refine s_icmp_ne 17 dX0_middle_6 (by decide) (fun c4 => ?_) (fun c4 => ?_)
  · refine s_iload_n dX0_middle_17 1 rfl ?_
    refine s_iconst (0 : Int32) dX0_middle_18 (by decide) ?_
    refine s_aload_n dX0_middle_19 0 rfl ?_
    refine s_chk (fun hk5 => ?_)
    refine s_get (j := 9) 0 (va_rf (h2.R p0 9)) dX0_middle_20 hk5 rfl (by decide) q242 (Or.inl rfl) rfl ?_
    refine s_ob (r := h2.R p0 9) (fun z => [(0, .ref p0), (1, .int p1), (2, .int p2)]) (fun z => [z, .int (0 : Int32), .int p1]) (fun a6 => ?_)
    refine s_chk (fun hk9 => ?_)
    refine s_callV_I 2 (kJ2_size G n K hK a6 h2) (by decide) (by decide) dX0_middle_23 hk9 rfl rfl q732 q552 q553 q107 q554 hyJ2_size rfl rfl (Nat.le_of_ble_eq_true rfl) (fun r7 h8 => ?_)
    refine s_iconst (1 : Int32) dX0_middle_26 (by decide) ?_
    refine s_isub dX0_middle_27 ?_
    refine s_callS_I (kX0_in G n K hK p1 (0 : Int32) (r7 - (1 : Int32)) h8) (by decide) (by decide) dX0_middle_28 q335 q336 q103 q337 hyX0_in rfl rfl (Nat.le_of_ble_eq_true rfl) (fun r10 h11 => ?_)
    refine s_if_eq 43 dX0_middle_31 (by decide) (fun c12 => ?_) (fun c12 => ?_)
    · refine s_ldc (v := (-2147483648 : Int32)) dX0_middle_43 q939 ?_
      exact s_iret dX0_middle_45 rfl rfl
    · refine s_iload_n dX0_middle_34 2 rfl ?_
      refine s_iconst (0 : Int32) dX0_middle_35 (by decide) ?_
      refine s_iconst (2 : Int32) dX0_middle_36 (by decide) ?_
      refine s_callS_I (kX0_in G n K hK p2 (0 : Int32) (2 : Int32) h11) (by decide) (by decide) dX0_middle_37 q335 q336 q103 q337 hyX0_in rfl rfl (Nat.le_of_ble_eq_true rfl) (fun r13 h14 => ?_)
      refine s_if_ne 46 dX0_middle_40 (by decide) (fun c15 => ?_) (fun c15 => ?_)
      · refine s_aload_n dX0_middle_46 0 rfl ?_
        refine s_chk (fun hk16 => ?_)
        refine s_get (j := 9) 0 (va_rf (h14.R p0 9)) dX0_middle_47 hk16 rfl (by decide) q242 (Or.inl rfl) rfl ?_
        refine s_iload_n dX0_middle_50 1 rfl ?_
        refine s_ob (r := h14.R p0 9) (fun z => [(0, .ref p0), (1, .int p1), (2, .int p2)]) (fun z => [.int p1, z]) (fun a17 => ?_)
        refine s_chk (fun hk20 => ?_)
        refine s_callV_R 2 (kJ2_get G n K hK a17 p1 h14) (by decide) (by decide) dX0_middle_51 hk20 rfl rfl q733 q734 q735 q107 q736 hyJ2_get rfl rfl (Nat.le_of_ble_eq_true rfl) (fun r18 h19 => ?_)
        refine s_ob (r := r18) (fun z => [(0, .ref p0), (1, .int p1), (2, .int p2)]) (fun z => [z]) (fun a21 => ?_)
        refine s_chk (fun hk22 => ?_)
        refine s_cast 12 dX0_middle_54 hk22 rfl q948 ?_
        refine s_astore_n [(3, .ref a21), (0, .ref p0), (1, .int p1), (2, .int p2)] dX0_middle_57 (by decide) (by decide) rfl ?_
        refine s_iload_n dX0_middle_58 3 rfl ?_
        refine s_if_ne 69 dX0_middle_59 (by decide) (fun c23 => ?_) (fun c23 => ?_)
        · refine s_iload_n dX0_middle_69 3 rfl ?_
          refine s_iconst (1 : Int32) dX0_middle_70 (by decide) ?_
          refine s_icmp_ne 81 dX0_middle_71 (by decide) (fun c24 => ?_) (fun c24 => ?_)
          · refine s_aload_n dX0_middle_81 0 rfl ?_
            refine s_getN (j := 2) 12 (.long (h19.L a21 2)) dX0_middle_82 hk22 rfl (by decide) q960 (Or.inl rfl) rfl ?_
            refine s_l2i dX0_middle_85 ?_
            exact s_iret dX0_middle_86 rfl rfl
          · refine s_aload_n dX0_middle_74 0 rfl ?_
            refine s_getN (j := 1) 12 (.long (h19.L a21 1)) dX0_middle_75 hk22 rfl (by decide) q958 (Or.inl rfl) rfl ?_
            refine s_goto 85 dX0_middle_78 (by decide) ?_
            refine s_l2i dX0_middle_85 ?_
            exact s_iret dX0_middle_86 rfl rfl
        · refine s_aload_n dX0_middle_62 0 rfl ?_
          refine s_getN (j := 0) 12 (.long (h19.L a21 0)) dX0_middle_63 hk22 rfl (by decide) q956 (Or.inl rfl) rfl ?_
          refine s_goto 85 dX0_middle_66 (by decide) ?_
          refine s_l2i dX0_middle_85 ?_
          exact s_iret dX0_middle_86 rfl rfl
      · refine s_ldc (v := (-2147483648 : Int32)) dX0_middle_43 q939 ?_
        exact s_iret dX0_middle_45 rfl rfl
  · refine s_aload_n dX0_middle_9 0 rfl ?_
    refine s_chk (fun hk25 => ?_)
    refine s_get (j := 9) 0 (va_rf (h2.R p0 9)) dX0_middle_10 hk25 rfl (by decide) q242 (Or.inl rfl) rfl ?_
    refine s_ob (r := h2.R p0 9) (fun z => [(0, .ref p0), (1, .int p1), (2, .int p2)]) (fun z => [z]) (fun a26 => ?_)
    refine s_chk (fun hk29 => ?_)
    refine s_callV_I 2 (kJ2_size G n K hK a26 h2) (by decide) (by decide) dX0_middle_13 hk29 rfl rfl q732 q552 q553 q107 q554 hyJ2_size rfl rfl (Nat.le_of_ble_eq_true rfl) (fun r27 h28 => ?_)
    exact s_iret dX0_middle_16 rfl rfl
theorem hyX0_proof : yX0_proof.cls ≠ "java/lang/invoke/MethodHandle" ∧ yX0_proof.cls ≠ "java/lang/invoke/VarHandle" ∧ (parseMethodDescriptor yX0_proof.desc).map (fun d => d.parameters.length) = some 1 := by decide +kernel
theorem kX0_proof (G : Gl) (n : Nat) (K : Nat → Nat) (hK : K = G.ad) (p0 : Nat) (p1 : Int32) (h : AH) : OkM G yX0_proof cX0_proof 2 (some .int) 8 cvI [.ref p0, .int p1] h (F_X0_proof n K p0 p1 h) := by
  refine ok_of_sim [(0, .ref p0), (1, .int p1)] (by decide +kernel) (fun r => ⟨_, rfl⟩) (by simp [uns, lv_args, lg_sl, catI, catL, catA, va_rfc]) (by simp [uns, lv_args, lg_sl, catI, catL, catA, va_rfc]) (by simp [uns, lv_args, lg_sl, catI, catL, catA, va_rfc]) ?_
  unfold F_X0_proof
  refine s_aload_n dX0_proof_0 0 rfl ?_
  refine s_chk (fun hk3 => ?_)
  refine s_callV_V 0 (kX0_findMiddles G n K hK p0 h) (by decide) (by decide) dX0_proof_1 hk3 rfl rfl q944 q946 qs26 q103 q947 hyX0_findMiddles rfl rfl (Nat.le_of_ble_eq_true rfl) (fun r1 h2 => ?_)
  refine s_iload_n dX0_proof_4 1 rfl ?_
  refine s_iconst (0 : Int32) dX0_proof_5 (by decide) ?_
  refine s_iconst (2 : Int32) dX0_proof_6 (by decide) ?_
  refine s_callS_I (kX0_in G n K hK p1 (0 : Int32) (2 : Int32) h2) (by decide) (by decide) dX0_proof_7 q335 q336 q103 q337 hyX0_in rfl rfl (Nat.le_of_ble_eq_true rfl) (fun r4 h5 => ?_)
  refine s_if_eq 32 dX0_proof_10 (by decide) (fun c6 => ?_) (fun c6 => ?_)
  · refine s_iconst (-1 : Int32) dX0_proof_32 (by decide) ?_
    exact s_iret dX0_proof_33 rfl rfl
  · refine s_aload_n dX0_proof_13 0 rfl ?_
    refine s_chk (fun hk7 => ?_)
    refine s_get (j := 10) 0 (va_rf (h5.R p0 10)) dX0_proof_14 hk7 rfl (by decide) q243 (Or.inl rfl) rfl ?_
    refine s_iconst (0 : Int32) dX0_proof_17 (by decide) ?_
    refine s_ob (r := h5.R p0 10) (fun z => [(0, .ref p0), (1, .int p1)]) (fun z => [.int (0 : Int32), z]) (fun a8 => ?_)
    refine s_chk (fun hk9 => ?_)
    refine s_chk (fun hi10 => ?_)
    refine s_iald dX0_proof_18 hk9 rfl hi10 ?_
    refine s_iconst (-1 : Int32) dX0_proof_19 (by decide) ?_
    refine s_icmp_eq 32 dX0_proof_20 (by decide) (fun c11 => ?_) (fun c11 => ?_)
    · refine s_iconst (-1 : Int32) dX0_proof_32 (by decide) ?_
      exact s_iret dX0_proof_33 rfl rfl
    · refine s_aload_n dX0_proof_23 0 rfl ?_
      refine s_get (j := 10) 0 (va_rf (h5.R p0 10)) dX0_proof_24 hk7 rfl (by decide) q243 (Or.inl rfl) rfl ?_
      refine s_iload_n dX0_proof_27 1 rfl ?_
      refine s_ob (r := h5.R p0 10) (fun z => [(0, .ref p0), (1, .int p1)]) (fun z => [.int p1, z]) (fun a12 => ?_)
      refine s_chk (fun hk13 => ?_)
      refine s_chk (fun hi14 => ?_)
      refine s_iald dX0_proof_28 hk13 rfl hi14 ?_
      refine s_goto 33 dX0_proof_29 (by decide) ?_
      exact s_iret dX0_proof_33 rfl rfl
theorem hyX0_findRound : yX0_findRound.cls ≠ "java/lang/invoke/MethodHandle" ∧ yX0_findRound.cls ≠ "java/lang/invoke/VarHandle" ∧ (parseMethodDescriptor yX0_findRound.desc).map (fun d => d.parameters.length) = some 0 := by decide +kernel
theorem sX0_findRound_L48 (G : Gl) (n : Nat) (K : Nat → Nat) (hK : K = G.ad) (y33 : Int32) (y34 : Int32) (y35 : Nat) : ∀ (f : Nat) (x30 : Int32) (x31 : Int64) (x32 : Int64) (h : AH) (k : Int64 → Int64 → AH → Option (Unit × AH)) (hk : ∀ (x31 : Int64) (x32 : Int64) (h : AH), Sim G yX0_findRound.cls yX0_findRound.name cX0_findRound 13 none 7 cvV 159 [(1005, .long x31), (1003, .long x32), (2, .int y33), (1, .int y34), (0, .ref y35)] [] h (k x31 x32 h)), Sim G yX0_findRound.cls yX0_findRound.name cX0_findRound 13 none 7 cvV 48 [(7, .int x30), (1005, .long x31), (1003, .long x32), (2, .int y33), (1, .int y34), (0, .ref y35)] [] h (F_X0_findRound_L48 n K y33 y34 y35 f x30 x31 x32 h k) := by
  intro f
  induction f with
  | zero =>
    intro x30 x31 x32 h k hk
    exact s_none
  | succ f ih =>
    intro x30 x31 x32 h k hk
    unfold F_X0_findRound_L48
    refine s_iload dX0_findRound_48 0 rfl (by decide) ?_
    refine s_aload_n dX0_findRound_50 5 rfl ?_
    refine s_chk (fun hk36 => ?_)
    refine s_get (j := 8) 0 (va_rf (h.R y35 8)) dX0_findRound_51 hk36 rfl (by decide) q241 (Or.inl rfl) rfl ?_
    refine s_ob (r := h.R y35 8) (fun z => [(7, .int x30), (1005, .long x31), (1003, .long x32), (2, .int y33), (1, .int y34), (0, .ref y35)]) (fun z => [z, .int x30]) (fun a37 => ?_)
    refine s_chk (fun hk40 => ?_)
    refine s_callV_I 2 (kJ2_size G n K hK a37 h) (by decide) (by decide) dX0_findRound_54 hk40 rfl rfl q732 q552 q553 q107 q554 hyJ2_size rfl rfl (Nat.le_of_ble_eq_true rfl) (fun r38 h39 => ?_)
    refine s_icmp_ge 159 dX0_findRound_57 (by decide) (fun c41 => ?_) (fun c41 => ?_)
    · refine s_sub [1, 2, 3, 4, 5] rfl ?_
      exact hk x31 x32 h39
    · refine s_aload_n dX0_findRound_60 5 rfl ?_
      refine s_chk (fun hk42 => ?_)
      refine s_get (j := 8) 0 (va_rf (h39.R y35 8)) dX0_findRound_61 hk42 rfl (by decide) q241 (Or.inl rfl) rfl ?_
      refine s_iload dX0_findRound_64 0 rfl (by decide) ?_
      refine s_ob (r := h39.R y35 8) (fun z => [(7, .int x30), (1005, .long x31), (1003, .long x32), (2, .int y33), (1, .int y34), (0, .ref y35)]) (fun z => [.int x30, z]) (fun a43 => ?_)
      refine s_chk (fun hk46 => ?_)
      refine s_callV_R 2 (kJ2_get G n K hK a43 x30 h39) (by decide) (by decide) dX0_findRound_66 hk46 rfl rfl q733 q734 q735 q107 q736 hyJ2_get rfl rfl (Nat.le_of_ble_eq_true rfl) (fun r44 h45 => ?_)
      refine s_ob (r := r44) (fun z => [(7, .int x30), (1005, .long x31), (1003, .long x32), (2, .int y33), (1, .int y34), (0, .ref y35)]) (fun z => [z]) (fun a47 => ?_)
      refine s_chk (fun hk48 => ?_)
      refine s_cast 11 dX0_findRound_69 hk48 rfl q883 ?_
      refine s_astore [(8, .ref a47), (7, .int x30), (1005, .long x31), (1003, .long x32), (2, .int y33), (1, .int y34), (0, .ref y35)] dX0_findRound_72 (by decide) (by decide) rfl ?_
      refine s_aload dX0_findRound_74 0 rfl (by decide) ?_
      refine s_getN (j := 0) 11 (.long (h45.L a47 0)) dX0_findRound_76 hk48 rfl (by decide) q897 (Or.inl rfl) rfl ?_
      refine s_iload_n dX0_findRound_79 5 rfl ?_
      refine s_i2l dX0_findRound_80 ?_
      refine s_lmul dX0_findRound_81 ?_
      refine s_aload dX0_findRound_82 0 rfl (by decide) ?_
      refine s_getN (j := 1) 11 (.long (h45.L a47 1)) dX0_findRound_84 hk48 rfl (by decide) q900 (Or.inl rfl) rfl ?_
      refine s_iload_n dX0_findRound_87 4 rfl ?_
      refine s_i2l dX0_findRound_88 ?_
      refine s_lmul dX0_findRound_89 ?_
      refine s_ladd dX0_findRound_90 ?_
      refine s_aload dX0_findRound_91 0 rfl (by decide) ?_
      refine s_getN (j := 2) 11 (.long (h45.L a47 2)) dX0_findRound_93 hk48 rfl (by decide) q903 (Or.inl rfl) rfl ?_
      refine s_lsub dX0_findRound_96 ?_
      refine s_lstore [(1009, .long ((((h45.L a47 0) * y34.toInt64) + ((h45.L a47 1) * y33.toInt64)) - (h45.L a47 2))), (8, .ref a47), (7, .int x30), (1005, .long x31), (1003, .long x32), (2, .int y33), (1, .int y34), (0, .ref y35)] dX0_findRound_97 (by decide) (by decide) rfl ?_
      refine s_aload dX0_findRound_99 1 rfl (by decide) ?_
      refine s_getN (j := 0) 11 (.long (h45.L a47 0)) dX0_findRound_101 hk48 rfl (by decide) q897 (Or.inl rfl) rfl ?_
      refine s_aload dX0_findRound_104 1 rfl (by decide) ?_
      refine s_getN (j := 0) 11 (.long (h45.L a47 0)) dX0_findRound_106 hk48 rfl (by decide) q897 (Or.inl rfl) rfl ?_
      refine s_lmul dX0_findRound_109 ?_
      refine s_aload dX0_findRound_110 1 rfl (by decide) ?_
      refine s_getN (j := 1) 11 (.long (h45.L a47 1)) dX0_findRound_112 hk48 rfl (by decide) q900 (Or.inl rfl) rfl ?_
      refine s_aload dX0_findRound_115 1 rfl (by decide) ?_
      refine s_getN (j := 1) 11 (.long (h45.L a47 1)) dX0_findRound_117 hk48 rfl (by decide) q900 (Or.inl rfl) rfl ?_
      refine s_lmul dX0_findRound_120 ?_
      refine s_ladd dX0_findRound_121 ?_
      refine s_lstore [(1011, .long (((h45.L a47 0) * (h45.L a47 0)) + ((h45.L a47 1) * (h45.L a47 1)))), (1009, .long ((((h45.L a47 0) * y34.toInt64) + ((h45.L a47 1) * y33.toInt64)) - (h45.L a47 2))), (8, .ref a47), (7, .int x30), (1005, .long x31), (1003, .long x32), (2, .int y33), (1, .int y34), (0, .ref y35)] dX0_findRound_122 (by decide) (by decide) rfl ?_
      refine s_lload dX0_findRound_124 1 rfl ?_
      refine s_lload dX0_findRound_126 1 rfl ?_
      refine s_lmul dX0_findRound_128 ?_
      refine s_lload dX0_findRound_129 4 rfl ?_
      refine s_lmul dX0_findRound_131 ?_
      refine s_lload_n dX0_findRound_132 5 rfl ?_
      refine s_lload dX0_findRound_133 0 rfl ?_
      refine s_lmul dX0_findRound_135 ?_
      refine s_lcmp dX0_findRound_136 ?_
      refine s_if_gt 143 dX0_findRound_137 (by decide) (fun c49 => ?_) (fun c49 => ?_)
      · refine s_lload dX0_findRound_143 1 rfl ?_
        refine s_lload dX0_findRound_145 1 rfl ?_
        refine s_lmul dX0_findRound_147 ?_
        refine s_lstore_n [(1003, .long (((((h45.L a47 0) * y34.toInt64) + ((h45.L a47 1) * y33.toInt64)) - (h45.L a47 2)) * ((((h45.L a47 0) * y34.toInt64) + ((h45.L a47 1) * y33.toInt64)) - (h45.L a47 2)))), (1011, .long (((h45.L a47 0) * (h45.L a47 0)) + ((h45.L a47 1) * (h45.L a47 1)))), (1009, .long ((((h45.L a47 0) * y34.toInt64) + ((h45.L a47 1) * y33.toInt64)) - (h45.L a47 2))), (8, .ref a47), (7, .int x30), (1005, .long x31), (2, .int y33), (1, .int y34), (0, .ref y35)] dX0_findRound_148 (by decide) (by decide) rfl ?_
        refine s_lload dX0_findRound_149 1 rfl ?_
        refine s_lstore [(1005, .long (((h45.L a47 0) * (h45.L a47 0)) + ((h45.L a47 1) * (h45.L a47 1)))), (1003, .long (((((h45.L a47 0) * y34.toInt64) + ((h45.L a47 1) * y33.toInt64)) - (h45.L a47 2)) * ((((h45.L a47 0) * y34.toInt64) + ((h45.L a47 1) * y33.toInt64)) - (h45.L a47 2)))), (1011, .long (((h45.L a47 0) * (h45.L a47 0)) + ((h45.L a47 1) * (h45.L a47 1)))), (1009, .long ((((h45.L a47 0) * y34.toInt64) + ((h45.L a47 1) * y33.toInt64)) - (h45.L a47 2))), (8, .ref a47), (7, .int x30), (2, .int y33), (1, .int y34), (0, .ref y35)] dX0_findRound_151 (by decide) (by decide) rfl ?_
        refine s_iinc (1 : Int32) [(7, .int (x30 + (1 : Int32))), (1005, .long (((h45.L a47 0) * (h45.L a47 0)) + ((h45.L a47 1) * (h45.L a47 1)))), (1003, .long (((((h45.L a47 0) * y34.toInt64) + ((h45.L a47 1) * y33.toInt64)) - (h45.L a47 2)) * ((((h45.L a47 0) * y34.toInt64) + ((h45.L a47 1) * y33.toInt64)) - (h45.L a47 2)))), (1011, .long (((h45.L a47 0) * (h45.L a47 0)) + ((h45.L a47 1) * (h45.L a47 1)))), (1009, .long ((((h45.L a47 0) * y34.toInt64) + ((h45.L a47 1) * y33.toInt64)) - (h45.L a47 2))), (8, .ref a47), (2, .int y33), (1, .int y34), (0, .ref y35)] dX0_findRound_153 5 rfl (by decide) (by decide) (by decide) rfl ?_
        refine s_goto 48 dX0_findRound_156 (by decide) ?_
        refine s_sub [0, 1, 2, 6, 7, 8] rfl ?_
        exact ih (x30 + (1 : Int32)) (((h45.L a47 0) * (h45.L a47 0)) + ((h45.L a47 1) * (h45.L a47 1))) (((((h45.L a47 0) * y34.toInt64) + ((h45.L a47 1) * y33.toInt64)) - (h45.L a47 2)) * ((((h45.L a47 0) * y34.toInt64) + ((h45.L a47 1) * y33.toInt64)) - (h45.L a47 2))) h45 k hk
      · refine s_goto 153 dX0_findRound_140 (by decide) ?_
        refine s_iinc (1 : Int32) [(7, .int (x30 + (1 : Int32))), (1011, .long (((h45.L a47 0) * (h45.L a47 0)) + ((h45.L a47 1) * (h45.L a47 1)))), (1009, .long ((((h45.L a47 0) * y34.toInt64) + ((h45.L a47 1) * y33.toInt64)) - (h45.L a47 2))), (8, .ref a47), (1005, .long x31), (1003, .long x32), (2, .int y33), (1, .int y34), (0, .ref y35)] dX0_findRound_153 3 rfl (by decide) (by decide) (by decide) rfl ?_
        refine s_goto 48 dX0_findRound_156 (by decide) ?_
        refine s_sub [0, 4, 5, 6, 7, 8] rfl ?_
        exact ih (x30 + (1 : Int32)) x31 x32 h45 k hk
theorem sX0_findRound_L34 (G : Gl) (n : Nat) (K : Nat → Nat) (hK : K = G.ad) (y26 : Int32) (y27 : Nat) : ∀ (f : Nat) (x25 : Int32) (h : AH) (k : AH → Option (Unit × AH)) (hk : ∀ (h : AH), Sim G yX0_findRound.cls yX0_findRound.name cX0_findRound 13 none 7 cvV 217 [(1, .int y26), (0, .ref y27)] [] h (k h)), Sim G yX0_findRound.cls yX0_findRound.name cX0_findRound 13 none 7 cvV 34 [(2, .int x25), (1, .int y26), (0, .ref y27)] [] h (F_X0_findRound_L34 n K y26 y27 f x25 h k) := by
  intro f
  induction f with
  | zero =>
    intro x25 h k hk
    exact s_none
  | succ f ih =>
    intro x25 h k hk
    unfold F_X0_findRound_L34
    refine s_iload_n dX0_findRound_34 0 rfl ?_
    refine s_bipush (100 : Int32) dX0_findRound_35 (by decide) ?_
    refine s_icmp_ge 217 dX0_findRound_37 (by decide) (fun c28 => ?_) (fun c28 => ?_)
    · refine s_sub [1, 2] rfl ?_
      exact hk h
    · refine s_lconst (0 : Int64) dX0_findRound_40 (by decide) ?_
      refine s_lstore_n [(1003, .long (0 : Int64)), (2, .int x25), (1, .int y26), (0, .ref y27)] dX0_findRound_41 (by decide) (by decide) rfl ?_
      refine s_lconst (1 : Int64) dX0_findRound_42 (by decide) ?_
      refine s_lstore [(1005, .long (1 : Int64)), (1003, .long (0 : Int64)), (2, .int x25), (1, .int y26), (0, .ref y27)] dX0_findRound_43 (by decide) (by decide) rfl ?_
      refine s_iconst (0 : Int32) dX0_findRound_45 (by decide) ?_
      refine s_istore [(7, .int (0 : Int32)), (1005, .long (1 : Int64)), (1003, .long (0 : Int64)), (2, .int x25), (1, .int y26), (0, .ref y27)] dX0_findRound_46 (by decide) (by decide) rfl ?_
      refine sX0_findRound_L48 G n K hK x25 y26 y27 n (0 : Int32) (1 : Int64) (0 : Int64) h _ ?_
      intro x50 x51 h52
      refine s_aload_n dX0_findRound_159 4 rfl ?_
      refine s_chk (fun hk53 => ?_)
      refine s_get (j := 16) 0 (.long (h52.L y27 16)) dX0_findRound_160 hk53 rfl (by decide) q249 (Or.inl rfl) rfl ?_
      refine s_ldc2 (v := (-1 : Int64)) dX0_findRound_163 q1014 ?_
      refine s_lcmp dX0_findRound_166 ?_
      refine s_jn (fun j54 => Sim G yX0_findRound.cls yX0_findRound.name cX0_findRound 13 none 7 cvV 190 [(1005, .long x50), (1003, .long x51), (2, .int x25), (1, .int y26), (0, .ref y27)] [] h52 (j54 )) ?_ (fun j54 hj63 => ?_)
      · skip
        refine s_aload_n dX0_findRound_190 4 rfl ?_
        refine s_lload_n dX0_findRound_191 1 rfl ?_
        refine s_put (j := 16) 0 (v := .long x51) dX0_findRound_192 hk53 rfl (by decide) q249 (Or.inl rfl) rfl rfl rfl (Upd.l (fun _ => rfl)) ?_
        refine s_hl (fun h55 e56 => ?_)
        refine s_aload_n dX0_findRound_195 4 rfl ?_
        refine s_lload dX0_findRound_196 0 rfl ?_
        refine s_put (j := 17) 0 (v := .long x50) dX0_findRound_198 (show h55.kind y27 = 1 by rw [e56]; exact hk53) rfl (by decide) q250 (Or.inl rfl) rfl rfl rfl (Upd.l (fun _ => rfl)) ?_
        refine s_hl (fun h57 e58 => ?_)
        refine s_aload_n dX0_findRound_201 4 rfl ?_
        refine s_iload_n dX0_findRound_202 3 rfl ?_
        refine s_put (j := 14) 0 (v := .int y26) dX0_findRound_203 (show h57.kind y27 = 1 by rw [e58, e56]; exact hk53) rfl (by decide) q247 (Or.inl rfl) rfl rfl rfl (Upd.i (fun _ => rfl)) ?_
        refine s_hl (fun h59 e60 => ?_)
        refine s_aload_n dX0_findRound_206 4 rfl ?_
        refine s_iload_n dX0_findRound_207 2 rfl ?_
        refine s_put (j := 15) 0 (v := .int x25) dX0_findRound_208 (show h59.kind y27 = 1 by rw [e60, e58, e56]; exact hk53) rfl (by decide) q248 (Or.inl rfl) rfl rfl rfl (Upd.i (fun _ => rfl)) ?_
        refine s_hl (fun h61 e62 => ?_)
        refine s_iinc (1 : Int32) [(2, .int (x25 + (1 : Int32))), (1005, .long x50), (1003, .long x51), (1, .int y26), (0, .ref y27)] dX0_findRound_211 2 rfl (by decide) (by decide) (by decide) rfl ?_
        refine s_goto 34 dX0_findRound_214 (by decide) ?_
        refine s_sub [0, 3, 4] rfl ?_
        exact ih (x25 + (1 : Int32)) h61 k hk
      refine s_if_eq 190 dX0_findRound_167 (by decide) (fun c64 => ?_) (fun c64 => ?_)
      · exact hj63
      · refine s_lload_n dX0_findRound_170 1 rfl ?_
        refine s_aload_n dX0_findRound_171 4 rfl ?_
        refine s_get (j := 17) 0 (.long (h52.L y27 17)) dX0_findRound_172 hk53 rfl (by decide) q250 (Or.inl rfl) rfl ?_
        refine s_lmul dX0_findRound_175 ?_
        refine s_aload_n dX0_findRound_176 4 rfl ?_
        refine s_get (j := 16) 0 (.long (h52.L y27 16)) dX0_findRound_177 hk53 rfl (by decide) q249 (Or.inl rfl) rfl ?_
        refine s_lload dX0_findRound_180 0 rfl ?_
        refine s_lmul dX0_findRound_182 ?_
        refine s_lcmp dX0_findRound_183 ?_
        refine s_if_lt 190 dX0_findRound_184 (by decide) (fun c65 => ?_) (fun c65 => ?_)
        · exact hj63
        · refine s_goto 211 dX0_findRound_187 (by decide) ?_
          refine s_iinc (1 : Int32) [(2, .int (x25 + (1 : Int32))), (1005, .long x50), (1003, .long x51), (1, .int y26), (0, .ref y27)] dX0_findRound_211 2 rfl (by decide) (by decide) (by decide) rfl ?_
          refine s_goto 34 dX0_findRound_214 (by decide) ?_
          refine s_sub [0, 3, 4] rfl ?_
          exact ih (x25 + (1 : Int32)) h52 k hk
theorem sX0_findRound_L26 (G : Gl) (n : Nat) (K : Nat → Nat) (hK : K = G.ad) (y12 : Nat) : ∀ (f : Nat) (x11 : Int32) (h : AH), Sim G yX0_findRound.cls yX0_findRound.name cX0_findRound 13 none 7 cvV 26 [(1, .int x11), (0, .ref y12)] [] h (F_X0_findRound_L26 n K y12 f x11 h) := by
  intro f
  induction f with
  | zero =>
    intro x11 h
    exact s_none
  | succ f ih =>
    intro x11 h
    unfold F_X0_findRound_L26
    refine s_iload_n dX0_findRound_26 0 rfl ?_
    refine s_bipush (100 : Int32) dX0_findRound_27 (by decide) ?_
    refine s_icmp_ge 223 dX0_findRound_29 (by decide) (fun c13 => ?_) (fun c13 => ?_)
    · refine s_aload_n dX0_findRound_223 1 rfl ?_
      refine s_chk (fun hk14 => ?_)
      refine s_get (j := 16) 0 (.long (h.L y12 16)) dX0_findRound_224 hk14 rfl (by decide) q249 (Or.inl rfl) rfl ?_
      refine s_aload_n dX0_findRound_227 1 rfl ?_
      refine s_get (j := 17) 0 (.long (h.L y12 17)) dX0_findRound_228 hk14 rfl (by decide) q250 (Or.inl rfl) rfl ?_
      refine s_callS_L (kX0_common G n K hK (h.L y12 16) (h.L y12 17) h) (by decide) (by decide) dX0_findRound_231 q1015 q890 q103 q891 hyX0_common rfl rfl (Nat.le_of_ble_eq_true rfl) (fun r15 h16 => ?_)
      refine s_lstore_n [(1001, .long r15), (0, .ref y12)] dX0_findRound_234 (by decide) (by decide) rfl ?_
      refine s_aload_n dX0_findRound_235 1 rfl ?_
      refine s_dup dX0_findRound_236 rfl ?_
      refine s_chk (fun hk17 => ?_)
      refine s_get (j := 16) 0 (.long (h16.L y12 16)) dX0_findRound_237 hk17 rfl (by decide) q249 (Or.inl rfl) rfl ?_
      refine s_lload_n dX0_findRound_240 0 rfl ?_
      refine s_chk (fun hz18 => ?_)
      refine s_ldiv dX0_findRound_241 hz18 ?_
      refine s_put (j := 16) 0 (v := .long ((h16.L y12 16) / r15)) dX0_findRound_242 hk17 rfl (by decide) q249 (Or.inl rfl) rfl rfl rfl (Upd.l (fun _ => rfl)) ?_
      refine s_hl (fun h19 e20 => ?_)
      refine s_aload_n dX0_findRound_245 1 rfl ?_
      refine s_dup dX0_findRound_246 rfl ?_
      refine s_get (j := 17) 0 (.long (h19.L y12 17)) dX0_findRound_247 (show h19.kind y12 = 1 by rw [e20]; exact hk17) rfl (by decide) q250 (Or.inl rfl) rfl ?_
      refine s_lload_n dX0_findRound_250 0 rfl ?_
      refine s_chk (fun hz21 => ?_)
      refine s_ldiv dX0_findRound_251 hz21 ?_
      refine s_put (j := 17) 0 (v := .long ((h19.L y12 17) / r15)) dX0_findRound_252 (show h19.kind y12 = 1 by rw [e20]; exact hk17) rfl (by decide) q250 (Or.inl rfl) rfl rfl rfl (Upd.l (fun _ => rfl)) ?_
      refine s_hl (fun h22 e23 => ?_)
      exact s_vret dX0_findRound_255 rfl rfl
    · refine s_iconst (0 : Int32) dX0_findRound_32 (by decide) ?_
      refine s_istore_n [(2, .int (0 : Int32)), (1, .int x11), (0, .ref y12)] dX0_findRound_33 (by decide) (by decide) rfl ?_
      refine sX0_findRound_L34 G n K hK x11 y12 n (0 : Int32) h _ ?_
      intro h66
      refine s_iinc (1 : Int32) [(1, .int (x11 + (1 : Int32))), (0, .ref y12)] dX0_findRound_217 0 rfl (by decide) (by decide) (by decide) rfl ?_
      refine s_goto 26 dX0_findRound_220 (by decide) ?_
      exact ih (x11 + (1 : Int32)) h66
theorem kX0_findRound (G : Gl) (n : Nat) (K : Nat → Nat) (hK : K = G.ad) (p0 : Nat) (h : AH) : OkM G yX0_findRound cX0_findRound 13 none 7 cvV [.ref p0] h (F_X0_findRound n K p0 h) := by
  refine ok_of_sim [(0, .ref p0)] (by decide +kernel) (fun r => ⟨_, rfl⟩) (by simp [uns, lv_args, lg_sl, catI, catL, catA, va_rfc]) (by simp [uns, lv_args, lg_sl, catI, catL, catA, va_rfc]) (by simp [uns, lv_args, lg_sl, catI, catL, catA, va_rfc]) ?_
  unfold F_X0_findRound
  refine s_aload_n dX0_findRound_0 0 rfl ?_
  refine s_chk (fun hk1 => ?_)
  refine s_get (j := 13) 0 (.int (h.I p0 13)) dX0_findRound_1 hk1 rfl (by decide) q246 (Or.inl rfl) rfl ?_
  refine s_if_eq 8 dX0_findRound_4 (by decide) (fun c2 => ?_) (fun c2 => ?_)
  · refine s_aload_n dX0_findRound_8 0 rfl ?_
    refine s_callV_V 0 (kX0_findLines G n K hK p0 h) (by decide) (by decide) dX0_findRound_9 hk1 rfl rfl q879 q881 qs23 q103 q882 hyX0_findLines rfl rfl (Nat.le_of_ble_eq_true rfl) (fun r3 h4 => ?_)
    refine s_aload_n dX0_findRound_12 0 rfl ?_
    refine s_iconst (1 : Int32) dX0_findRound_13 (by decide) ?_
    refine s_chk (fun hk5 => ?_)
    refine s_put (j := 13) 0 (v := .int (1 : Int32)) dX0_findRound_14 hk5 rfl (by decide) q246 (Or.inl rfl) rfl rfl rfl (Upd.i (fun _ => rfl)) ?_
    refine s_hl (fun h6 e7 => ?_)
    refine s_aload_n dX0_findRound_17 0 rfl ?_
    refine s_ldc2 (v := (-1 : Int64)) dX0_findRound_18 q1014 ?_
    refine s_put (j := 16) 0 (v := .long (-1 : Int64)) dX0_findRound_21 (show h6.kind p0 = 1 by rw [e7]; exact hk5) rfl (by decide) q249 (Or.inl rfl) rfl rfl rfl (Upd.l (fun _ => rfl)) ?_
    refine s_hl (fun h8 e9 => ?_)
    refine s_iconst (0 : Int32) dX0_findRound_24 (by decide) ?_
    refine s_istore_n [(1, .int (0 : Int32)), (0, .ref p0)] dX0_findRound_25 (by decide) (by decide) rfl ?_
    exact sX0_findRound_L26 G n K hK p0 n (0 : Int32) h8
  · exact s_vret dX0_findRound_7 rfl rfl
theorem hyX0_round : yX0_round.cls ≠ "java/lang/invoke/MethodHandle" ∧ yX0_round.cls ≠ "java/lang/invoke/VarHandle" ∧ (parseMethodDescriptor yX0_round.desc).map (fun d => d.parameters.length) = some 1 := by decide +kernel
theorem kX0_round (G : Gl) (n : Nat) (K : Nat → Nat) (hK : K = G.ad) (p0 : Nat) (p1 : Int32) (h : AH) : OkM G yX0_round cX0_round 2 (some .int) 8 cvI [.ref p0, .int p1] h (F_X0_round n K p0 p1 h) := by
  refine ok_of_sim [(0, .ref p0), (1, .int p1)] (by decide +kernel) (fun r => ⟨_, rfl⟩) (by simp [uns, lv_args, lg_sl, catI, catL, catA, va_rfc]) (by simp [uns, lv_args, lg_sl, catI, catL, catA, va_rfc]) (by simp [uns, lv_args, lg_sl, catI, catL, catA, va_rfc]) ?_
  unfold F_X0_round
  refine s_aload_n dX0_round_0 0 rfl ?_
  refine s_chk (fun hk1 => ?_)
  refine s_get (j := 2) 0 (va_rf (h.R p0 2)) dX0_round_1 hk1 rfl (by decide) q235 (Or.inl rfl) rfl ?_
  refine s_ob (r := h.R p0 2) (fun z => [(0, .ref p0), (1, .int p1)]) (fun z => [z]) (fun a2 => ?_)
  refine s_chk (fun hk5 => ?_)
  refine s_callV_I 2 (kJ2_isEmpty G n K hK a2 h) (by decide) (by decide) dX0_round_4 hk5 rfl rfl q787 q723 q724 q107 q725 hyJ2_isEmpty rfl rfl (Nat.le_of_ble_eq_true rfl) (fun r3 h4 => ?_)
  refine s_if_ne 19 dX0_round_7 (by decide) (fun c6 => ?_) (fun c6 => ?_)
  · refine s_iconst (-1 : Int32) dX0_round_19 (by decide) ?_
    exact s_iret dX0_round_20 rfl rfl
  · refine s_iload_n dX0_round_10 1 rfl ?_
    refine s_iconst (0 : Int32) dX0_round_11 (by decide) ?_
    refine s_iconst (3 : Int32) dX0_round_12 (by decide) ?_
    refine s_callS_I (kX0_in G n K hK p1 (0 : Int32) (3 : Int32) h4) (by decide) (by decide) dX0_round_13 q335 q336 q103 q337 hyX0_in rfl rfl (Nat.le_of_ble_eq_true rfl) (fun r7 h8 => ?_)
    refine s_if_ne 21 dX0_round_16 (by decide) (fun c9 => ?_) (fun c9 => ?_)
    · refine s_aload_n dX0_round_21 0 rfl ?_
      refine s_chk (fun hk12 => ?_)
      refine s_callV_V 0 (kX0_findRound G n K hK p0 h8) (by decide) (by decide) dX0_round_22 hk12 rfl rfl q1010 q1012 qs30 q103 q1013 hyX0_findRound rfl rfl (Nat.le_of_ble_eq_true rfl) (fun r10 h11 => ?_)
      refine s_iload_n dX0_round_25 1 rfl ?_
      refine s_if_ne 36 dX0_round_26 (by decide) (fun c13 => ?_) (fun c13 => ?_)
      · refine s_iload_n dX0_round_36 1 rfl ?_
        refine s_iconst (1 : Int32) dX0_round_37 (by decide) ?_
        refine s_icmp_ne 48 dX0_round_38 (by decide) (fun c14 => ?_) (fun c14 => ?_)
        · refine s_iload_n dX0_round_48 1 rfl ?_
          refine s_iconst (2 : Int32) dX0_round_49 (by decide) ?_
          refine s_icmp_ne 60 dX0_round_50 (by decide) (fun c15 => ?_) (fun c15 => ?_)
          · refine s_aload_n dX0_round_60 0 rfl ?_
            refine s_chk (fun hk16 => ?_)
            refine s_get (j := 17) 0 (.long (h11.L p0 17)) dX0_round_61 hk16 rfl (by decide) q250 (Or.inl rfl) rfl ?_
            refine s_l2i dX0_round_64 ?_
            exact s_iret dX0_round_65 rfl rfl
          · refine s_aload_n dX0_round_53 0 rfl ?_
            refine s_chk (fun hk17 => ?_)
            refine s_get (j := 16) 0 (.long (h11.L p0 16)) dX0_round_54 hk17 rfl (by decide) q249 (Or.inl rfl) rfl ?_
            refine s_goto 64 dX0_round_57 (by decide) ?_
            refine s_l2i dX0_round_64 ?_
            exact s_iret dX0_round_65 rfl rfl
        · refine s_aload_n dX0_round_41 0 rfl ?_
          refine s_chk (fun hk18 => ?_)
          refine s_get (j := 15) 0 (.int (h11.I p0 15)) dX0_round_42 hk18 rfl (by decide) q248 (Or.inl rfl) rfl ?_
          refine s_goto 65 dX0_round_45 (by decide) ?_
          exact s_iret dX0_round_65 rfl rfl
      · refine s_aload_n dX0_round_29 0 rfl ?_
        refine s_chk (fun hk19 => ?_)
        refine s_get (j := 14) 0 (.int (h11.I p0 14)) dX0_round_30 hk19 rfl (by decide) q247 (Or.inl rfl) rfl ?_
        refine s_goto 65 dX0_round_33 (by decide) ?_
        exact s_iret dX0_round_65 rfl rfl
    · refine s_iconst (-1 : Int32) dX0_round_19 (by decide) ?_
      exact s_iret dX0_round_20 rfl rfl
theorem hyX0_spreads : yX0_spreads.cls ≠ "java/lang/invoke/MethodHandle" ∧ yX0_spreads.cls ≠ "java/lang/invoke/VarHandle" ∧ (parseMethodDescriptor yX0_spreads.desc).map (fun d => d.parameters.length) = some 3 := by decide +kernel
theorem kX0_spreads (G : Gl) (n : Nat) (K : Nat → Nat) (hK : K = G.ad) (p0 : Nat) (p1 : Int32) (p2 : Int32) (p3 : Int32) (h : AH) : OkM G yX0_spreads cX0_spreads 4 (some .int) 3 cvI [.ref p0, .int p1, .int p2, .int p3] h (F_X0_spreads n K p0 p1 p2 p3 h) := by
  refine ok_of_sim [(0, .ref p0), (1, .int p1), (2, .int p2), (3, .int p3)] (by decide +kernel) (fun r => ⟨_, rfl⟩) (by simp [uns, lv_args, lg_sl, catI, catL, catA, va_rfc]) (by simp [uns, lv_args, lg_sl, catI, catL, catA, va_rfc]) (by simp [uns, lv_args, lg_sl, catI, catL, catA, va_rfc]) ?_
  unfold F_X0_spreads
  refine s_iload_n dX0_spreads_0 1 rfl ?_
  refine s_iload_n dX0_spreads_1 2 rfl ?_
  refine s_callS_I (kX0_isPoint G n K hK p1 p2 h) (by decide) (by decide) dX0_spreads_2 q788 q789 q103 q790 hyX0_isPoint rfl rfl (Nat.le_of_ble_eq_true rfl) (fun r1 h2 => ?_)
  refine s_if_eq 24 dX0_spreads_5 (by decide) (fun c3 => ?_) (fun c3 => ?_)
  · refine s_iload_n dX0_spreads_24 3 rfl ?_
    exact s_iret dX0_spreads_25 rfl rfl
  · refine s_aload_n dX0_spreads_8 0 rfl ?_
    refine s_chk (fun hk4 => ?_)
    refine s_get (j := 19) 0 (va_rf (h2.R p0 19)) dX0_spreads_9 hk4 rfl (by decide) q252 (Or.inl rfl) rfl ?_
    refine s_bipush (100 : Int32) dX0_spreads_12 (by decide) ?_
    refine s_iload_n dX0_spreads_14 1 rfl ?_
    refine s_imul dX0_spreads_15 ?_
    refine s_iload_n dX0_spreads_16 2 rfl ?_
    refine s_iadd dX0_spreads_17 ?_
    refine s_ob (r := h2.R p0 19) (fun z => [(0, .ref p0), (1, .int p1), (2, .int p2), (3, .int p3)]) (fun z => [.int (((100 : Int32) * p1) + p2), z]) (fun a5 => ?_)
    refine s_chk (fun hk6 => ?_)
    refine s_chk (fun hi7 => ?_)
    refine s_iald dX0_spreads_18 hk6 rfl hi7 ?_
    refine s_bipush (-2 : Int32) dX0_spreads_19 (by decide) ?_
    refine s_icmp_eq 26 dX0_spreads_21 (by decide) (fun c8 => ?_) (fun c8 => ?_)
    · refine s_aload_n dX0_spreads_26 0 rfl ?_
      refine s_get (j := 19) 0 (va_rf (h2.R p0 19)) dX0_spreads_27 hk4 rfl (by decide) q252 (Or.inl rfl) rfl ?_
      refine s_bipush (100 : Int32) dX0_spreads_30 (by decide) ?_
      refine s_iload_n dX0_spreads_32 1 rfl ?_
      refine s_imul dX0_spreads_33 ?_
      refine s_iload_n dX0_spreads_34 2 rfl ?_
      refine s_iadd dX0_spreads_35 ?_
      refine s_aload_n dX0_spreads_36 0 rfl ?_
      refine s_get (j := 23) 0 (.int (h2.I p0 23)) dX0_spreads_37 hk4 rfl (by decide) q256 (Or.inl rfl) rfl ?_
      refine s_ob (r := h2.R p0 19) (fun z => [(0, .ref p0), (1, .int p1), (2, .int p2), (3, .int p3)]) (fun z => [.int (h2.I p0 23), .int (((100 : Int32) * p1) + p2), z]) (fun a9 => ?_)
      refine s_chk (fun hk10 => ?_)
      refine s_chk (fun hi11 => ?_)
      refine s_iast dX0_spreads_40 hk10 rfl (by decide) hi11 ?_
      refine s_hl (fun h12 e13 => ?_)
      refine s_aload_n dX0_spreads_41 0 rfl ?_
      refine s_get (j := 20) 0 (va_rf (h12.R p0 20)) dX0_spreads_42 (show h12.kind p0 = 1 by rw [e13]; exact hk4) rfl (by decide) q253 (Or.inl rfl) rfl ?_
      refine s_iload_n dX0_spreads_45 3 rfl ?_
      refine s_bipush (100 : Int32) dX0_spreads_46 (by decide) ?_
      refine s_iload_n dX0_spreads_48 1 rfl ?_
      refine s_imul dX0_spreads_49 ?_
      refine s_iload_n dX0_spreads_50 2 rfl ?_
      refine s_iadd dX0_spreads_51 ?_
      refine s_ob (r := h12.R p0 20) (fun z => [(0, .ref p0), (1, .int p1), (2, .int p2), (3, .int p3)]) (fun z => [.int (((100 : Int32) * p1) + p2), .int p3, z]) (fun a14 => ?_)
      refine s_chk (fun hk15 => ?_)
      refine s_chk (fun hi16 => ?_)
      refine s_iast dX0_spreads_52 hk15 rfl (by decide) hi16 ?_
      refine s_hl (fun h17 e18 => ?_)
      refine s_iload_n dX0_spreads_53 3 rfl ?_
      refine s_iconst (1 : Int32) dX0_spreads_54 (by decide) ?_
      refine s_iadd dX0_spreads_55 ?_
      exact s_iret dX0_spreads_56 rfl rfl
    · refine s_iload_n dX0_spreads_24 3 rfl ?_
      exact s_iret dX0_spreads_25 rfl rfl
theorem hyX0_fills : yX0_fills.cls ≠ "java/lang/invoke/MethodHandle" ∧ yX0_fills.cls ≠ "java/lang/invoke/VarHandle" ∧ (parseMethodDescriptor yX0_fills.desc).map (fun d => d.parameters.length) = some 1 := by decide +kernel
theorem sX0_fills_L31 (G : Gl) (n : Nat) (K : Nat → Nat) (hK : K = G.ad) (y20 : Nat) : ∀ (f : Nat) (x18 : Int32) (x19 : Int32) (h : AH), Sim G yX0_fills.cls yX0_fills.name cX0_fills 6 none 4 cvV 31 [(3, .int x18), (2, .int x19), (0, .ref y20)] [] h (F_X0_fills_L31 n K y20 f x18 x19 h) := by
  intro f
  induction f with
  | zero =>
    intro x18 x19 h
    exact s_none
  | succ f ih =>
    intro x18 x19 h
    unfold F_X0_fills_L31
    refine s_iload_n dX0_fills_31 0 rfl ?_
    refine s_iload_n dX0_fills_32 1 rfl ?_
    refine s_icmp_ge 112 dX0_fills_33 (by decide) (fun c21 => ?_) (fun c21 => ?_)
    · refine s_aload_n dX0_fills_112 2 rfl ?_
      refine s_chk (fun hk22 => ?_)
      refine s_get (j := 22) 0 (va_rf (h.R y20 22)) dX0_fills_113 hk22 rfl (by decide) q255 (Or.inl rfl) rfl ?_
      refine s_aload_n dX0_fills_116 2 rfl ?_
      refine s_get (j := 23) 0 (.int (h.I y20 23)) dX0_fills_117 hk22 rfl (by decide) q256 (Or.inl rfl) rfl ?_
      refine s_iload_n dX0_fills_120 1 rfl ?_
      refine s_ob (r := h.R y20 22) (fun z => [(3, .int x18), (2, .int x19), (0, .ref y20)]) (fun z => [.int x19, .int (h.I y20 23), z]) (fun a23 => ?_)
      refine s_chk (fun hk24 => ?_)
      refine s_chk (fun hi25 => ?_)
      refine s_iast dX0_fills_121 hk24 rfl (by decide) hi25 ?_
      refine s_hl (fun h26 e27 => ?_)
      refine s_aload_n dX0_fills_122 2 rfl ?_
      refine s_dup dX0_fills_123 rfl ?_
      refine s_get (j := 23) 0 (.int (h26.I y20 23)) dX0_fills_124 (show h26.kind y20 = 1 by rw [e27]; exact hk22) rfl (by decide) q256 (Or.inl rfl) rfl ?_
      refine s_iconst (1 : Int32) dX0_fills_127 (by decide) ?_
      refine s_iadd dX0_fills_128 ?_
      refine s_put (j := 23) 0 (v := .int ((h26.I y20 23) + (1 : Int32))) dX0_fills_129 (show h26.kind y20 = 1 by rw [e27]; exact hk22) rfl (by decide) q256 (Or.inl rfl) rfl rfl rfl (Upd.i (fun _ => rfl)) ?_
      refine s_hl (fun h28 e29 => ?_)
      exact s_vret dX0_fills_132 rfl rfl
    · refine s_aload_n dX0_fills_36 2 rfl ?_
      refine s_chk (fun hk30 => ?_)
      refine s_get (j := 20) 0 (va_rf (h.R y20 20)) dX0_fills_37 hk30 rfl (by decide) q253 (Or.inl rfl) rfl ?_
      refine s_iload_n dX0_fills_40 0 rfl ?_
      refine s_ob (r := h.R y20 20) (fun z => [(3, .int x18), (2, .int x19), (0, .ref y20)]) (fun z => [.int x18, z]) (fun a31 => ?_)
      refine s_chk (fun hk32 => ?_)
      refine s_chk (fun hi33 => ?_)
      refine s_iald dX0_fills_41 hk32 rfl hi33 ?_
      refine s_bipush (100 : Int32) dX0_fills_42 (by decide) ?_
      refine s_idiv dX0_fills_44 (by decide) ?_
      refine s_istore [(4, .int ((h.I a31 (ix x18)) / (100 : Int32))), (3, .int x18), (2, .int x19), (0, .ref y20)] dX0_fills_45 (by decide) (by decide) rfl ?_
      refine s_aload_n dX0_fills_47 3 rfl ?_
      refine s_get (j := 20) 0 (va_rf (h.R y20 20)) dX0_fills_48 hk30 rfl (by decide) q253 (Or.inl rfl) rfl ?_
      refine s_iload_n dX0_fills_51 1 rfl ?_
      refine s_ob (r := h.R y20 20) (fun z => [(4, .int ((h.I a31 (ix x18)) / (100 : Int32))), (3, .int x18), (2, .int x19), (0, .ref y20)]) (fun z => [.int x18, z]) (fun a34 => ?_)
      refine s_chk (fun hk35 => ?_)
      refine s_chk (fun hi36 => ?_)
      refine s_iald dX0_fills_52 hk35 rfl hi36 ?_
      refine s_bipush (100 : Int32) dX0_fills_53 (by decide) ?_
      refine s_irem dX0_fills_55 (by decide) ?_
      refine s_istore [(5, .int ((h.I a34 (ix x18)) - (h.I a34 (ix x18)) / (100 : Int32) * (100 : Int32))), (4, .int ((h.I a31 (ix x18)) / (100 : Int32))), (3, .int x18), (2, .int x19), (0, .ref y20)] dX0_fills_56 (by decide) (by decide) rfl ?_
      refine s_aload_n dX0_fills_58 4 rfl ?_
      refine s_iload dX0_fills_59 1 rfl (by decide) ?_
      refine s_iconst (1 : Int32) dX0_fills_61 (by decide) ?_
      refine s_isub dX0_fills_62 ?_
      refine s_iload dX0_fills_63 0 rfl (by decide) ?_
      refine s_iload_n dX0_fills_65 3 rfl ?_
      refine s_callV_I 0 (kX0_spreads G n K hK y20 (((h.I a31 (ix x18)) / (100 : Int32)) - (1 : Int32)) ((h.I a34 (ix x18)) - (h.I a34 (ix x18)) / (100 : Int32) * (100 : Int32)) x19 h) (by decide) (by decide) dX0_fills_66 hk30 rfl rfl q1028 q1030 qs33 q103 q1031 hyX0_spreads rfl rfl (Nat.le_of_ble_eq_true rfl) (fun r37 h38 => ?_)
      refine s_istore_n [(2, .int r37), (5, .int ((h.I a34 (ix x18)) - (h.I a34 (ix x18)) / (100 : Int32) * (100 : Int32))), (4, .int ((h.I a31 (ix x18)) / (100 : Int32))), (3, .int x18), (0, .ref y20)] dX0_fills_69 (by decide) (by decide) rfl ?_
      refine s_aload_n dX0_fills_70 4 rfl ?_
      refine s_iload dX0_fills_71 2 rfl (by decide) ?_
      refine s_iconst (1 : Int32) dX0_fills_73 (by decide) ?_
      refine s_iadd dX0_fills_74 ?_
      refine s_iload dX0_fills_75 1 rfl (by decide) ?_
      refine s_iload_n dX0_fills_77 0 rfl ?_
      refine s_chk (fun hk41 => ?_)
      refine s_callV_I 0 (kX0_spreads G n K hK y20 (((h.I a31 (ix x18)) / (100 : Int32)) + (1 : Int32)) ((h.I a34 (ix x18)) - (h.I a34 (ix x18)) / (100 : Int32) * (100 : Int32)) r37 h38) (by decide) (by decide) dX0_fills_78 hk41 rfl rfl q1028 q1030 qs33 q103 q1031 hyX0_spreads rfl rfl (Nat.le_of_ble_eq_true rfl) (fun r39 h40 => ?_)
      refine s_istore_n [(2, .int r39), (5, .int ((h.I a34 (ix x18)) - (h.I a34 (ix x18)) / (100 : Int32) * (100 : Int32))), (4, .int ((h.I a31 (ix x18)) / (100 : Int32))), (3, .int x18), (0, .ref y20)] dX0_fills_81 (by decide) (by decide) rfl ?_
      refine s_aload_n dX0_fills_82 4 rfl ?_
      refine s_iload dX0_fills_83 2 rfl (by decide) ?_
      refine s_iload dX0_fills_85 1 rfl (by decide) ?_
      refine s_iconst (1 : Int32) dX0_fills_87 (by decide) ?_
      refine s_isub dX0_fills_88 ?_
      refine s_iload_n dX0_fills_89 0 rfl ?_
      refine s_chk (fun hk44 => ?_)
      refine s_callV_I 0 (kX0_spreads G n K hK y20 ((h.I a31 (ix x18)) / (100 : Int32)) (((h.I a34 (ix x18)) - (h.I a34 (ix x18)) / (100 : Int32) * (100 : Int32)) - (1 : Int32)) r39 h40) (by decide) (by decide) dX0_fills_90 hk44 rfl rfl q1028 q1030 qs33 q103 q1031 hyX0_spreads rfl rfl (Nat.le_of_ble_eq_true rfl) (fun r42 h43 => ?_)
      refine s_istore_n [(2, .int r42), (5, .int ((h.I a34 (ix x18)) - (h.I a34 (ix x18)) / (100 : Int32) * (100 : Int32))), (4, .int ((h.I a31 (ix x18)) / (100 : Int32))), (3, .int x18), (0, .ref y20)] dX0_fills_93 (by decide) (by decide) rfl ?_
      refine s_aload_n dX0_fills_94 4 rfl ?_
      refine s_iload dX0_fills_95 2 rfl (by decide) ?_
      refine s_iload dX0_fills_97 1 rfl (by decide) ?_
      refine s_iconst (1 : Int32) dX0_fills_99 (by decide) ?_
      refine s_iadd dX0_fills_100 ?_
      refine s_iload_n dX0_fills_101 0 rfl ?_
      refine s_chk (fun hk47 => ?_)
      refine s_callV_I 0 (kX0_spreads G n K hK y20 ((h.I a31 (ix x18)) / (100 : Int32)) (((h.I a34 (ix x18)) - (h.I a34 (ix x18)) / (100 : Int32) * (100 : Int32)) + (1 : Int32)) r42 h43) (by decide) (by decide) dX0_fills_102 hk47 rfl rfl q1028 q1030 qs33 q103 q1031 hyX0_spreads rfl rfl (Nat.le_of_ble_eq_true rfl) (fun r45 h46 => ?_)
      refine s_istore_n [(2, .int r45), (5, .int ((h.I a34 (ix x18)) - (h.I a34 (ix x18)) / (100 : Int32) * (100 : Int32))), (4, .int ((h.I a31 (ix x18)) / (100 : Int32))), (3, .int x18), (0, .ref y20)] dX0_fills_105 (by decide) (by decide) rfl ?_
      refine s_iinc (1 : Int32) [(3, .int (x18 + (1 : Int32))), (2, .int r45), (5, .int ((h.I a34 (ix x18)) - (h.I a34 (ix x18)) / (100 : Int32) * (100 : Int32))), (4, .int ((h.I a31 (ix x18)) / (100 : Int32))), (0, .ref y20)] dX0_fills_106 3 rfl (by decide) (by decide) (by decide) rfl ?_
      refine s_goto 31 dX0_fills_109 (by decide) ?_
      refine s_sub [0, 1, 4] rfl ?_
      exact ih (x18 + (1 : Int32)) r45 h46
theorem kX0_fills (G : Gl) (n : Nat) (K : Nat → Nat) (hK : K = G.ad) (p0 : Nat) (p1 : Int32) (h : AH) : OkM G yX0_fills cX0_fills 6 none 4 cvV [.ref p0, .int p1] h (F_X0_fills n K p0 p1 h) := by
  refine ok_of_sim [(0, .ref p0), (1, .int p1)] (by decide +kernel) (fun r => ⟨_, rfl⟩) (by simp [uns, lv_args, lg_sl, catI, catL, catA, va_rfc]) (by simp [uns, lv_args, lg_sl, catI, catL, catA, va_rfc]) (by simp [uns, lv_args, lg_sl, catI, catL, catA, va_rfc]) ?_
  unfold F_X0_fills
  refine s_iconst (1 : Int32) dX0_fills_0 (by decide) ?_
  refine s_istore_n [(2, .int (1 : Int32)), (0, .ref p0), (1, .int p1)] dX0_fills_1 (by decide) (by decide) rfl ?_
  refine s_aload_n dX0_fills_2 1 rfl ?_
  refine s_chk (fun hk1 => ?_)
  refine s_get (j := 20) 0 (va_rf (h.R p0 20)) dX0_fills_3 hk1 rfl (by decide) q253 (Or.inl rfl) rfl ?_
  refine s_iconst (0 : Int32) dX0_fills_6 (by decide) ?_
  refine s_iload_n dX0_fills_7 2 rfl ?_
  refine s_ob (r := h.R p0 20) (fun z => [(2, .int (1 : Int32)), (0, .ref p0), (1, .int p1)]) (fun z => [.int p1, .int (0 : Int32), z]) (fun a2 => ?_)
  refine s_chk (fun hk3 => ?_)
  refine s_chk (fun hi4 => ?_)
  refine s_iast dX0_fills_8 hk3 rfl (by decide) hi4 ?_
  refine s_hl (fun h5 e6 => ?_)
  refine s_aload_n dX0_fills_9 1 rfl ?_
  refine s_get (j := 19) 0 (va_rf (h5.R p0 19)) dX0_fills_10 (show h5.kind p0 = 1 by rw [e6]; exact hk1) rfl (by decide) q252 (Or.inl rfl) rfl ?_
  refine s_iload_n dX0_fills_13 2 rfl ?_
  refine s_aload_n dX0_fills_14 1 rfl ?_
  refine s_get (j := 23) 0 (.int (h5.I p0 23)) dX0_fills_15 (show h5.kind p0 = 1 by rw [e6]; exact hk1) rfl (by decide) q256 (Or.inl rfl) rfl ?_
  refine s_ob (r := h5.R p0 19) (fun z => [(2, .int (1 : Int32)), (0, .ref p0), (1, .int p1)]) (fun z => [.int (h5.I p0 23), .int p1, z]) (fun a7 => ?_)
  refine s_chk (fun hk8 => ?_)
  refine s_chk (fun hi9 => ?_)
  refine s_iast dX0_fills_18 hk8 rfl (by decide) hi9 ?_
  refine s_hl (fun h10 e11 => ?_)
  refine s_aload_n dX0_fills_19 1 rfl ?_
  refine s_get (j := 21) 0 (va_rf (h10.R p0 21)) dX0_fills_20 (show h10.kind p0 = 1 by rw [e11, e6]; exact hk1) rfl (by decide) q254 (Or.inl rfl) rfl ?_
  refine s_aload_n dX0_fills_23 1 rfl ?_
  refine s_get (j := 23) 0 (.int (h10.I p0 23)) dX0_fills_24 (show h10.kind p0 = 1 by rw [e11, e6]; exact hk1) rfl (by decide) q256 (Or.inl rfl) rfl ?_
  refine s_iload_n dX0_fills_27 2 rfl ?_
  refine s_ob (r := h10.R p0 21) (fun z => [(2, .int (1 : Int32)), (0, .ref p0), (1, .int p1)]) (fun z => [.int p1, .int (h10.I p0 23), z]) (fun a12 => ?_)
  refine s_chk (fun hk13 => ?_)
  refine s_chk (fun hi14 => ?_)
  refine s_iast dX0_fills_28 hk13 rfl (by decide) hi14 ?_
  refine s_hl (fun h15 e16 => ?_)
  refine s_iconst (0 : Int32) dX0_fills_29 (by decide) ?_
  refine s_istore_n [(3, .int (0 : Int32)), (2, .int (1 : Int32)), (0, .ref p0), (1, .int p1)] dX0_fills_30 (by decide) (by decide) rfl ?_
  refine s_sub [0, 1, 2] rfl ?_
  exact sX0_fills_L31 G n K hK p0 n (0 : Int32) (1 : Int32) h15
theorem hyX0_findPieces : yX0_findPieces.cls ≠ "java/lang/invoke/MethodHandle" ∧ yX0_findPieces.cls ≠ "java/lang/invoke/VarHandle" ∧ (parseMethodDescriptor yX0_findPieces.desc).map (fun d => d.parameters.length) = some 2 := by decide +kernel
theorem sX0_findPieces_L12 (G : Gl) (n : Nat) (K : Nat → Nat) (hK : K = G.ad) (y8 : Nat) (y9 : Int32) (y10 : Int32) : ∀ (f : Nat) (x7 : Int32) (h : AH) (k : AH → Option (Unit × AH)) (hk : ∀ (h : AH), Sim G yX0_findPieces.cls yX0_findPieces.name cX0_findPieces 5 none 7 cvV 77 [(0, .ref y8)] [] h (k h)), Sim G yX0_findPieces.cls yX0_findPieces.name cX0_findPieces 5 none 7 cvV 12 [(3, .int x7), (0, .ref y8), (1, .int y9), (2, .int y10)] [] h (F_X0_findPieces_L12 n K y8 y9 y10 f x7 h k) := by
  intro f
  induction f with
  | zero =>
    intro x7 h k hk
    exact s_none
  | succ f ih =>
    intro x7 h k hk
    unfold F_X0_findPieces_L12
    refine s_iload_n dX0_findPieces_12 0 rfl ?_
    refine s_sipush (10000 : Int32) dX0_findPieces_13 (by decide) ?_
    refine s_icmp_ge 77 dX0_findPieces_16 (by decide) (fun c11 => ?_) (fun c11 => ?_)
    · refine s_sub [1] rfl ?_
      exact hk h
    · refine s_aload_n dX0_findPieces_19 1 rfl ?_
      refine s_iload_n dX0_findPieces_20 2 rfl ?_
      refine s_iload_n dX0_findPieces_21 3 rfl ?_
      refine s_iload_n dX0_findPieces_22 0 rfl ?_
      refine s_bipush (100 : Int32) dX0_findPieces_23 (by decide) ?_
      refine s_idiv dX0_findPieces_25 (by decide) ?_
      refine s_iload_n dX0_findPieces_26 0 rfl ?_
      refine s_bipush (100 : Int32) dX0_findPieces_27 (by decide) ?_
      refine s_irem dX0_findPieces_29 (by decide) ?_
      refine s_chk (fun hk14 => ?_)
      refine s_callV_I 0 (kX0_isBeaten G n K hK y8 y9 y10 (x7 / (100 : Int32)) (x7 - x7 / (100 : Int32) * (100 : Int32)) h) (by decide) (by decide) dX0_findPieces_30 hk14 rfl rfl q863 q865 qs22 q103 q866 hyX0_isBeaten rfl rfl (Nat.le_of_ble_eq_true rfl) (fun r12 h13 => ?_)
      refine s_istore [(4, .int r12), (3, .int x7), (0, .ref y8), (1, .int y9), (2, .int y10)] dX0_findPieces_33 (by decide) (by decide) rfl ?_
      refine s_aload_n dX0_findPieces_35 2 rfl ?_
      refine s_chk (fun hk15 => ?_)
      refine s_get (j := 19) 0 (va_rf (h13.R y8 19)) dX0_findPieces_36 hk15 rfl (by decide) q252 (Or.inl rfl) rfl ?_
      refine s_iload_n dX0_findPieces_39 1 rfl ?_
      refine s_iload dX0_findPieces_40 0 rfl (by decide) ?_
      refine s_jn (fun j17 => ∀ (x16 : Int32), Sim G yX0_findPieces.cls yX0_findPieces.name cX0_findPieces 5 none 7 cvV 51 [(4, .int r12), (3, .int x7), (0, .ref y8), (1, .int y9), (2, .int y10)] [.int x16, .int x7, va_rf (h13.R y8 19)] h13 (j17 x16)) ?_ (fun j17 hj29 => ?_)
      · intro x16
        refine s_ob (r := h13.R y8 19) (fun z => [(4, .int r12), (3, .int x7), (0, .ref y8), (1, .int y9), (2, .int y10)]) (fun z => [.int x16, .int x7, z]) (fun a18 => ?_)
        refine s_chk (fun hk19 => ?_)
        refine s_chk (fun hi20 => ?_)
        refine s_iast dX0_findPieces_51 hk19 rfl (by decide) hi20 ?_
        refine s_hl (fun h21 e22 => ?_)
        refine s_aload_n dX0_findPieces_52 2 rfl ?_
        refine s_dup dX0_findPieces_53 rfl ?_
        refine s_get (j := 24) 0 (.int (h21.I y8 24)) dX0_findPieces_54 (show h21.kind y8 = 1 by rw [e22]; exact hk15) rfl (by decide) q257 (Or.inl rfl) rfl ?_
        refine s_iload dX0_findPieces_57 0 rfl (by decide) ?_
        refine s_jn (fun j24 => ∀ (x23 : Int32), Sim G yX0_findPieces.cls yX0_findPieces.name cX0_findPieces 5 none 7 cvV 67 [(3, .int x7), (0, .ref y8), (1, .int y9), (2, .int y10)] [.int x23, .int (h21.I y8 24), .ref y8] h21 (j24 x23)) ?_ (fun j24 hj27 => ?_)
        · intro x23
          refine s_iadd dX0_findPieces_67 ?_
          refine s_put (j := 24) 0 (v := .int ((h21.I y8 24) + x23)) dX0_findPieces_68 (show h21.kind y8 = 1 by rw [e22]; exact hk15) rfl (by decide) q257 (Or.inl rfl) rfl rfl rfl (Upd.i (fun _ => rfl)) ?_
          refine s_hl (fun h25 e26 => ?_)
          refine s_iinc (1 : Int32) [(3, .int (x7 + (1 : Int32))), (0, .ref y8), (1, .int y9), (2, .int y10)] dX0_findPieces_71 0 rfl (by decide) (by decide) (by decide) rfl ?_
          refine s_goto 12 dX0_findPieces_74 (by decide) ?_
          exact ih (x7 + (1 : Int32)) h25 k hk
        refine s_if_eq 66 dX0_findPieces_59 (by decide) (fun c28 => ?_) (fun c28 => ?_)
        · refine s_iconst (0 : Int32) dX0_findPieces_66 (by decide) ?_
          refine s_sub [1, 2, 3, 4] rfl ?_
          exact hj27 (0 : Int32)
        · refine s_iconst (1 : Int32) dX0_findPieces_62 (by decide) ?_
          refine s_goto 67 dX0_findPieces_63 (by decide) ?_
          refine s_sub [1, 2, 3, 4] rfl ?_
          exact hj27 (1 : Int32)
      refine s_if_eq 50 dX0_findPieces_42 (by decide) (fun c30 => ?_) (fun c30 => ?_)
      · refine s_iconst (-1 : Int32) dX0_findPieces_50 (by decide) ?_
        exact hj29 (-1 : Int32)
      · refine s_bipush (-2 : Int32) dX0_findPieces_45 (by decide) ?_
        refine s_goto 51 dX0_findPieces_47 (by decide) ?_
        exact hj29 (-2 : Int32)
theorem sX0_findPieces_L79 (G : Gl) (n : Nat) (K : Nat → Nat) (hK : K = G.ad) (y34 : Nat) : ∀ (f : Nat) (x33 : Int32) (h : AH), Sim G yX0_findPieces.cls yX0_findPieces.name cX0_findPieces 5 none 7 cvV 79 [(3, .int x33), (0, .ref y34)] [] h (F_X0_findPieces_L79 n K y34 f x33 h) := by
  intro f
  induction f with
  | zero =>
    intro x33 h
    exact s_none
  | succ f ih =>
    intro x33 h
    unfold F_X0_findPieces_L79
    refine s_iload_n dX0_findPieces_79 0 rfl ?_
    refine s_sipush (10000 : Int32) dX0_findPieces_80 (by decide) ?_
    refine s_icmp_ge 108 dX0_findPieces_83 (by decide) (fun c35 => ?_) (fun c35 => ?_)
    · exact s_vret dX0_findPieces_108 rfl rfl
    · refine s_aload_n dX0_findPieces_86 1 rfl ?_
      refine s_chk (fun hk36 => ?_)
      refine s_get (j := 19) 0 (va_rf (h.R y34 19)) dX0_findPieces_87 hk36 rfl (by decide) q252 (Or.inl rfl) rfl ?_
      refine s_iload_n dX0_findPieces_90 0 rfl ?_
      refine s_ob (r := h.R y34 19) (fun z => [(3, .int x33), (0, .ref y34)]) (fun z => [.int x33, z]) (fun a37 => ?_)
      refine s_chk (fun hk38 => ?_)
      refine s_chk (fun hi39 => ?_)
      refine s_iald dX0_findPieces_91 hk38 rfl hi39 ?_
      refine s_bipush (-2 : Int32) dX0_findPieces_92 (by decide) ?_
      refine s_icmp_ne 102 dX0_findPieces_94 (by decide) (fun c40 => ?_) (fun c40 => ?_)
      · refine s_iinc (1 : Int32) [(3, .int (x33 + (1 : Int32))), (0, .ref y34)] dX0_findPieces_102 0 rfl (by decide) (by decide) (by decide) rfl ?_
        refine s_goto 79 dX0_findPieces_105 (by decide) ?_
        exact ih (x33 + (1 : Int32)) h
      · refine s_aload_n dX0_findPieces_97 1 rfl ?_
        refine s_iload_n dX0_findPieces_98 0 rfl ?_
        refine s_callV_V 0 (kX0_fills G n K hK y34 x33 h) (by decide) (by decide) dX0_findPieces_99 hk36 rfl rfl q1024 q1026 qs32 q103 q1027 hyX0_fills rfl rfl (Nat.le_of_ble_eq_true rfl) (fun r41 h42 => ?_)
        refine s_iinc (1 : Int32) [(3, .int (x33 + (1 : Int32))), (0, .ref y34)] dX0_findPieces_102 0 rfl (by decide) (by decide) (by decide) rfl ?_
        refine s_goto 79 dX0_findPieces_105 (by decide) ?_
        exact ih (x33 + (1 : Int32)) h42
theorem kX0_findPieces (G : Gl) (n : Nat) (K : Nat → Nat) (hK : K = G.ad) (p0 : Nat) (p1 : Int32) (p2 : Int32) (h : AH) : OkM G yX0_findPieces cX0_findPieces 5 none 7 cvV [.ref p0, .int p1, .int p2] h (F_X0_findPieces n K p0 p1 p2 h) := by
  refine ok_of_sim [(0, .ref p0), (1, .int p1), (2, .int p2)] (by decide +kernel) (fun r => ⟨_, rfl⟩) (by simp [uns, lv_args, lg_sl, catI, catL, catA, va_rfc]) (by simp [uns, lv_args, lg_sl, catI, catL, catA, va_rfc]) (by simp [uns, lv_args, lg_sl, catI, catL, catA, va_rfc]) ?_
  unfold F_X0_findPieces
  refine s_aload_n dX0_findPieces_0 0 rfl ?_
  refine s_iconst (0 : Int32) dX0_findPieces_1 (by decide) ?_
  refine s_chk (fun hk1 => ?_)
  refine s_put (j := 24) 0 (v := .int (0 : Int32)) dX0_findPieces_2 hk1 rfl (by decide) q257 (Or.inl rfl) rfl rfl rfl (Upd.i (fun _ => rfl)) ?_
  refine s_hl (fun h2 e3 => ?_)
  refine s_aload_n dX0_findPieces_5 0 rfl ?_
  refine s_iconst (0 : Int32) dX0_findPieces_6 (by decide) ?_
  refine s_put (j := 23) 0 (v := .int (0 : Int32)) dX0_findPieces_7 (show h2.kind p0 = 1 by rw [e3]; exact hk1) rfl (by decide) q256 (Or.inl rfl) rfl rfl rfl (Upd.i (fun _ => rfl)) ?_
  refine s_hl (fun h4 e5 => ?_)
  refine s_iconst (0 : Int32) dX0_findPieces_10 (by decide) ?_
  refine s_istore_n [(3, .int (0 : Int32)), (0, .ref p0), (1, .int p1), (2, .int p2)] dX0_findPieces_11 (by decide) (by decide) rfl ?_
  refine sX0_findPieces_L12 G n K hK p0 p1 p2 n (0 : Int32) h4 _ ?_
  intro h31
  refine s_iconst (0 : Int32) dX0_findPieces_77 (by decide) ?_
  refine s_istore_n [(3, .int (0 : Int32)), (0, .ref p0)] dX0_findPieces_78 (by decide) (by decide) rfl ?_
  exact sX0_findPieces_L79 G n K hK p0 n (0 : Int32) h31
