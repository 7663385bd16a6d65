set_option maxRecDepth 100000
theorem hyJ0_init : yJ0_init.cls ≠ "java/lang/invoke/MethodHandle" ∧ yJ0_init.cls ≠ "java/lang/invoke/VarHandle" ∧ (parseMethodDescriptor yJ0_init.desc).map (fun d => d.parameters.length) = some 0 := by decide +kernel
theorem kJ0_init (G : Gl) (n : Nat) (K : Nat → Nat) (hK : K = G.ad) (p0 : Nat) (h : AH) : OkM G yJ0_init cJ0_init 1 none 1 cvV [.ref p0] h (F_J0_init n K p0 h) := by
  refine ok_of_sim [(0, .ref p0)] (by decide +kernel) (fun r => ⟨_, rfl⟩) (by simp [uns, lv_args, lg_sl, catI, catL, catA, va_rfc]) (by simp [uns, lv_args, lg_sl, catI, catL, catA, va_rfc]) (by simp [uns, lv_args, lg_sl, catI, catL, catA, va_rfc]) ?_
  unfold F_J0_init
  refine s_aload_n dJ0_init_0 0 rfl ?_
  refine s_objInit dJ0_init_1 q160 q141 q142 (by decide) (Nat.le_of_ble_eq_true rfl) ?_
  exact s_vret dJ0_init_4 rfl rfl
theorem hyJ1_init : yJ1_init.cls ≠ "java/lang/invoke/MethodHandle" ∧ yJ1_init.cls ≠ "java/lang/invoke/VarHandle" ∧ (parseMethodDescriptor yJ1_init.desc).map (fun d => d.parameters.length) = some 0 := by decide +kernel
theorem kJ1_init (G : Gl) (n : Nat) (K : Nat → Nat) (hK : K = G.ad) (p0 : Nat) (h : AH) : OkM G yJ1_init cJ1_init 1 none 2 cvV [.ref p0] h (F_J1_init n K p0 h) := by
  refine ok_of_sim [(0, .ref p0)] (by decide +kernel) (fun r => ⟨_, rfl⟩) (by simp [uns, lv_args, lg_sl, catI, catL, catA, va_rfc]) (by simp [uns, lv_args, lg_sl, catI, catL, catA, va_rfc]) (by simp [uns, lv_args, lg_sl, catI, catL, catA, va_rfc]) ?_
  unfold F_J1_init
  refine s_aload_n dJ1_init_0 0 rfl ?_
  refine s_callI_V (kJ0_init G n K hK p0 h) (by decide) (by decide) dJ1_init_1 q157 q158 q105 q159 rfl hyJ0_init rfl rfl (Nat.le_of_ble_eq_true rfl) (fun r1 h2 => ?_)
  refine s_aload_n dJ1_init_4 0 rfl ?_
  refine s_iconst (0 : Int32) dJ1_init_5 (by decide) ?_
  refine s_chk (fun hk3 => ?_)
  refine s_put (j := 0) 2 (v := .int (0 : Int32)) dJ1_init_6 hk3 rfl (by decide) q165 (Or.inl rfl) rfl rfl rfl (Upd.i (fun _ => rfl)) ?_
  refine s_hl (fun h4 e5 => ?_)
  exact s_vret dJ1_init_9 rfl rfl
theorem hyJ2_init : yJ2_init.cls ≠ "java/lang/invoke/MethodHandle" ∧ yJ2_init.cls ≠ "java/lang/invoke/VarHandle" ∧ (parseMethodDescriptor yJ2_init.desc).map (fun d => d.parameters.length) = some 0 := by decide +kernel
theorem kJ2_init (G : Gl) (n : Nat) (K : Nat → Nat) (hK : K = G.ad) (p0 : Nat) (h : AH) : OkM G yJ2_init cJ2_init 1 none 3 cvV [.ref p0] h (F_J2_init n K p0 h) := by
  refine ok_of_sim [(0, .ref p0)] (by decide +kernel) (fun r => ⟨_, rfl⟩) (by simp [uns, lv_args, lg_sl, catI, catL, catA, va_rfc]) (by simp [uns, lv_args, lg_sl, catI, catL, catA, va_rfc]) (by simp [uns, lv_args, lg_sl, catI, catL, catA, va_rfc]) ?_
  unfold F_J2_init
  refine s_aload_n dJ2_init_0 0 rfl ?_
  refine s_callI_V (kJ1_init G n K hK p0 h) (by decide) (by decide) dJ2_init_1 q154 q155 q106 q156 rfl hyJ1_init rfl rfl (Nat.le_of_ble_eq_true rfl) (fun r1 h2 => ?_)
  refine s_aload_n dJ2_init_4 0 rfl ?_
  refine s_gets (v := .ref (K 0)) dJ2_init_5 q161 (fun s hg => by rw [hK]; exact hg.2.2.2.2.2.2.1.1) ?_
  refine s_chk (fun hk3 => ?_)
  refine s_put (j := 1) 2 (v := va_rf (some (K 0))) dJ2_init_8 hk3 rfl (by decide) q163 (Or.inl rfl) rfl rfl rfl (Upd.r (fun _ => rfl)) ?_
  refine s_hl (fun h4 e5 => ?_)
  exact s_vret dJ2_init_11 rfl rfl
theorem hyX1_init : yX1_init.cls ≠ "java/lang/invoke/MethodHandle" ∧ yX1_init.cls ≠ "java/lang/invoke/VarHandle" ∧ (parseMethodDescriptor yX1_init.desc).map (fun d => d.parameters.length) = some 0 := by decide +kernel
theorem kX1_init (G : Gl) (n : Nat) (K : Nat → Nat) (hK : K = G.ad) (p0 : Nat) (h : AH) : OkM G yX1_init cX1_init 1 none 4 cvV [.ref p0] h (F_X1_init n K p0 h) := by
  refine ok_of_sim [(0, .ref p0)] (by decide +kernel) (fun r => ⟨_, rfl⟩) (by simp [uns, lv_args, lg_sl, catI, catL, catA, va_rfc]) (by simp [uns, lv_args, lg_sl, catI, catL, catA, va_rfc]) (by simp [uns, lv_args, lg_sl, catI, catL, catA, va_rfc]) ?_
  unfold F_X1_init
  refine s_aload_n dX1_init_0 0 rfl ?_
  refine s_objInit dX1_init_1 q148 q141 q142 (by decide) (Nat.le_of_ble_eq_true rfl) ?_
  refine s_aload_n dX1_init_4 0 rfl ?_
  refine s_new 2 dX1_init_5 rfl q149 q150 q107 ?_
  refine s_hl (fun h1 e2 => ?_)
  refine s_dup dX1_init_8 rfl ?_
  refine s_callI_V (kJ2_init G n K hK h.n h1) (by decide) (by decide) dX1_init_9 q151 q152 q107 q153 rfl hyJ2_init rfl rfl (Nat.le_of_ble_eq_true rfl) (fun r3 h4 => ?_)
  refine s_chk (fun hk5 => ?_)
  refine s_putF (j := 8) 1 (v := va_rf (some h.n)) dX1_init_12 hk5 rfl (by decide) q184 (Or.inl rfl) rfl rfl rfl rfl rfl (Upd.r (fun _ => rfl)) ?_
  refine s_hl (fun h6 e7 => ?_)
  refine s_aload_n dX1_init_15 0 rfl ?_
  refine s_new 2 dX1_init_16 rfl q149 q150 q107 ?_
  refine s_hl (fun h8 e9 => ?_)
  refine s_dup dX1_init_19 rfl ?_
  refine s_callI_V (kJ2_init G n K hK h6.n h8) (by decide) (by decide) dX1_init_20 q151 q152 q107 q153 rfl hyJ2_init rfl rfl (Nat.le_of_ble_eq_true rfl) (fun r10 h11 => ?_)
  refine s_chk (fun hk12 => ?_)
  refine s_putF (j := 9) 1 (v := va_rf (some h6.n)) dX1_init_23 hk12 rfl (by decide) q186 (Or.inl rfl) rfl rfl rfl rfl rfl (Upd.r (fun _ => rfl)) ?_
  refine s_hl (fun h13 e14 => ?_)
  exact s_vret dX1_init_26 rfl rfl
theorem hyX2_init : yX2_init.cls ≠ "java/lang/invoke/MethodHandle" ∧ yX2_init.cls ≠ "java/lang/invoke/VarHandle" ∧ (parseMethodDescriptor yX2_init.desc).map (fun d => d.parameters.length) = some 3 := by decide +kernel
theorem kX2_init (G : Gl) (n : Nat) (K : Nat → Nat) (hK : K = G.ad) (p0 : Nat) (p1 : Int32) (p2 : Int32) (p3 : Int32) (h : AH) : OkM G yX2_init cX2_init 4 none 1 cvV [.ref p0, .int p1, .int p2, .int p3] h (F_X2_init n K p0 p1 p2 p3 h) := by
  refine ok_of_sim [(0, .ref p0), (1, .int p1), (2, .int p2), (3, .int p3)] (by decide +kernel) (fun r => ⟨_, rfl⟩) (by simp [uns, lv_args, lg_sl, catI, catL, catA, va_rfc]) (by simp [uns, lv_args, lg_sl, catI, catL, catA, va_rfc]) (by simp [uns, lv_args, lg_sl, catI, catL, catA, va_rfc]) ?_
  unfold F_X2_init
  refine s_aload_n dX2_init_0 0 rfl ?_
  refine s_objInit dX2_init_1 q220 q141 q142 (by decide) (Nat.le_of_ble_eq_true rfl) ?_
  refine s_aload_n dX2_init_4 0 rfl ?_
  refine s_iload_n dX2_init_5 1 rfl ?_
  refine s_chk (fun hk1 => ?_)
  refine s_putF (j := 0) 3 (v := .int p1) dX2_init_6 hk1 rfl (by decide) q221 (Or.inl rfl) rfl rfl rfl rfl rfl (Upd.i (fun _ => rfl)) ?_
  refine s_hl (fun h2 e3 => ?_)
  refine s_aload_n dX2_init_9 0 rfl ?_
  refine s_iload_n dX2_init_10 2 rfl ?_
  refine s_putF (j := 1) 3 (v := .int p2) dX2_init_11 (show h2.kind p0 = 4 by rw [e3]; exact hk1) rfl (by decide) q222 (Or.inl rfl) rfl rfl rfl rfl rfl (Upd.i (fun _ => rfl)) ?_
  refine s_hl (fun h4 e5 => ?_)
  refine s_aload_n dX2_init_14 0 rfl ?_
  refine s_iload_n dX2_init_15 3 rfl ?_
  refine s_putF (j := 2) 3 (v := .int p3) dX2_init_16 (show h4.kind p0 = 4 by rw [e5, e3]; exact hk1) rfl (by decide) q223 (Or.inl rfl) rfl rfl rfl rfl rfl (Upd.i (fun _ => rfl)) ?_
  refine s_hl (fun h6 e7 => ?_)
  exact s_vret dX2_init_19 rfl rfl
theorem hyX0_init : yX0_init.cls ≠ "java/lang/invoke/MethodHandle" ∧ yX0_init.cls ≠ "java/lang/invoke/VarHandle" ∧ (parseMethodDescriptor yX0_init.desc).map (fun d => d.parameters.length) = some 0 := by decide +kernel
theorem kX0_init (G : Gl) (n : Nat) (K : Nat → Nat) (hK : K = G.ad) (p0 : Nat) (h : AH) : OkM G yX0_init cX0_init 1 none 5 cvV [.ref p0] h (F_X0_init n K p0 h) := by
  refine ok_of_sim [(0, .ref p0)] (by decide +kernel) (fun r => ⟨_, rfl⟩) (by simp [uns, lv_args, lg_sl, catI, catL, catA, va_rfc]) (by simp [uns, lv_args, lg_sl, catI, catL, catA, va_rfc]) (by simp [uns, lv_args, lg_sl, catI, catL, catA, va_rfc]) ?_
  unfold F_X0_init
  refine s_aload_n dX0_init_0 0 rfl ?_
  refine s_objInit dX0_init_1 q140 q141 q142 (by decide) (Nat.le_of_ble_eq_true rfl) ?_
  refine s_aload_n dX0_init_4 0 rfl ?_
  refine s_sipush (600 : Int32) dX0_init_5 (by decide) ?_
  refine s_chk (fun hn1 => ?_)
  refine s_newa 31 dX0_init_8 rfl (by decide) rfl rfl q175 hn1.1 (nab31 hn1) ?_
  refine s_hl (fun h2 e3 => ?_)
  refine s_chk (fun hk4 => ?_)
  refine s_putF (j := 0) 0 (v := va_rf (some h.n)) dX0_init_10 hk4 rfl (by decide) q233 (Or.inl rfl) rfl rfl rfl rfl rfl (Upd.r (fun _ => rfl)) ?_
  refine s_hl (fun h5 e6 => ?_)
  refine s_aload_n dX0_init_13 0 rfl ?_
  refine s_new 1 dX0_init_14 rfl q143 q144 q104 ?_
  refine s_hl (fun h7 e8 => ?_)
  refine s_dup dX0_init_17 rfl ?_
  refine s_callIN_V (kX1_init G n K hK h5.n h7) (by decide) (by decide) dX0_init_18 q145 q146 q104 q147 rfl hyX1_init rfl rfl (Nat.le_of_ble_eq_true rfl) (fun r9 h10 => ?_)
  refine s_chk (fun hk11 => ?_)
  refine s_putF (j := 1) 0 (v := va_rf (some h5.n)) dX0_init_21 hk11 rfl (by decide) q234 (Or.inl rfl) rfl rfl rfl rfl rfl (Upd.r (fun _ => rfl)) ?_
  refine s_hl (fun h12 e13 => ?_)
  refine s_aload_n dX0_init_24 0 rfl ?_
  refine s_new 2 dX0_init_25 rfl q213 q150 q107 ?_
  refine s_hl (fun h14 e15 => ?_)
  refine s_dup dX0_init_28 rfl ?_
  refine s_callI_V (kJ2_init G n K hK h12.n h14) (by decide) (by decide) dX0_init_29 q214 q152 q107 q153 rfl hyJ2_init rfl rfl (Nat.le_of_ble_eq_true rfl) (fun r16 h17 => ?_)
  refine s_chk (fun hk18 => ?_)
  refine s_putF (j := 2) 0 (v := va_rf (some h12.n)) dX0_init_32 hk18 rfl (by decide) q235 (Or.inl rfl) rfl rfl rfl rfl rfl (Upd.r (fun _ => rfl)) ?_
  refine s_hl (fun h19 e20 => ?_)
  refine s_aload_n dX0_init_35 0 rfl ?_
  refine s_new 2 dX0_init_36 rfl q213 q150 q107 ?_
  refine s_hl (fun h21 e22 => ?_)
  refine s_dup dX0_init_39 rfl ?_
  refine s_callI_V (kJ2_init G n K hK h19.n h21) (by decide) (by decide) dX0_init_40 q214 q152 q107 q153 rfl hyJ2_init rfl rfl (Nat.le_of_ble_eq_true rfl) (fun r23 h24 => ?_)
  refine s_chk (fun hk25 => ?_)
  refine s_putF (j := 3) 0 (v := va_rf (some h19.n)) dX0_init_43 hk25 rfl (by decide) q236 (Or.inl rfl) rfl rfl rfl rfl rfl (Upd.r (fun _ => rfl)) ?_
  refine s_hl (fun h26 e27 => ?_)
  refine s_aload_n dX0_init_46 0 rfl ?_
  refine s_new 2 dX0_init_47 rfl q213 q150 q107 ?_
  refine s_hl (fun h28 e29 => ?_)
  refine s_dup dX0_init_50 rfl ?_
  refine s_callI_V (kJ2_init G n K hK h26.n h28) (by decide) (by decide) dX0_init_51 q214 q152 q107 q153 rfl hyJ2_init rfl rfl (Nat.le_of_ble_eq_true rfl) (fun r30 h31 => ?_)
  refine s_chk (fun hk32 => ?_)
  refine s_putF (j := 4) 0 (v := va_rf (some h26.n)) dX0_init_54 hk32 rfl (by decide) q237 (Or.inl rfl) rfl rfl rfl rfl rfl (Upd.r (fun _ => rfl)) ?_
  refine s_hl (fun h33 e34 => ?_)
  refine s_aload_n dX0_init_57 0 rfl ?_
  refine s_new 3 dX0_init_58 rfl q215 q216 q108 ?_
  refine s_hl (fun h35 e36 => ?_)
  refine s_dup dX0_init_61 rfl ?_
  refine s_iconst (0 : Int32) dX0_init_62 (by decide) ?_
  refine s_iconst (1 : Int32) dX0_init_63 (by decide) ?_
  refine s_iconst (2 : Int32) dX0_init_64 (by decide) ?_
  refine s_callI_V (kX2_init G n K hK h33.n (0 : Int32) (1 : Int32) (2 : Int32) h35) (by decide) (by decide) dX0_init_65 q217 q218 q108 q219 rfl hyX2_init rfl rfl (Nat.le_of_ble_eq_true rfl) (fun r37 h38 => ?_)
  refine s_chk (fun hk39 => ?_)
  refine s_put (j := 5) 0 (v := va_rf (some h33.n)) dX0_init_68 hk39 rfl (by decide) q238 (Or.inl rfl) rfl rfl rfl (Upd.r (fun _ => rfl)) ?_
  refine s_hl (fun h40 e41 => ?_)
  refine s_aload_n dX0_init_71 0 rfl ?_
  refine s_new 2 dX0_init_72 rfl q213 q150 q107 ?_
  refine s_hl (fun h42 e43 => ?_)
  refine s_dup dX0_init_75 rfl ?_
  refine s_callI_V (kJ2_init G n K hK h40.n h42) (by decide) (by decide) dX0_init_76 q214 q152 q107 q153 rfl hyJ2_init rfl rfl (Nat.le_of_ble_eq_true rfl) (fun r44 h45 => ?_)
  refine s_chk (fun hk46 => ?_)
  refine s_putF (j := 8) 0 (v := va_rf (some h40.n)) dX0_init_79 hk46 rfl (by decide) q241 (Or.inl rfl) rfl rfl rfl rfl rfl (Upd.r (fun _ => rfl)) ?_
  refine s_hl (fun h47 e48 => ?_)
  refine s_aload_n dX0_init_82 0 rfl ?_
  refine s_new 2 dX0_init_83 rfl q213 q150 q107 ?_
  refine s_hl (fun h49 e50 => ?_)
  refine s_dup dX0_init_86 rfl ?_
  refine s_callI_V (kJ2_init G n K hK h47.n h49) (by decide) (by decide) dX0_init_87 q214 q152 q107 q153 rfl hyJ2_init rfl rfl (Nat.le_of_ble_eq_true rfl) (fun r51 h52 => ?_)
  refine s_chk (fun hk53 => ?_)
  refine s_putF (j := 9) 0 (v := va_rf (some h47.n)) dX0_init_90 hk53 rfl (by decide) q242 (Or.inl rfl) rfl rfl rfl rfl rfl (Upd.r (fun _ => rfl)) ?_
  refine s_hl (fun h54 e55 => ?_)
  refine s_aload_n dX0_init_93 0 rfl ?_
  refine s_iconst (3 : Int32) dX0_init_94 (by decide) ?_
  refine s_chk (fun hn56 => ?_)
  refine s_newa 32 dX0_init_95 rfl (by decide) rfl rfl q321 hn56.1 (nab32 hn56) ?_
  refine s_hl (fun h57 e58 => ?_)
  refine s_chk (fun hk59 => ?_)
  refine s_putF (j := 10) 0 (v := va_rf (some h54.n)) dX0_init_97 hk59 rfl (by decide) q243 (Or.inl rfl) rfl rfl rfl rfl rfl (Upd.r (fun _ => rfl)) ?_
  refine s_hl (fun h60 e61 => ?_)
  refine s_aload_n dX0_init_100 0 rfl ?_
  refine s_iconst (4 : Int32) dX0_init_101 (by decide) ?_
  refine s_chk (fun hn62 => ?_)
  refine s_newa 32 dX0_init_102 rfl (by decide) rfl rfl q321 hn62.1 (nab32 hn62) ?_
  refine s_hl (fun h63 e64 => ?_)
  refine s_chk (fun hk65 => ?_)
  refine s_putF (j := 18) 0 (v := va_rf (some h60.n)) dX0_init_104 hk65 rfl (by decide) q251 (Or.inl rfl) rfl rfl rfl rfl rfl (Upd.r (fun _ => rfl)) ?_
  refine s_hl (fun h66 e67 => ?_)
  refine s_aload_n dX0_init_107 0 rfl ?_
  refine s_sipush (10000 : Int32) dX0_init_108 (by decide) ?_
  refine s_chk (fun hn68 => ?_)
  refine s_newa 32 dX0_init_111 rfl (by decide) rfl rfl q321 hn68.1 (nab32 hn68) ?_
  refine s_hl (fun h69 e70 => ?_)
  refine s_chk (fun hk71 => ?_)
  refine s_putF (j := 19) 0 (v := va_rf (some h66.n)) dX0_init_113 hk71 rfl (by decide) q252 (Or.inl rfl) rfl rfl rfl rfl rfl (Upd.r (fun _ => rfl)) ?_
  refine s_hl (fun h72 e73 => ?_)
  refine s_aload_n dX0_init_116 0 rfl ?_
  refine s_sipush (10000 : Int32) dX0_init_117 (by decide) ?_
  refine s_chk (fun hn74 => ?_)
  refine s_newa 32 dX0_init_120 rfl (by decide) rfl rfl q321 hn74.1 (nab32 hn74) ?_
  refine s_hl (fun h75 e76 => ?_)
  refine s_chk (fun hk77 => ?_)
  refine s_putF (j := 20) 0 (v := va_rf (some h72.n)) dX0_init_122 hk77 rfl (by decide) q253 (Or.inl rfl) rfl rfl rfl rfl rfl (Upd.r (fun _ => rfl)) ?_
  refine s_hl (fun h78 e79 => ?_)
  refine s_aload_n dX0_init_125 0 rfl ?_
  refine s_sipush (10000 : Int32) dX0_init_126 (by decide) ?_
  refine s_chk (fun hn80 => ?_)
  refine s_newa 32 dX0_init_129 rfl (by decide) rfl rfl q321 hn80.1 (nab32 hn80) ?_
  refine s_hl (fun h81 e82 => ?_)
  refine s_chk (fun hk83 => ?_)
  refine s_putF (j := 21) 0 (v := va_rf (some h78.n)) dX0_init_131 hk83 rfl (by decide) q254 (Or.inl rfl) rfl rfl rfl rfl rfl (Upd.r (fun _ => rfl)) ?_
  refine s_hl (fun h84 e85 => ?_)
  refine s_aload_n dX0_init_134 0 rfl ?_
  refine s_sipush (10000 : Int32) dX0_init_135 (by decide) ?_
  refine s_chk (fun hn86 => ?_)
  refine s_newa 32 dX0_init_138 rfl (by decide) rfl rfl q321 hn86.1 (nab32 hn86) ?_
  refine s_hl (fun h87 e88 => ?_)
  refine s_chk (fun hk89 => ?_)
  refine s_putF (j := 22) 0 (v := va_rf (some h84.n)) dX0_init_140 hk89 rfl (by decide) q255 (Or.inl rfl) rfl rfl rfl rfl rfl (Upd.r (fun _ => rfl)) ?_
  refine s_hl (fun h90 e91 => ?_)
  refine s_aload_n dX0_init_143 0 rfl ?_
  refine s_bipush (20 : Int32) dX0_init_144 (by decide) ?_
  refine s_chk (fun hn92 => ?_)
  refine s_newa 32 dX0_init_146 rfl (by decide) rfl rfl q321 hn92.1 (nab32 hn92) ?_
  refine s_hl (fun h93 e94 => ?_)
  refine s_chk (fun hk95 => ?_)
  refine s_putF (j := 25) 0 (v := va_rf (some h90.n)) dX0_init_148 hk95 rfl (by decide) q258 (Or.inl rfl) rfl rfl rfl rfl rfl (Upd.r (fun _ => rfl)) ?_
  refine s_hl (fun h96 e97 => ?_)
  refine s_aload_n dX0_init_151 0 rfl ?_
  refine s_bipush (8 : Int32) dX0_init_152 (by decide) ?_
  refine s_bipush (8 : Int32) dX0_init_154 (by decide) ?_
  refine s_multiI dX0_init_156 q231 (by decide) (by decide) ?_
  refine s_hl (fun h98 e99 => ?_)
  refine s_chk (fun hk100 => ?_)
  refine s_putF (j := 26) 0 (v := va_rf (some h96.n)) dX0_init_160 hk100 rfl (by decide) q259 (Or.inl rfl) rfl rfl rfl rfl rfl (Upd.r (fun _ => rfl)) ?_
  refine s_hl (fun h101 e102 => ?_)
  refine s_aload_n dX0_init_163 0 rfl ?_
  refine s_bipush (8 : Int32) dX0_init_164 (by decide) ?_
  refine s_chk (fun hn103 => ?_)
  refine s_newa 32 dX0_init_166 rfl (by decide) rfl rfl q321 hn103.1 (nab32 hn103) ?_
  refine s_hl (fun h104 e105 => ?_)
  refine s_chk (fun hk106 => ?_)
  refine s_putF (j := 27) 0 (v := va_rf (some h101.n)) dX0_init_168 hk106 rfl (by decide) q260 (Or.inl rfl) rfl rfl rfl rfl rfl (Upd.r (fun _ => rfl)) ?_
  refine s_hl (fun h107 e108 => ?_)
  refine s_aload_n dX0_init_171 0 rfl ?_
  refine s_bipush (8 : Int32) dX0_init_172 (by decide) ?_
  refine s_chk (fun hn109 => ?_)
  refine s_newa 33 dX0_init_174 rfl (by decide) rfl rfl q322 hn109.1 (nab33 hn109) ?_
  refine s_hl (fun h110 e111 => ?_)
  refine s_chk (fun hk112 => ?_)
  refine s_putF (j := 28) 0 (v := va_rf (some h107.n)) dX0_init_176 hk112 rfl (by decide) q261 (Or.inl rfl) rfl rfl rfl rfl rfl (Upd.r (fun _ => rfl)) ?_
  refine s_hl (fun h113 e114 => ?_)
  exact s_vret dX0_init_179 rfl rfl
theorem hyX0_feeds : yX0_feeds.cls ≠ "java/lang/invoke/MethodHandle" ∧ yX0_feeds.cls ≠ "java/lang/invoke/VarHandle" ∧ (parseMethodDescriptor yX0_feeds.desc).map (fun d => d.parameters.length) = some 1 := by decide +kernel
theorem sX0_feeds_L3 (G : Gl) (n : Nat) (K : Nat → Nat) (hK : K = G.ad) (y3 : Nat) (y4 : Int32) : ∀ (f : Nat) (x2 : Int32) (h : AH), Sim G yX0_feeds.cls yX0_feeds.name cX0_feeds 3 none 1 cvV 3 [(2, .int x2), (0, .ref y3), (1, .int y4)] [] h (F_X0_feeds_L3 n K y3 y4 f x2 h) := by
  intro f
  induction f with
  | zero =>
    intro x2 h
    exact s_none
  | succ f ih =>
    intro x2 h
    unfold F_X0_feeds_L3
    refine s_iload_n dX0_feeds_3 0 rfl ?_
    refine s_if_lt 36 dX0_feeds_4 (by decide) (fun c5 => ?_) (fun c5 => ?_)
    · exact s_vret dX0_feeds_36 rfl rfl
    · refine s_aload_n dX0_feeds_7 1 rfl ?_
      refine s_chk (fun hk6 => ?_)
      refine s_get (j := 0) 0 (va_rf (h.R y3 0)) dX0_feeds_8 hk6 rfl (by decide) q233 (Or.inl rfl) rfl ?_
      refine s_aload_n dX0_feeds_11 1 rfl ?_
      refine s_get (j := 6) 0 (.int (h.I y3 6)) dX0_feeds_12 hk6 rfl (by decide) q239 (Or.inl rfl) rfl ?_
      refine s_iload_n dX0_feeds_15 2 rfl ?_
      refine s_iload_n dX0_feeds_16 0 rfl ?_
      refine s_ishr dX0_feeds_17 ?_
      refine s_i2b dX0_feeds_18 ?_
      refine s_ob (r := h.R y3 0) (fun z => [(2, .int x2), (0, .ref y3), (1, .int y4)]) (fun z => [.int ((y4 >>> (x2 &&& 31)).toInt8.toInt32), .int (h.I y3 6), z]) (fun a7 => ?_)
      refine s_chk (fun hk8 => ?_)
      refine s_chk (fun hi9 => ?_)
      refine s_bast dX0_feeds_19 hk8 rfl (by decide) hi9 ?_
      refine s_hl (fun h10 e11 => ?_)
      refine s_aload_n dX0_feeds_20 1 rfl ?_
      refine s_dup dX0_feeds_21 rfl ?_
      refine s_get (j := 6) 0 (.int (h10.I y3 6)) dX0_feeds_22 (show h10.kind y3 = 1 by rw [e11]; exact hk6) rfl (by decide) q239 (Or.inl rfl) rfl ?_
      refine s_iconst (1 : Int32) dX0_feeds_25 (by decide) ?_
      refine s_iadd dX0_feeds_26 ?_
      refine s_put (j := 6) 0 (v := .int ((h10.I y3 6) + (1 : Int32))) dX0_feeds_27 (show h10.kind y3 = 1 by rw [e11]; exact hk6) rfl (by decide) q239 (Or.inl rfl) rfl rfl rfl (Upd.i (fun _ => rfl)) ?_
      refine s_hl (fun h12 e13 => ?_)
      refine s_iinc (-8 : Int32) [(2, .int (x2 + (-8 : Int32))), (0, .ref y3), (1, .int y4)] dX0_feeds_30 0 rfl (by decide) (by decide) (by decide) rfl ?_
      refine s_goto 3 dX0_feeds_33 (by decide) ?_
      exact ih (x2 + (-8 : Int32)) h12
theorem kX0_feeds (G : Gl) (n : Nat) (K : Nat → Nat) (hK : K = G.ad) (p0 : Nat) (p1 : Int32) (h : AH) : OkM G yX0_feeds cX0_feeds 3 none 1 cvV [.ref p0, .int p1] h (F_X0_feeds n K p0 p1 h) := by
  refine ok_of_sim [(0, .ref p0), (1, .int p1)] (by decide +kernel) (fun r => ⟨_, rfl⟩) (by simp [uns, lv_args, lg_sl, catI, catL, catA, va_rfc]) (by simp [uns, lv_args, lg_sl, catI, catL, catA, va_rfc]) (by simp [uns, lv_args, lg_sl, catI, catL, catA, va_rfc]) ?_
  unfold F_X0_feeds
  refine s_bipush (24 : Int32) dX0_feeds_0 (by decide) ?_
  refine s_istore_n [(2, .int (24 : Int32)), (0, .ref p0), (1, .int p1)] dX0_feeds_2 (by decide) (by decide) rfl ?_
  exact sX0_feeds_L3 G n K hK p0 p1 n (24 : Int32) h
theorem hyX0_feed : yX0_feed.cls ≠ "java/lang/invoke/MethodHandle" ∧ yX0_feed.cls ≠ "java/lang/invoke/VarHandle" ∧ (parseMethodDescriptor yX0_feed.desc).map (fun d => d.parameters.length) = some 5 := by decide +kernel
theorem kX0_feed (G : Gl) (n : Nat) (K : Nat → Nat) (hK : K = G.ad) (p0 : Nat) (p1 : Int32) (p2 : Int32) (p3 : Int32) (p4 : Int32) (p5 : Int32) (h : AH) : OkM G yX0_feed cX0_feed 6 (some .int) 2 cvI [.ref p0, .int p1, .int p2, .int p3, .int p4, .int p5] h (F_X0_feed n K p0 p1 p2 p3 p4 p5 h) := by
  refine ok_of_sim [(0, .ref p0), (1, .int p1), (2, .int p2), (3, .int p3), (4, .int p4), (5, .int p5)] (by decide +kernel) (fun r => ⟨_, rfl⟩) (by simp [uns, lv_args, lg_sl, catI, catL, catA, va_rfc]) (by simp [uns, lv_args, lg_sl, catI, catL, catA, va_rfc]) (by simp [uns, lv_args, lg_sl, catI, catL, catA, va_rfc]) ?_
  unfold F_X0_feed
  refine s_aload_n dX0_feed_0 0 rfl ?_
  refine s_chk (fun hk1 => ?_)
  refine s_get (j := 6) 0 (.int (h.I p0 6)) dX0_feed_1 hk1 rfl (by decide) q239 (Or.inl rfl) rfl ?_
  refine s_bipush (20 : Int32) dX0_feed_4 (by decide) ?_
  refine s_iadd dX0_feed_6 ?_
  refine s_sipush (600 : Int32) dX0_feed_7 (by decide) ?_
  refine s_icmp_le 15 dX0_feed_10 (by decide) (fun c2 => ?_) (fun c2 => ?_)
  · refine s_aload_n dX0_feed_15 0 rfl ?_
    refine s_iload_n dX0_feed_16 1 rfl ?_
    refine s_callV_V 0 (kX0_feeds G n K hK p0 p1 h) (by decide) (by decide) dX0_feed_17 hk1 rfl rfl q327 q329 qs0 q103 q330 hyX0_feeds rfl rfl (Nat.le_of_ble_eq_true rfl) (fun r3 h4 => ?_)
    refine s_aload_n dX0_feed_20 0 rfl ?_
    refine s_iload_n dX0_feed_21 2 rfl ?_
    refine s_chk (fun hk7 => ?_)
    refine s_callV_V 0 (kX0_feeds G n K hK p0 p2 h4) (by decide) (by decide) dX0_feed_22 hk7 rfl rfl q327 q329 qs0 q103 q330 hyX0_feeds rfl rfl (Nat.le_of_ble_eq_true rfl) (fun r5 h6 => ?_)
    refine s_aload_n dX0_feed_25 0 rfl ?_
    refine s_iload_n dX0_feed_26 3 rfl ?_
    refine s_chk (fun hk10 => ?_)
    refine s_callV_V 0 (kX0_feeds G n K hK p0 p3 h6) (by decide) (by decide) dX0_feed_27 hk10 rfl rfl q327 q329 qs0 q103 q330 hyX0_feeds rfl rfl (Nat.le_of_ble_eq_true rfl) (fun r8 h9 => ?_)
    refine s_aload_n dX0_feed_30 0 rfl ?_
    refine s_iload dX0_feed_31 4 rfl (by decide) ?_
    refine s_chk (fun hk13 => ?_)
    refine s_callV_V 0 (kX0_feeds G n K hK p0 p4 h9) (by decide) (by decide) dX0_feed_33 hk13 rfl rfl q327 q329 qs0 q103 q330 hyX0_feeds rfl rfl (Nat.le_of_ble_eq_true rfl) (fun r11 h12 => ?_)
    refine s_aload_n dX0_feed_36 0 rfl ?_
    refine s_iload dX0_feed_37 5 rfl (by decide) ?_
    refine s_chk (fun hk16 => ?_)
    refine s_callV_V 0 (kX0_feeds G n K hK p0 p5 h12) (by decide) (by decide) dX0_feed_39 hk16 rfl rfl q327 q329 qs0 q103 q330 hyX0_feeds rfl rfl (Nat.le_of_ble_eq_true rfl) (fun r14 h15 => ?_)
    refine s_aload_n dX0_feed_42 0 rfl ?_
    refine s_chk (fun hk17 => ?_)
    refine s_get (j := 6) 0 (.int (h15.I p0 6)) dX0_feed_43 hk17 rfl (by decide) q239 (Or.inl rfl) rfl ?_
    exact s_iret dX0_feed_46 rfl rfl
  · refine s_iconst (-1 : Int32) dX0_feed_13 (by decide) ?_
    exact s_iret dX0_feed_14 rfl rfl
theorem hyX0_in : yX0_in.cls ≠ "java/lang/invoke/MethodHandle" ∧ yX0_in.cls ≠ "java/lang/invoke/VarHandle" ∧ (parseMethodDescriptor yX0_in.desc).map (fun d => d.parameters.length) = some 3 := by decide +kernel
theorem kX0_in (G : Gl) (n : Nat) (K : Nat → Nat) (hK : K = G.ad) (p0 : Int32) (p1 : Int32) (p2 : Int32) (h : AH) : OkM G yX0_in cX0_in 3 (some .boolean) 1 cvI [.int p0, .int p1, .int p2] h (F_X0_in n K p0 p1 p2 h) := by
  refine ok_of_sim [(0, .int p0), (1, .int p1), (2, .int p2)] (by decide +kernel) (fun r => ⟨_, rfl⟩) (by simp [uns, lv_args, lg_sl, catI, catL, catA, va_rfc]) (by simp [uns, lv_args, lg_sl, catI, catL, catA, va_rfc]) (by simp [uns, lv_args, lg_sl, catI, catL, catA, va_rfc]) ?_
  unfold F_X0_in
  refine s_iload_n dX0_in_0 0 rfl ?_
  refine s_iload_n dX0_in_1 1 rfl ?_
  refine s_icmp_lt 14 dX0_in_2 (by decide) (fun c1 => ?_) (fun c1 => ?_)
  · refine s_iconst (0 : Int32) dX0_in_14 (by decide) ?_
    exact s_zret dX0_in_15 rfl rfl rfl
  · refine s_iload_n dX0_in_5 0 rfl ?_
    refine s_iload_n dX0_in_6 2 rfl ?_
    refine s_icmp_gt 14 dX0_in_7 (by decide) (fun c2 => ?_) (fun c2 => ?_)
    · refine s_iconst (0 : Int32) dX0_in_14 (by decide) ?_
      exact s_zret dX0_in_15 rfl rfl rfl
    · refine s_iconst (1 : Int32) dX0_in_10 (by decide) ?_
      refine s_goto 15 dX0_in_11 (by decide) ?_
      exact s_zret dX0_in_15 rfl rfl rfl
theorem hyX0_end : yX0_end.cls ≠ "java/lang/invoke/MethodHandle" ∧ yX0_end.cls ≠ "java/lang/invoke/VarHandle" ∧ (parseMethodDescriptor yX0_end.desc).map (fun d => d.parameters.length) = some 1 := by decide +kernel
theorem kX0_end (G : Gl) (n : Nat) (K : Nat → Nat) (hK : K = G.ad) (p0 : Nat) (p1 : Int32) (h : AH) : OkM G yX0_end cX0_end 2 (some .boolean) 2 cvI [.ref p0, .int p1] h (F_X0_end n K p0 p1 h) := by
  refine ok_of_sim [(0, .ref p0), (1, .int p1)] (by decide +kernel) (fun r => ⟨_, rfl⟩) (by simp [uns, lv_args, lg_sl, catI, catL, catA, va_rfc]) (by simp [uns, lv_args, lg_sl, catI, catL, catA, va_rfc]) (by simp [uns, lv_args, lg_sl, catI, catL, catA, va_rfc]) ?_
  unfold F_X0_end
  refine s_iload_n dX0_end_0 1 rfl ?_
  refine s_iconst (0 : Int32) dX0_end_1 (by decide) ?_
  refine s_aload_n dX0_end_2 0 rfl ?_
  refine s_chk (fun hk1 => ?_)
  refine s_get (j := 6) 0 (.int (h.I p0 6)) dX0_end_3 hk1 rfl (by decide) q239 (Or.inl rfl) rfl ?_
  refine s_callS_I (kX0_in G n K hK p1 (0 : Int32) (h.I p0 6) h) (by decide) (by decide) dX0_end_6 q335 q336 q103 q337 hyX0_in rfl rfl (Nat.le_of_ble_eq_true rfl) (fun r2 h3 => ?_)
  refine s_if_ne 14 dX0_end_9 (by decide) (fun c4 => ?_) (fun c4 => ?_)
  · refine s_aload_n dX0_end_14 0 rfl ?_
    refine s_iload_n dX0_end_15 1 rfl ?_
    refine s_chk (fun hk5 => ?_)
    refine s_put (j := 6) 0 (v := .int p1) dX0_end_16 hk5 rfl (by decide) q239 (Or.inl rfl) rfl rfl rfl (Upd.i (fun _ => rfl)) ?_
    refine s_hl (fun h6 e7 => ?_)
    refine s_iconst (1 : Int32) dX0_end_19 (by decide) ?_
    exact s_zret dX0_end_20 rfl rfl rfl
  · refine s_iconst (0 : Int32) dX0_end_12 (by decide) ?_
    exact s_zret dX0_end_13 rfl rfl rfl
theorem hyJ2_clear : yJ2_clear.cls ≠ "java/lang/invoke/MethodHandle" ∧ yJ2_clear.cls ≠ "java/lang/invoke/VarHandle" ∧ (parseMethodDescriptor yJ2_clear.desc).map (fun d => d.parameters.length) = some 0 := by decide +kernel
theorem sJ2_clear_L27 (G : Gl) (n : Nat) (K : Nat → Nat) (hK : K = G.ad) (y8 : Int32) (y9 : Option Nat) : ∀ (f : Nat) (x7 : Int32) (h : AH), Sim G yJ2_clear.cls yJ2_clear.name cJ2_clear 4 none 1 cvV 27 [(3, .int x7), (2, .int y8), (1, va_rf y9)] [] h (F_J2_clear_L27 n K y8 y9 f x7 h) := by
  intro f
  induction f with
  | zero =>
    intro x7 h
    exact s_none
  | succ f ih =>
    intro x7 h
    unfold F_J2_clear_L27
    refine s_iload_n dJ2_clear_27 0 rfl ?_
    refine s_iload_n dJ2_clear_28 1 rfl ?_
    refine s_icmp_ge 42 dJ2_clear_29 (by decide) (fun c10 => ?_) (fun c10 => ?_)
    · exact s_vret dJ2_clear_42 rfl rfl
    · refine s_oload_n dJ2_clear_32 2 rfl ?_
      refine s_iload_n dJ2_clear_33 0 rfl ?_
      refine s_null dJ2_clear_34 ?_
      refine s_ob (r := y9) (fun z => [(3, .int x7), (2, .int y8), (1, va_rf y9)]) (fun z => [va_rf none, .int x7, z]) (fun a11 => ?_)
      refine s_chk (fun hk12 => ?_)
      refine s_chk (fun hi13 => ?_)
      refine s_aastN dJ2_clear_35 hk12 hi13 ?_
      refine s_hl (fun h14 e15 => ?_)
      refine s_iinc (1 : Int32) [(3, .int (x7 + (1 : Int32))), (2, .int y8), (1, va_rf y9)] dJ2_clear_36 0 rfl (by decide) (by decide) (by decide) rfl ?_
      refine s_goto 27 dJ2_clear_39 (by decide) ?_
      exact ih (x7 + (1 : Int32)) h14
theorem kJ2_clear (G : Gl) (n : Nat) (K : Nat → Nat) (hK : K = G.ad) (p0 : Nat) (h : AH) : OkM G yJ2_clear cJ2_clear 4 none 1 cvV [.ref p0] h (F_J2_clear n K p0 h) := by
  refine ok_of_sim [(0, .ref p0)] (by decide +kernel) (fun r => ⟨_, rfl⟩) (by simp [uns, lv_args, lg_sl, catI, catL, catA, va_rfc]) (by simp [uns, lv_args, lg_sl, catI, catL, catA, va_rfc]) (by simp [uns, lv_args, lg_sl, catI, catL, catA, va_rfc]) ?_
  unfold F_J2_clear
  refine s_aload_n dJ2_clear_0 0 rfl ?_
  refine s_dup dJ2_clear_1 rfl ?_
  refine s_chk (fun hk1 => ?_)
  refine s_get (j := 0) 2 (.int (h.I p0 0)) dJ2_clear_2 hk1 rfl (by decide) q166 (Or.inr q167) rfl ?_
  refine s_iconst (1 : Int32) dJ2_clear_5 (by decide) ?_
  refine s_iadd dJ2_clear_6 ?_
  refine s_put (j := 0) 2 (v := .int ((h.I p0 0) + (1 : Int32))) dJ2_clear_7 hk1 rfl (by decide) q166 (Or.inr q167) rfl rfl rfl (Upd.i (fun _ => rfl)) ?_
  refine s_hl (fun h2 e3 => ?_)
  refine s_aload_n dJ2_clear_10 0 rfl ?_
  refine s_get (j := 1) 2 (va_rf (h2.R p0 1)) dJ2_clear_11 (show h2.kind p0 = 3 by rw [e3]; exact hk1) rfl (by decide) q163 (Or.inl rfl) rfl ?_
  refine s_ostore_n [(1, va_rf (h2.R p0 1)), (0, .ref p0)] dJ2_clear_14 (by decide) (by decide) rfl ?_
  refine s_aload_n dJ2_clear_15 1 rfl ?_
  refine s_get (j := 2) 2 (.int (h2.I p0 2)) dJ2_clear_16 (show h2.kind p0 = 3 by rw [e3]; exact hk1) rfl (by decide) q164 (Or.inl rfl) rfl ?_
  refine s_istore_n [(2, .int (h2.I p0 2)), (1, va_rf (h2.R p0 1)), (0, .ref p0)] dJ2_clear_19 (by decide) (by decide) rfl ?_
  refine s_aload_n dJ2_clear_20 2 rfl ?_
  refine s_iconst (0 : Int32) dJ2_clear_21 (by decide) ?_
  refine s_dup_x1 dJ2_clear_22 rfl rfl ?_
  refine s_put (j := 2) 2 (v := .int (0 : Int32)) dJ2_clear_23 (show h2.kind p0 = 3 by rw [e3]; exact hk1) rfl (by decide) q164 (Or.inl rfl) rfl rfl rfl (Upd.i (fun _ => rfl)) ?_
  refine s_hl (fun h4 e5 => ?_)
  refine s_istore_n [(3, .int (0 : Int32)), (2, .int (h2.I p0 2)), (1, va_rf (h2.R p0 1)), (0, .ref p0)] dJ2_clear_26 (by decide) (by decide) rfl ?_
  refine s_sub [0, 1, 2] rfl ?_
  exact sJ2_clear_L27 G n K hK (h2.I p0 2) (h2.R p0 1) n (0 : Int32) h4
theorem hyX1_isLetter : yX1_isLetter.cls ≠ "java/lang/invoke/MethodHandle" ∧ yX1_isLetter.cls ≠ "java/lang/invoke/VarHandle" ∧ (parseMethodDescriptor yX1_isLetter.desc).map (fun d => d.parameters.length) = some 1 := by decide +kernel
theorem kX1_isLetter (G : Gl) (n : Nat) (K : Nat → Nat) (hK : K = G.ad) (p0 : Int32) (h : AH) : OkM G yX1_isLetter cX1_isLetter 1 (some .boolean) 1 cvI [.int p0] h (F_X1_isLetter n K p0 h) := by
  refine ok_of_sim [(0, .int p0)] (by decide +kernel) (fun r => ⟨_, rfl⟩) (by simp [uns, lv_args, lg_sl, catI, catL, catA, va_rfc]) (by simp [uns, lv_args, lg_sl, catI, catL, catA, va_rfc]) (by simp [uns, lv_args, lg_sl, catI, catL, catA, va_rfc]) ?_
  unfold F_X1_isLetter
  refine s_iload_n dX1_isLetter_0 0 rfl ?_
  refine s_bipush (97 : Int32) dX1_isLetter_1 (by decide) ?_
  refine s_icmp_lt 16 dX1_isLetter_3 (by decide) (fun c1 => ?_) (fun c1 => ?_)
  · refine s_iconst (0 : Int32) dX1_isLetter_16 (by decide) ?_
    exact s_zret dX1_isLetter_17 rfl rfl rfl
  · refine s_iload_n dX1_isLetter_6 0 rfl ?_
    refine s_bipush (122 : Int32) dX1_isLetter_7 (by decide) ?_
    refine s_icmp_gt 16 dX1_isLetter_9 (by decide) (fun c2 => ?_) (fun c2 => ?_)
    · refine s_iconst (0 : Int32) dX1_isLetter_16 (by decide) ?_
      exact s_zret dX1_isLetter_17 rfl rfl rfl
    · refine s_iconst (1 : Int32) dX1_isLetter_12 (by decide) ?_
      refine s_goto 17 dX1_isLetter_13 (by decide) ?_
      exact s_zret dX1_isLetter_17 rfl rfl rfl
theorem hyX1_isDigit : yX1_isDigit.cls ≠ "java/lang/invoke/MethodHandle" ∧ yX1_isDigit.cls ≠ "java/lang/invoke/VarHandle" ∧ (parseMethodDescriptor yX1_isDigit.desc).map (fun d => d.parameters.length) = some 1 := by decide +kernel
theorem kX1_isDigit (G : Gl) (n : Nat) (K : Nat → Nat) (hK : K = G.ad) (p0 : Int32) (h : AH) : OkM G yX1_isDigit cX1_isDigit 1 (some .boolean) 1 cvI [.int p0] h (F_X1_isDigit n K p0 h) := by
  refine ok_of_sim [(0, .int p0)] (by decide +kernel) (fun r => ⟨_, rfl⟩) (by simp [uns, lv_args, lg_sl, catI, catL, catA, va_rfc]) (by simp [uns, lv_args, lg_sl, catI, catL, catA, va_rfc]) (by simp [uns, lv_args, lg_sl, catI, catL, catA, va_rfc]) ?_
  unfold F_X1_isDigit
  refine s_iload_n dX1_isDigit_0 0 rfl ?_
  refine s_bipush (48 : Int32) dX1_isDigit_1 (by decide) ?_
  refine s_icmp_lt 16 dX1_isDigit_3 (by decide) (fun c1 => ?_) (fun c1 => ?_)
  · refine s_iconst (0 : Int32) dX1_isDigit_16 (by decide) ?_
    exact s_zret dX1_isDigit_17 rfl rfl rfl
  · refine s_iload_n dX1_isDigit_6 0 rfl ?_
    refine s_bipush (57 : Int32) dX1_isDigit_7 (by decide) ?_
    refine s_icmp_gt 16 dX1_isDigit_9 (by decide) (fun c2 => ?_) (fun c2 => ?_)
    · refine s_iconst (0 : Int32) dX1_isDigit_16 (by decide) ?_
      exact s_zret dX1_isDigit_17 rfl rfl rfl
    · refine s_iconst (1 : Int32) dX1_isDigit_12 (by decide) ?_
      refine s_goto 17 dX1_isDigit_13 (by decide) ?_
      exact s_zret dX1_isDigit_17 rfl rfl rfl
theorem hyJ3_init_2 : yJ3_init_2.cls ≠ "java/lang/invoke/MethodHandle" ∧ yJ3_init_2.cls ≠ "java/lang/invoke/VarHandle" ∧ (parseMethodDescriptor yJ3_init_2.desc).map (fun d => d.parameters.length) = some 4 := by decide +kernel
theorem kJ3_init_2 (G : Gl) (n : Nat) (K : Nat → Nat) (hK : K = G.ad) (p0 : Nat) (p1 : Option Nat) (p2 : Option Nat) (p3 : Int32) (p4 : Int32) (h : AH) : OkM G yJ3_init_2 cJ3_init_2 5 none 1 cvV [.ref p0, va_rf p1, va_rf p2, .int p3, .int p4] h (F_J3_init_2 n K p0 p1 p2 p3 p4 h) := by
  refine ok_of_sim [(0, .ref p0), (1, va_rf p1), (2, va_rf p2), (3, .int p3), (4, .int p4)] (by decide +kernel) (fun r => ⟨_, rfl⟩) (by simp [uns, lv_args, lg_sl, catI, catL, catA, va_rfc]) (by simp [uns, lv_args, lg_sl, catI, catL, catA, va_rfc]) (by simp [uns, lv_args, lg_sl, catI, catL, catA, va_rfc]) ?_
  unfold F_J3_init_2
  refine s_aload_n dJ3_init_2_0 0 rfl ?_
  refine s_objInit dJ3_init_2_1 q392 q141 q142 (by decide) (Nat.le_of_ble_eq_true rfl) ?_
  refine s_aload_n dJ3_init_2_4 0 rfl ?_
  refine s_aload_n dJ3_init_2_5 0 rfl ?_
  refine s_chk (fun hk1 => ?_)
  refine s_put (j := 0) 5 (v := va_rf (some p0)) dJ3_init_2_6 hk1 rfl (by decide) q422 (Or.inl rfl) rfl rfl rfl (Upd.r (fun _ => rfl)) ?_
  refine s_hl (fun h2 e3 => ?_)
  refine s_aload_n dJ3_init_2_9 0 rfl ?_
  refine s_gets (v := va_rf (ko (K 201))) dJ3_init_2_10 q393 (fun s hg => by rw [hK]; exact hg.2.2.2.2.2.2.1.2.2.2.1) ?_
  refine s_put (j := 1) 5 (v := va_rf (ko (K 201))) dJ3_init_2_13 (show h2.kind p0 = 6 by rw [e3]; exact hk1) rfl (by decide) q423 (Or.inl rfl) rfl (nr02 _ _) (fr02 _ _) (Upd.r (fun _ => rfl)) ?_
  refine s_hl (fun h4 e5 => ?_)
  refine s_aload_n dJ3_init_2_16 0 rfl ?_
  refine s_gets (v := va_rf (ko (K 202))) dJ3_init_2_17 q395 (fun s hg => by rw [hK]; exact hg.2.2.2.2.2.2.1.2.2.2.2) ?_
  refine s_put (j := 2) 5 (v := va_rf (ko (K 202))) dJ3_init_2_20 (show h4.kind p0 = 6 by rw [e5, e3]; exact hk1) rfl (by decide) q424 (Or.inl rfl) rfl (nr01 _ _) (fr01 _ _) (Upd.r (fun _ => rfl)) ?_
  refine s_hl (fun h6 e7 => ?_)
  refine s_iload dJ3_init_2_23 4 rfl (by decide) ?_
  refine s_jn (fun j9 => ∀ (h8 : AH), Sim G yJ3_init_2.cls yJ3_init_2.name cJ3_init_2 5 none 1 cvV 41 [(0, .ref p0), (1, va_rf p1), (2, va_rf p2), (3, .int p3)] [] h8 (j9 h8)) ?_ (fun j9 hj18 => ?_)
  · intro h8
    refine s_aload_n dJ3_init_2_41 0 rfl ?_
    refine s_oload_n dJ3_init_2_42 1 rfl ?_
    refine s_chk (fun hk10 => ?_)
    refine s_put (j := 3) 5 (v := va_rf p1) dJ3_init_2_43 hk10 rfl (by decide) q421 (Or.inl rfl) rfl (nr01 _ _) (fr01 _ _) (Upd.r (fun _ => rfl)) ?_
    refine s_hl (fun h11 e12 => ?_)
    refine s_aload_n dJ3_init_2_46 0 rfl ?_
    refine s_oload_n dJ3_init_2_47 2 rfl ?_
    refine s_put (j := 0) 5 (v := va_rf p2) dJ3_init_2_48 (show h11.kind p0 = 6 by rw [e12]; exact hk10) rfl (by decide) q422 (Or.inl rfl) rfl (nr01 _ _) (fr01 _ _) (Upd.r (fun _ => rfl)) ?_
    refine s_hl (fun h13 e14 => ?_)
    refine s_iload_n dJ3_init_2_51 3 rfl ?_
    refine s_if_ne 60 dJ3_init_2_52 (by decide) (fun c15 => ?_) (fun c15 => ?_)
    · exact s_vret dJ3_init_2_60 rfl rfl
    · refine s_aload_n dJ3_init_2_55 0 rfl ?_
      refine s_null dJ3_init_2_56 ?_
      refine s_put (j := 2) 5 (v := va_rf none) dJ3_init_2_57 (show h13.kind p0 = 6 by rw [e14, e12]; exact hk10) rfl (by decide) q424 (Or.inl rfl) rfl (nr01 _ _) (fr01 _ _) (Upd.r (fun _ => rfl)) ?_
      refine s_hl (fun h16 e17 => ?_)
      exact s_vret dJ3_init_2_60 rfl rfl
  refine s_if_eq 36 dJ3_init_2_25 (by decide) (fun c19 => ?_) (fun c19 => ?_)
  · refine s_aload_n dJ3_init_2_36 0 rfl ?_
    refine s_null dJ3_init_2_37 ?_
    refine s_put (j := 1) 5 (v := va_rf none) dJ3_init_2_38 (show h6.kind p0 = 6 by rw [e7, e5, e3]; exact hk1) rfl (by decide) q423 (Or.inl rfl) rfl (nr02 _ _) (fr02 _ _) (Upd.r (fun _ => rfl)) ?_
    refine s_hl (fun h20 e21 => ?_)
    refine s_sub [0, 1, 2, 3] rfl ?_
    exact hj18 h20
  · refine s_aload_n dJ3_init_2_28 0 rfl ?_
    exact s_none
theorem hyJ4_init : yJ4_init.cls ≠ "java/lang/invoke/MethodHandle" ∧ yJ4_init.cls ≠ "java/lang/invoke/VarHandle" ∧ (parseMethodDescriptor yJ4_init.desc).map (fun d => d.parameters.length) = some 4 := by decide +kernel
theorem kJ4_init (G : Gl) (n : Nat) (K : Nat → Nat) (hK : K = G.ad) (p0 : Nat) (p1 : Option Nat) (p2 : Option Nat) (p3 : Int32) (p4 : Int32) (h : AH) : OkM G yJ4_init cJ4_init 5 none 2 cvV [.ref p0, va_rf p1, va_rf p2, .int p3, .int p4] h (F_J4_init n K p0 p1 p2 p3 p4 h) := by
  refine ok_of_sim [(0, .ref p0), (1, va_rf p1), (2, va_rf p2), (3, .int p3), (4, .int p4)] (by decide +kernel) (fun r => ⟨_, rfl⟩) (by simp [uns, lv_args, lg_sl, catI, catL, catA, va_rfc]) (by simp [uns, lv_args, lg_sl, catI, catL, catA, va_rfc]) (by simp [uns, lv_args, lg_sl, catI, catL, catA, va_rfc]) ?_
  unfold F_J4_init
  refine s_aload_n dJ4_init_0 0 rfl ?_
  refine s_oload_n dJ4_init_1 1 rfl ?_
  refine s_oload_n dJ4_init_2 2 rfl ?_
  refine s_iload_n dJ4_init_3 3 rfl ?_
  refine s_iload dJ4_init_4 4 rfl (by decide) ?_
  refine s_callI_V (kJ3_init_2 G n K hK p0 p1 p2 p3 p4 h) (by decide) (by decide) dJ4_init_6 q415 q416 q110 q417 rfl hyJ3_init_2 rfl rfl (Nat.le_of_ble_eq_true rfl) (fun r1 h2 => ?_)
  exact s_vret dJ4_init_9 rfl rfl
theorem hyJ5_init : yJ5_init.cls ≠ "java/lang/invoke/MethodHandle" ∧ yJ5_init.cls ≠ "java/lang/invoke/VarHandle" ∧ (parseMethodDescriptor yJ5_init.desc).map (fun d => d.parameters.length) = some 4 := by decide +kernel
theorem kJ5_init (G : Gl) (n : Nat) (K : Nat → Nat) (hK : K = G.ad) (p0 : Nat) (p1 : Option Nat) (p2 : Option Nat) (p3 : Int32) (p4 : Int32) (h : AH) : OkM G yJ5_init cJ5_init 5 none 3 cvV [.ref p0, va_rf p1, va_rf p2, .int p3, .int p4] h (F_J5_init n K p0 p1 p2 p3 p4 h) := by
  refine ok_of_sim [(0, .ref p0), (1, va_rf p1), (2, va_rf p2), (3, .int p3), (4, .int p4)] (by decide +kernel) (fun r => ⟨_, rfl⟩) (by simp [uns, lv_args, lg_sl, catI, catL, catA, va_rfc]) (by simp [uns, lv_args, lg_sl, catI, catL, catA, va_rfc]) (by simp [uns, lv_args, lg_sl, catI, catL, catA, va_rfc]) ?_
  unfold F_J5_init
  refine s_aload_n dJ5_init_0 0 rfl ?_
  refine s_oload_n dJ5_init_1 1 rfl ?_
  refine s_oload_n dJ5_init_2 2 rfl ?_
  refine s_iload_n dJ5_init_3 3 rfl ?_
  refine s_iload dJ5_init_4 4 rfl (by decide) ?_
  refine s_callI_V (kJ4_init G n K hK p0 p1 p2 p3 p4 h) (by decide) (by decide) dJ5_init_6 q412 q413 q111 q414 rfl hyJ4_init rfl rfl (Nat.le_of_ble_eq_true rfl) (fun r1 h2 => ?_)
  exact s_vret dJ5_init_9 rfl rfl
theorem hyX4_init : yX4_init.cls ≠ "java/lang/invoke/MethodHandle" ∧ yX4_init.cls ≠ "java/lang/invoke/VarHandle" ∧ (parseMethodDescriptor yX4_init.desc).map (fun d => d.parameters.length) = some 1 := by decide +kernel
theorem kX4_init (G : Gl) (n : Nat) (K : Nat → Nat) (hK : K = G.ad) (p0 : Nat) (p1 : Int32) (h : AH) : OkM G yX4_init cX4_init 2 none 4 cvV [.ref p0, .int p1] h (F_X4_init n K p0 p1 h) := by
  refine ok_of_sim [(0, .ref p0), (1, .int p1)] (by decide +kernel) (fun r => ⟨_, rfl⟩) (by simp [uns, lv_args, lg_sl, catI, catL, catA, va_rfc]) (by simp [uns, lv_args, lg_sl, catI, catL, catA, va_rfc]) (by simp [uns, lv_args, lg_sl, catI, catL, catA, va_rfc]) ?_
  unfold F_X4_init
  refine s_aload_n dX4_init_0 0 rfl ?_
  refine s_null dX4_init_1 ?_
  refine s_null dX4_init_2 ?_
  refine s_iconst (0 : Int32) dX4_init_3 (by decide) ?_
  refine s_iconst (0 : Int32) dX4_init_4 (by decide) ?_
  refine s_callI_V (kJ5_init G n K hK p0 none none (0 : Int32) (0 : Int32) h) (by decide) (by decide) dX4_init_5 q409 q410 q112 q411 rfl hyJ5_init rfl rfl (Nat.le_of_ble_eq_true rfl) (fun r1 h2 => ?_)
  refine s_aload_n dX4_init_8 0 rfl ?_
  refine s_iload_n dX4_init_9 1 rfl ?_
  refine s_chk (fun hk3 => ?_)
  refine s_putF (j := 6) 5 (v := .int p1) dX4_init_10 hk3 rfl (by decide) q418 (Or.inl rfl) rfl rfl rfl rfl rfl (Upd.i (fun _ => rfl)) ?_
  refine s_hl (fun h4 e5 => ?_)
  exact s_vret dX4_init_13 rfl rfl
theorem hyX1_wrong : yX1_wrong.cls ≠ "java/lang/invoke/MethodHandle" ∧ yX1_wrong.cls ≠ "java/lang/invoke/VarHandle" ∧ (parseMethodDescriptor yX1_wrong.desc).map (fun d => d.parameters.length) = some 0 := by decide +kernel
theorem kX1_wrong (G : Gl) (n : Nat) (K : Nat → Nat) (hK : K = G.ad) (p0 : Nat) (h : AH) : OkM G yX1_wrong cX1_wrong 1 (some (.object "MiddleSheet$Fault")) 5 cvR [.ref p0] h (F_X1_wrong n K p0 h) := by
  refine ok_of_sim [(0, .ref p0)] (by decide +kernel) (fun r => ⟨_, rfl⟩) (by simp [uns, lv_args, lg_sl, catI, catL, catA, va_rfc]) (by simp [uns, lv_args, lg_sl, catI, catL, catA, va_rfc]) (by simp [uns, lv_args, lg_sl, catI, catL, catA, va_rfc]) ?_
  unfold F_X1_wrong
  refine s_new 5 dX1_wrong_0 rfl q367 q368 q113 ?_
  refine s_hl (fun h1 e2 => ?_)
  refine s_dup dX1_wrong_3 rfl ?_
  refine s_aload_n dX1_wrong_4 0 rfl ?_
  refine s_chk (fun hk3 => ?_)
  refine s_get (j := 3) 1 (.int (h1.I p0 3)) dX1_wrong_5 hk3 rfl (by decide) q179 (Or.inl rfl) rfl ?_
  refine s_callI_V (kX4_init G n K hK h.n (h1.I p0 3) h1) (by decide) (by decide) dX1_wrong_8 q406 q407 q113 q408 rfl hyX4_init rfl rfl (Nat.le_of_ble_eq_true rfl) (fun r4 h5 => ?_)
  exact s_aret (v := (some h.n)) dX1_wrong_11 rfl (Or.inl ⟨_, rfl⟩) rfl
theorem hyX1_next : yX1_next.cls ≠ "java/lang/invoke/MethodHandle" ∧ yX1_next.cls ≠ "java/lang/invoke/VarHandle" ∧ (parseMethodDescriptor yX1_next.desc).map (fun d => d.parameters.length) = some 0 := by decide +kernel
theorem sX1_next_L0 (G : Gl) (n : Nat) (K : Nat → Nat) (hK : K = G.ad) (y2 : Nat) : ∀ (f : Nat) (h : AH) (k : AH → Option ((Nat ⊕ Unit) × AH)) (hk : ∀ (h : AH), Sim G yX1_next.cls yX1_next.name cX1_next 2 none 6 (cvT cvV) 52 [(0, .ref y2)] [] h (k h)), Sim G yX1_next.cls yX1_next.name cX1_next 2 none 6 (cvT cvV) 0 [(0, .ref y2)] [] h (F_X1_next_L0 n K y2 f h k) := by
  intro f
  induction f with
  | zero =>
    intro h k hk
    exact s_none
  | succ f ih =>
    intro h k hk
    unfold F_X1_next_L0
    refine s_aload_n dX1_next_0 0 rfl ?_
    refine s_chk (fun hk3 => ?_)
    refine s_get (j := 2) 1 (.int (h.I y2 2)) dX1_next_1 hk3 rfl (by decide) q178 (Or.inl rfl) rfl ?_
    refine s_aload_n dX1_next_4 0 rfl ?_
    refine s_get (j := 1) 1 (.int (h.I y2 1)) dX1_next_5 hk3 rfl (by decide) q177 (Or.inl rfl) rfl ?_
    refine s_icmp_ge 52 dX1_next_8 (by decide) (fun c4 => ?_) (fun c4 => ?_)
    · exact hk h
    · refine s_aload_n dX1_next_11 0 rfl ?_
      refine s_get (j := 0) 1 (va_rf (h.R y2 0)) dX1_next_12 hk3 rfl (by decide) q176 (Or.inl rfl) rfl ?_
      refine s_aload_n dX1_next_15 0 rfl ?_
      refine s_get (j := 2) 1 (.int (h.I y2 2)) dX1_next_16 hk3 rfl (by decide) q178 (Or.inl rfl) rfl ?_
      refine s_ob (r := h.R y2 0) (fun z => [(0, .ref y2)]) (fun z => [.int (h.I y2 2), z]) (fun a5 => ?_)
      refine s_chk (fun hk6 => ?_)
      refine s_chk (fun hi7 => ?_)
      refine s_bald dX1_next_19 hk6 rfl hi7 ?_
      refine s_bipush (32 : Int32) dX1_next_20 (by decide) ?_
      refine s_jn (fun j8 => Sim G yX1_next.cls yX1_next.name cX1_next 2 none 6 (cvT cvV) 39 [(0, .ref y2)] [] h (j8 )) ?_ (fun j8 hj11 => ?_)
      · skip
        refine s_aload_n dX1_next_39 0 rfl ?_
        refine s_dup dX1_next_40 rfl ?_
        refine s_get (j := 2) 1 (.int (h.I y2 2)) dX1_next_41 hk3 rfl (by decide) q178 (Or.inl rfl) rfl ?_
        refine s_iconst (1 : Int32) dX1_next_44 (by decide) ?_
        refine s_iadd dX1_next_45 ?_
        refine s_put (j := 2) 1 (v := .int ((h.I y2 2) + (1 : Int32))) dX1_next_46 hk3 rfl (by decide) q178 (Or.inl rfl) rfl rfl rfl (Upd.i (fun _ => rfl)) ?_
        refine s_hl (fun h9 e10 => ?_)
        refine s_goto 0 dX1_next_49 (by decide) ?_
        exact ih h9 k hk
      refine s_icmp_eq 39 dX1_next_22 (by decide) (fun c12 => ?_) (fun c12 => ?_)
      · exact hj11
      · refine s_aload_n dX1_next_25 0 rfl ?_
        refine s_get (j := 0) 1 (va_rf (h.R y2 0)) dX1_next_26 hk3 rfl (by decide) q176 (Or.inl rfl) rfl ?_
        refine s_aload_n dX1_next_29 0 rfl ?_
        refine s_get (j := 2) 1 (.int (h.I y2 2)) dX1_next_30 hk3 rfl (by decide) q178 (Or.inl rfl) rfl ?_
        refine s_ob (r := h.R y2 0) (fun z => [(0, .ref y2)]) (fun z => [.int (h.I y2 2), z]) (fun a13 => ?_)
        refine s_chk (fun hk14 => ?_)
        refine s_chk (fun hi15 => ?_)
        refine s_bald dX1_next_33 hk14 rfl hi15 ?_
        refine s_bipush (10 : Int32) dX1_next_34 (by decide) ?_
        refine s_icmp_ne 52 dX1_next_36 (by decide) (fun c16 => ?_) (fun c16 => ?_)
        · exact hk h
        · exact hj11
theorem sX1_next_L145 (G : Gl) (n : Nat) (K : Nat → Nat) (hK : K = G.ad) (y40 : Nat) : ∀ (f : Nat) (h : AH), Sim G yX1_next.cls yX1_next.name cX1_next 2 none 6 (cvT cvV) 145 [(0, .ref y40)] [] h (F_X1_next_L145 n K y40 f h) := by
  intro f
  induction f with
  | zero =>
    intro h
    exact s_none
  | succ f ih =>
    intro h
    unfold F_X1_next_L145
    refine s_aload_n dX1_next_145 0 rfl ?_
    refine s_chk (fun hk41 => ?_)
    refine s_get (j := 2) 1 (.int (h.I y40 2)) dX1_next_146 hk41 rfl (by decide) q178 (Or.inl rfl) rfl ?_
    refine s_aload_n dX1_next_149 0 rfl ?_
    refine s_get (j := 1) 1 (.int (h.I y40 1)) dX1_next_150 hk41 rfl (by decide) q177 (Or.inl rfl) rfl ?_
    refine s_icmp_ge 201 dX1_next_153 (by decide) (fun c42 => ?_) (fun c42 => ?_)
    · exact s_vret dX1_next_201 rfl rfl
    · refine s_aload_n dX1_next_156 0 rfl ?_
      refine s_get (j := 0) 1 (va_rf (h.R y40 0)) dX1_next_157 hk41 rfl (by decide) q176 (Or.inl rfl) rfl ?_
      refine s_aload_n dX1_next_160 0 rfl ?_
      refine s_get (j := 2) 1 (.int (h.I y40 2)) dX1_next_161 hk41 rfl (by decide) q178 (Or.inl rfl) rfl ?_
      refine s_ob (r := h.R y40 0) (fun z => [(0, .ref y40)]) (fun z => [.int (h.I y40 2), z]) (fun a43 => ?_)
      refine s_chk (fun hk44 => ?_)
      refine s_chk (fun hi45 => ?_)
      refine s_bald dX1_next_164 hk44 rfl hi45 ?_
      refine s_callS_I (kX1_isDigit G n K hK (h.I a43 (ix (h.I y40 2))) h) (by decide) (by decide) dX1_next_165 q360 q361 q104 q362 hyX1_isDigit rfl rfl (Nat.le_of_ble_eq_true rfl) (fun r46 h47 => ?_)
      refine s_if_eq 201 dX1_next_168 (by decide) (fun c48 => ?_) (fun c48 => ?_)
      · exact s_vret dX1_next_201 rfl rfl
      · refine s_aload_n dX1_next_171 0 rfl ?_
        refine s_dup dX1_next_172 rfl ?_
        refine s_chk (fun hk49 => ?_)
        refine s_get (j := 2) 1 (.int (h47.I y40 2)) dX1_next_173 hk49 rfl (by decide) q178 (Or.inl rfl) rfl ?_
        refine s_iconst (1 : Int32) dX1_next_176 (by decide) ?_
        refine s_iadd dX1_next_177 ?_
        refine s_put (j := 2) 1 (v := .int ((h47.I y40 2) + (1 : Int32))) dX1_next_178 hk49 rfl (by decide) q178 (Or.inl rfl) rfl rfl rfl (Upd.i (fun _ => rfl)) ?_
        refine s_hl (fun h50 e51 => ?_)
        refine s_goto 145 dX1_next_181 (by decide) ?_
        exact ih h50
theorem sX1_next_L99 (G : Gl) (n : Nat) (K : Nat → Nat) (hK : K = G.ad) (y53 : Nat) : ∀ (f : Nat) (h : AH), Sim G yX1_next.cls yX1_next.name cX1_next 2 none 6 (cvT cvV) 99 [(0, .ref y53)] [] h (F_X1_next_L99 n K y53 f h) := by
  intro f
  induction f with
  | zero =>
    intro h
    exact s_none
  | succ f ih =>
    intro h
    unfold F_X1_next_L99
    refine s_aload_n dX1_next_99 0 rfl ?_
    refine s_chk (fun hk54 => ?_)
    refine s_get (j := 2) 1 (.int (h.I y53 2)) dX1_next_100 hk54 rfl (by decide) q178 (Or.inl rfl) rfl ?_
    refine s_aload_n dX1_next_103 0 rfl ?_
    refine s_get (j := 1) 1 (.int (h.I y53 1)) dX1_next_104 hk54 rfl (by decide) q177 (Or.inl rfl) rfl ?_
    refine s_icmp_ge 201 dX1_next_107 (by decide) (fun c55 => ?_) (fun c55 => ?_)
    · exact s_vret dX1_next_201 rfl rfl
    · refine s_aload_n dX1_next_110 0 rfl ?_
      refine s_get (j := 0) 1 (va_rf (h.R y53 0)) dX1_next_111 hk54 rfl (by decide) q176 (Or.inl rfl) rfl ?_
      refine s_aload_n dX1_next_114 0 rfl ?_
      refine s_get (j := 2) 1 (.int (h.I y53 2)) dX1_next_115 hk54 rfl (by decide) q178 (Or.inl rfl) rfl ?_
      refine s_ob (r := h.R y53 0) (fun z => [(0, .ref y53)]) (fun z => [.int (h.I y53 2), z]) (fun a56 => ?_)
      refine s_chk (fun hk57 => ?_)
      refine s_chk (fun hi58 => ?_)
      refine s_bald dX1_next_118 hk57 rfl hi58 ?_
      refine s_callS_I (kX1_isLetter G n K hK (h.I a56 (ix (h.I y53 2))) h) (by decide) (by decide) dX1_next_119 q357 q358 q104 q359 hyX1_isLetter rfl rfl (Nat.le_of_ble_eq_true rfl) (fun r59 h60 => ?_)
      refine s_if_eq 201 dX1_next_122 (by decide) (fun c61 => ?_) (fun c61 => ?_)
      · exact s_vret dX1_next_201 rfl rfl
      · refine s_aload_n dX1_next_125 0 rfl ?_
        refine s_dup dX1_next_126 rfl ?_
        refine s_chk (fun hk62 => ?_)
        refine s_get (j := 2) 1 (.int (h60.I y53 2)) dX1_next_127 hk62 rfl (by decide) q178 (Or.inl rfl) rfl ?_
        refine s_iconst (1 : Int32) dX1_next_130 (by decide) ?_
        refine s_iadd dX1_next_131 ?_
        refine s_put (j := 2) 1 (v := .int ((h60.I y53 2) + (1 : Int32))) dX1_next_132 hk62 rfl (by decide) q178 (Or.inl rfl) rfl rfl rfl (Upd.i (fun _ => rfl)) ?_
        refine s_hl (fun h63 e64 => ?_)
        refine s_goto 99 dX1_next_135 (by decide) ?_
        exact ih h63
theorem kX1_next (G : Gl) (n : Nat) (K : Nat → Nat) (hK : K = G.ad) (p0 : Nat) (h : AH) : OkT G yX1_next cX1_next 2 none 6 (cvT cvV) [.ref p0] h (F_X1_next n K p0 h) := by
  refine okT_of_sim [(0, .ref p0)] (by decide +kernel) (by simp [uns, lv_args, lg_sl, catI, catL, catA, va_rfc]) (by simp [uns, lv_args, lg_sl, catI, catL, catA, va_rfc]) (by simp [uns, lv_args, lg_sl, catI, catL, catA, va_rfc]) ?_
  unfold F_X1_next
  refine sX1_next_L0 G n K hK p0 n h _ ?_
  intro h17
  refine s_aload_n dX1_next_52 0 rfl ?_
  refine s_aload_n dX1_next_53 0 rfl ?_
  refine s_chk (fun hk18 => ?_)
  refine s_get (j := 2) 1 (.int (h17.I p0 2)) dX1_next_54 hk18 rfl (by decide) q178 (Or.inl rfl) rfl ?_
  refine s_put (j := 3) 1 (v := .int (h17.I p0 2)) dX1_next_57 hk18 rfl (by decide) q179 (Or.inl rfl) rfl rfl rfl (Upd.i (fun _ => rfl)) ?_
  refine s_hl (fun h19 e20 => ?_)
  refine s_aload_n dX1_next_60 0 rfl ?_
  refine s_get (j := 2) 1 (.int (h19.I p0 2)) dX1_next_61 (show h19.kind p0 = 2 by rw [e20]; exact hk18) rfl (by decide) q178 (Or.inl rfl) rfl ?_
  refine s_aload_n dX1_next_64 0 rfl ?_
  refine s_get (j := 1) 1 (.int (h19.I p0 1)) dX1_next_65 (show h19.kind p0 = 2 by rw [e20]; exact hk18) rfl (by decide) q177 (Or.inl rfl) rfl ?_
  refine s_icmp_ne 72 dX1_next_68 (by decide) (fun c21 => ?_) (fun c21 => ?_)
  · refine s_aload_n dX1_next_72 0 rfl ?_
    refine s_get (j := 0) 1 (va_rf (h19.R p0 0)) dX1_next_73 (show h19.kind p0 = 2 by rw [e20]; exact hk18) rfl (by decide) q176 (Or.inl rfl) rfl ?_
    refine s_aload_n dX1_next_76 0 rfl ?_
    refine s_get (j := 2) 1 (.int (h19.I p0 2)) dX1_next_77 (show h19.kind p0 = 2 by rw [e20]; exact hk18) rfl (by decide) q178 (Or.inl rfl) rfl ?_
    refine s_ob (r := h19.R p0 0) (fun z => [(0, .ref p0)]) (fun z => [.int (h19.I p0 2), z]) (fun a22 => ?_)
    refine s_chk (fun hk23 => ?_)
    refine s_chk (fun hi24 => ?_)
    refine s_bald dX1_next_80 hk23 rfl hi24 ?_
    refine s_istore_n [(1, .int (h19.I a22 (ix (h19.I p0 2)))), (0, .ref p0)] dX1_next_81 (by decide) (by decide) rfl ?_
    refine s_aload_n dX1_next_82 1 rfl ?_
    refine s_dup dX1_next_83 rfl ?_
    refine s_get (j := 2) 1 (.int (h19.I p0 2)) dX1_next_84 (show h19.kind p0 = 2 by rw [e20]; exact hk18) rfl (by decide) q178 (Or.inl rfl) rfl ?_
    refine s_iconst (1 : Int32) dX1_next_87 (by decide) ?_
    refine s_iadd dX1_next_88 ?_
    refine s_put (j := 2) 1 (v := .int ((h19.I p0 2) + (1 : Int32))) dX1_next_89 (show h19.kind p0 = 2 by rw [e20]; exact hk18) rfl (by decide) q178 (Or.inl rfl) rfl rfl rfl (Upd.i (fun _ => rfl)) ?_
    refine s_hl (fun h25 e26 => ?_)
    refine s_iload_n dX1_next_92 0 rfl ?_
    refine s_callS_I (kX1_isLetter G n K hK (h19.I a22 (ix (h19.I p0 2))) h25) (by decide) (by decide) dX1_next_93 q357 q358 q104 q359 hyX1_isLetter rfl rfl (Nat.le_of_ble_eq_true rfl) (fun r27 h28 => ?_)
    refine s_if_eq 138 dX1_next_96 (by decide) (fun c29 => ?_) (fun c29 => ?_)
    · refine s_iload_n dX1_next_138 0 rfl ?_
      refine s_callS_I (kX1_isDigit G n K hK (h19.I a22 (ix (h19.I p0 2))) h28) (by decide) (by decide) dX1_next_139 q360 q361 q104 q362 hyX1_isDigit rfl rfl (Nat.le_of_ble_eq_true rfl) (fun r30 h31 => ?_)
      refine s_if_eq 184 dX1_next_142 (by decide) (fun c32 => ?_) (fun c32 => ?_)
      · refine s_iload_n dX1_next_184 0 rfl ?_
        refine s_bipush (59 : Int32) dX1_next_185 (by decide) ?_
        refine s_icmp_eq 201 dX1_next_187 (by decide) (fun c33 => ?_) (fun c33 => ?_)
        · exact s_vret dX1_next_201 rfl rfl
        · refine s_iload_n dX1_next_190 0 rfl ?_
          refine s_bipush (47 : Int32) dX1_next_191 (by decide) ?_
          refine s_icmp_eq 201 dX1_next_193 (by decide) (fun c34 => ?_) (fun c34 => ?_)
          · exact s_vret dX1_next_201 rfl rfl
          · refine s_aload_n dX1_next_196 1 rfl ?_
            refine s_chk (fun hk37 => ?_)
            refine s_callV_R 1 (kX1_wrong G n K hK p0 h31) (by decide) (by decide) dX1_next_197 hk37 rfl rfl q363 q365 qs2 q104 q366 hyX1_wrong rfl rfl (Nat.le_of_ble_eq_true rfl) (fun r35 h36 => ?_)
            refine s_ob (r := r35) (fun z => [(1, .int (h19.I a22 (ix (h19.I p0 2)))), (0, .ref p0)]) (fun z => [z]) (fun a38 => ?_)
            exact s_athrow dX1_next_200
      · refine s_sub [1] rfl ?_
        exact sX1_next_L145 G n K hK p0 n h31
    · refine s_sub [1] rfl ?_
      exact sX1_next_L99 G n K hK p0 n h28
  · exact s_vret dX1_next_71 rfl rfl
theorem hyJ6_coder : yJ6_coder.cls ≠ "java/lang/invoke/MethodHandle" ∧ yJ6_coder.cls ≠ "java/lang/invoke/VarHandle" ∧ (parseMethodDescriptor yJ6_coder.desc).map (fun d => d.parameters.length) = some 0 := by decide +kernel
theorem kJ6_coder (G : Gl) (n : Nat) (K : Nat → Nat) (hK : K = G.ad) (p0 : Nat) (h : AH) : OkM G yJ6_coder cJ6_coder 1 (some .byte) 1 cvI [.ref p0] h (F_J6_coder n K p0 h) := by
  refine ok_of_sim [(0, .ref p0)] (by decide +kernel) (fun r => ⟨_, rfl⟩) (by simp [uns, lv_args, lg_sl, catI, catL, catA, va_rfc]) (by simp [uns, lv_args, lg_sl, catI, catL, catA, va_rfc]) (by simp [uns, lv_args, lg_sl, catI, catL, catA, va_rfc]) ?_
  unfold F_J6_coder
  refine s_gets (v := .int 1) dJ6_coder_0 q452 (fun s hg => hg.2.2.2.2.2.2.1.2.1) ?_
  refine s_if_eq 13 dJ6_coder_3 (by decide) (fun c1 => ?_) (fun c1 => ?_)
  · refine s_iconst (1 : Int32) dJ6_coder_13 (by decide) ?_
    refine s_chk (fun hb2 => ?_)
    exact s_zret dJ6_coder_14 rfl (nar_ok ⟨_, rfl⟩ hb2) rfl
  · refine s_aload_n dJ6_coder_6 0 rfl ?_
    refine s_chk (fun hk3 => ?_)
    refine s_getStrC dJ6_coder_7 hk3 q1797 ?_
    refine s_goto 14 dJ6_coder_10 (by decide) ?_
    refine s_chk (fun hb4 => ?_)
    exact s_zret dJ6_coder_14 rfl (nar_ok ⟨_, rfl⟩ hb4) rfl
theorem hyJ6_length : yJ6_length.cls ≠ "java/lang/invoke/MethodHandle" ∧ yJ6_length.cls ≠ "java/lang/invoke/VarHandle" ∧ (parseMethodDescriptor yJ6_length.desc).map (fun d => d.parameters.length) = some 0 := by decide +kernel
theorem kJ6_length (G : Gl) (n : Nat) (K : Nat → Nat) (hK : K = G.ad) (p0 : Nat) (h : AH) : OkM G yJ6_length cJ6_length 1 (some .int) 2 cvI [.ref p0] h (F_J6_length n K p0 h) := by
  refine ok_of_sim [(0, .ref p0)] (by decide +kernel) (fun r => ⟨_, rfl⟩) (by simp [uns, lv_args, lg_sl, catI, catL, catA, va_rfc]) (by simp [uns, lv_args, lg_sl, catI, catL, catA, va_rfc]) (by simp [uns, lv_args, lg_sl, catI, catL, catA, va_rfc]) ?_
  unfold F_J6_length
  refine s_aload_n dJ6_length_0 0 rfl ?_
  refine s_chk (fun hk1 => ?_)
  refine s_getStrV dJ6_length_1 hk1 q1796 ?_
  refine s_ob (r := h.R p0 0) (fun z => [(0, .ref p0)]) (fun z => [z]) (fun a2 => ?_)
  refine s_chk (fun hk3 => ?_)
  refine s_alen dJ6_length_4 hk3 rfl ?_
  refine s_aload_n dJ6_length_5 0 rfl ?_
  refine s_callStr (kJ6_coder G n K hK p0 h) (by decide) (by decide) dJ6_length_6 hk1 rfl q448 q449 q450 q114 q451 hyJ6_coder rfl rfl (Nat.le_of_ble_eq_true rfl) (fun r4 h5 => ?_)
  refine s_ishr dJ6_length_9 ?_
  exact s_iret dJ6_length_10 rfl rfl
theorem hyX1_isOver : yX1_isOver.cls ≠ "java/lang/invoke/MethodHandle" ∧ yX1_isOver.cls ≠ "java/lang/invoke/VarHandle" ∧ (parseMethodDescriptor yX1_isOver.desc).map (fun d => d.parameters.length) = some 0 := by decide +kernel
theorem kX1_isOver (G : Gl) (n : Nat) (K : Nat → Nat) (hK : K = G.ad) (p0 : Nat) (h : AH) : OkM G yX1_isOver cX1_isOver 1 (some .boolean) 1 cvI [.ref p0] h (F_X1_isOver n K p0 h) := by
  refine ok_of_sim [(0, .ref p0)] (by decide +kernel) (fun r => ⟨_, rfl⟩) (by simp [uns, lv_args, lg_sl, catI, catL, catA, va_rfc]) (by simp [uns, lv_args, lg_sl, catI, catL, catA, va_rfc]) (by simp [uns, lv_args, lg_sl, catI, catL, catA, va_rfc]) ?_
  unfold F_X1_isOver
  refine s_aload_n dX1_isOver_0 0 rfl ?_
  refine s_chk (fun hk1 => ?_)
  refine s_get (j := 3) 1 (.int (h.I p0 3)) dX1_isOver_1 hk1 rfl (by decide) q179 (Or.inl rfl) rfl ?_
  refine s_aload_n dX1_isOver_4 0 rfl ?_
  refine s_get (j := 1) 1 (.int (h.I p0 1)) dX1_isOver_5 hk1 rfl (by decide) q177 (Or.inl rfl) rfl ?_
  refine s_icmp_ne 15 dX1_isOver_8 (by decide) (fun c2 => ?_) (fun c2 => ?_)
  · refine s_iconst (0 : Int32) dX1_isOver_15 (by decide) ?_
    exact s_zret dX1_isOver_16 rfl rfl rfl
  · refine s_iconst (1 : Int32) dX1_isOver_11 (by decide) ?_
    refine s_goto 16 dX1_isOver_12 (by decide) ?_
    exact s_zret dX1_isOver_16 rfl rfl rfl
theorem hyJ6_isLatin1 : yJ6_isLatin1.cls ≠ "java/lang/invoke/MethodHandle" ∧ yJ6_isLatin1.cls ≠ "java/lang/invoke/VarHandle" ∧ (parseMethodDescriptor yJ6_isLatin1.desc).map (fun d => d.parameters.length) = some 0 := by decide +kernel
theorem kJ6_isLatin1 (G : Gl) (n : Nat) (K : Nat → Nat) (hK : K = G.ad) (p0 : Nat) (h : AH) : OkM G yJ6_isLatin1 cJ6_isLatin1 1 (some .boolean) 1 cvI [.ref p0] h (F_J6_isLatin1 n K p0 h) := by
  refine ok_of_sim [(0, .ref p0)] (by decide +kernel) (fun r => ⟨_, rfl⟩) (by simp [uns, lv_args, lg_sl, catI, catL, catA, va_rfc]) (by simp [uns, lv_args, lg_sl, catI, catL, catA, va_rfc]) (by simp [uns, lv_args, lg_sl, catI, catL, catA, va_rfc]) ?_
  unfold F_J6_isLatin1
  refine s_gets (v := .int 1) dJ6_isLatin1_0 q452 (fun s hg => hg.2.2.2.2.2.2.1.2.1) ?_
  refine s_if_eq 17 dJ6_isLatin1_3 (by decide) (fun c1 => ?_) (fun c1 => ?_)
  · refine s_iconst (0 : Int32) dJ6_isLatin1_17 (by decide) ?_
    exact s_zret dJ6_isLatin1_18 rfl rfl rfl
  · refine s_aload_n dJ6_isLatin1_6 0 rfl ?_
    refine s_chk (fun hk2 => ?_)
    refine s_getStrC dJ6_isLatin1_7 hk2 q1797 ?_
    refine s_if_ne 17 dJ6_isLatin1_10 (by decide) (fun c3 => ?_) (fun c3 => ?_)
    · refine s_iconst (0 : Int32) dJ6_isLatin1_17 (by decide) ?_
      exact s_zret dJ6_isLatin1_18 rfl rfl rfl
    · refine s_iconst (1 : Int32) dJ6_isLatin1_13 (by decide) ?_
      refine s_goto 18 dJ6_isLatin1_14 (by decide) ?_
      exact s_zret dJ6_isLatin1_18 rfl rfl rfl
theorem hyJ7_canEncode : yJ7_canEncode.cls ≠ "java/lang/invoke/MethodHandle" ∧ yJ7_canEncode.cls ≠ "java/lang/invoke/VarHandle" ∧ (parseMethodDescriptor yJ7_canEncode.desc).map (fun d => d.parameters.length) = some 1 := by decide +kernel
theorem kJ7_canEncode (G : Gl) (n : Nat) (K : Nat → Nat) (hK : K = G.ad) (p0 : Int32) (h : AH) : OkM G yJ7_canEncode cJ7_canEncode 1 (some .boolean) 1 cvI [.int p0] h (F_J7_canEncode n K p0 h) := by
  refine ok_of_sim [(0, .int p0)] (by decide +kernel) (fun r => ⟨_, rfl⟩) (by simp [uns, lv_args, lg_sl, catI, catL, catA, va_rfc]) (by simp [uns, lv_args, lg_sl, catI, catL, catA, va_rfc]) (by simp [uns, lv_args, lg_sl, catI, catL, catA, va_rfc]) ?_
  unfold F_J7_canEncode
  refine s_iload_n dJ7_canEncode_0 0 rfl ?_
  refine s_if_lt 15 dJ7_canEncode_1 (by decide) (fun c1 => ?_) (fun c1 => ?_)
  · refine s_iconst (0 : Int32) dJ7_canEncode_15 (by decide) ?_
    exact s_zret dJ7_canEncode_16 rfl rfl rfl
  · refine s_iload_n dJ7_canEncode_4 0 rfl ?_
    refine s_sipush (255 : Int32) dJ7_canEncode_5 (by decide) ?_
    refine s_icmp_gt 15 dJ7_canEncode_8 (by decide) (fun c2 => ?_) (fun c2 => ?_)
    · refine s_iconst (0 : Int32) dJ7_canEncode_15 (by decide) ?_
      exact s_zret dJ7_canEncode_16 rfl rfl rfl
    · refine s_iconst (1 : Int32) dJ7_canEncode_11 (by decide) ?_
      refine s_goto 16 dJ7_canEncode_12 (by decide) ?_
      exact s_zret dJ7_canEncode_16 rfl rfl rfl
theorem hyJ7_indexOfChar : yJ7_indexOfChar.cls ≠ "java/lang/invoke/MethodHandle" ∧ yJ7_indexOfChar.cls ≠ "java/lang/invoke/VarHandle" ∧ (parseMethodDescriptor yJ7_indexOfChar.desc).map (fun d => d.parameters.length) = some 4 := by decide +kernel
theorem sJ7_indexOfChar_L7 (G : Gl) (n : Nat) (K : Nat → Nat) (hK : K = G.ad) (y3 : Int32) (y4 : Option Nat) (y5 : Int32) (h : AH) : ∀ (f : Nat) (x2 : Int32), Sim G yJ7_indexOfChar.cls yJ7_indexOfChar.name cJ7_indexOfChar 6 (some .int) 1 cvI 7 [(5, .int x2), (4, .int y3), (0, va_rf y4), (3, .int y5)] [] h (F_J7_indexOfChar_L7 n K y3 y4 y5 h f x2) := by
  intro f
  induction f with
  | zero =>
    intro x2
    exact s_none
  | succ f ih =>
    intro x2
    unfold F_J7_indexOfChar_L7
    refine s_iload dJ7_indexOfChar_7 0 rfl (by decide) ?_
    refine s_iload_n dJ7_indexOfChar_9 3 rfl ?_
    refine s_icmp_ge 31 dJ7_indexOfChar_10 (by decide) (fun c6 => ?_) (fun c6 => ?_)
    · refine s_iconst (-1 : Int32) dJ7_indexOfChar_31 (by decide) ?_
      exact s_iret dJ7_indexOfChar_32 rfl rfl
    · refine s_oload_n dJ7_indexOfChar_13 2 rfl ?_
      refine s_iload dJ7_indexOfChar_14 0 rfl (by decide) ?_
      refine s_ob (r := y4) (fun z => [(5, .int x2), (4, .int y3), (0, va_rf y4), (3, .int y5)]) (fun z => [.int x2, z]) (fun a7 => ?_)
      refine s_chk (fun hk8 => ?_)
      refine s_chk (fun hi9 => ?_)
      refine s_bald dJ7_indexOfChar_16 hk8 rfl hi9 ?_
      refine s_iload dJ7_indexOfChar_17 1 rfl (by decide) ?_
      refine s_icmp_ne 25 dJ7_indexOfChar_19 (by decide) (fun c10 => ?_) (fun c10 => ?_)
      · refine s_iinc (1 : Int32) [(5, .int (x2 + (1 : Int32))), (4, .int y3), (0, va_rf y4), (3, .int y5)] dJ7_indexOfChar_25 0 rfl (by decide) (by decide) (by decide) rfl ?_
        refine s_goto 7 dJ7_indexOfChar_28 (by decide) ?_
        exact ih (x2 + (1 : Int32))
      · refine s_iload dJ7_indexOfChar_22 0 rfl (by decide) ?_
        exact s_iret dJ7_indexOfChar_24 rfl rfl
theorem kJ7_indexOfChar (G : Gl) (n : Nat) (K : Nat → Nat) (hK : K = G.ad) (p0 : Option Nat) (p1 : Int32) (p2 : Int32) (p3 : Int32) (h : AH) : OkM G yJ7_indexOfChar cJ7_indexOfChar 6 (some .int) 1 cvI [va_rf p0, .int p1, .int p2, .int p3] h (F_J7_indexOfChar n K p0 p1 p2 p3 h) := by
  refine ok_of_sim [(0, va_rf p0), (1, .int p1), (2, .int p2), (3, .int p3)] (by decide +kernel) (fun r => ⟨_, rfl⟩) (by simp [uns, lv_args, lg_sl, catI, catL, catA, va_rfc]) (by simp [uns, lv_args, lg_sl, catI, catL, catA, va_rfc]) (by simp [uns, lv_args, lg_sl, catI, catL, catA, va_rfc]) ?_
  unfold F_J7_indexOfChar
  refine s_iload_n dJ7_indexOfChar_0 1 rfl ?_
  refine s_i2b dJ7_indexOfChar_1 ?_
  refine s_istore [(4, .int p1.toInt8.toInt32), (0, va_rf p0), (1, .int p1), (2, .int p2), (3, .int p3)] dJ7_indexOfChar_2 (by decide) (by decide) rfl ?_
  refine s_iload_n dJ7_indexOfChar_4 3 rfl ?_
  refine s_istore [(5, .int p2), (4, .int p1.toInt8.toInt32), (0, va_rf p0), (1, .int p1), (2, .int p2), (3, .int p3)] dJ7_indexOfChar_5 (by decide) (by decide) rfl ?_
  refine s_sub [0, 1, 2, 5] rfl ?_
  exact sJ7_indexOfChar_L7 G n K hK p1.toInt8.toInt32 p0 p3 h n p2
theorem hyJ7_indexOf : yJ7_indexOf.cls ≠ "java/lang/invoke/MethodHandle" ∧ yJ7_indexOf.cls ≠ "java/lang/invoke/VarHandle" ∧ (parseMethodDescriptor yJ7_indexOf.desc).map (fun d => d.parameters.length) = some 4 := by decide +kernel
theorem kJ7_indexOf (G : Gl) (n : Nat) (K : Nat → Nat) (hK : K = G.ad) (p0 : Option Nat) (p1 : Int32) (p2 : Int32) (p3 : Int32) (h : AH) : OkM G yJ7_indexOf cJ7_indexOf 4 (some .int) 2 cvI [va_rf p0, .int p1, .int p2, .int p3] h (F_J7_indexOf n K p0 p1 p2 p3 h) := by
  refine ok_of_sim [(0, va_rf p0), (1, .int p1), (2, .int p2), (3, .int p3)] (by decide +kernel) (fun r => ⟨_, rfl⟩) (by simp [uns, lv_args, lg_sl, catI, catL, catA, va_rfc]) (by simp [uns, lv_args, lg_sl, catI, catL, catA, va_rfc]) (by simp [uns, lv_args, lg_sl, catI, catL, catA, va_rfc]) ?_
  unfold F_J7_indexOf
  refine s_iload_n dJ7_indexOf_0 1 rfl ?_
  refine s_callS_I (kJ7_canEncode G n K hK p1 h) (by decide) (by decide) dJ7_indexOf_1 q470 q471 q115 q472 hyJ7_canEncode rfl rfl (Nat.le_of_ble_eq_true rfl) (fun r1 h2 => ?_)
  refine s_if_ne 9 dJ7_indexOf_4 (by decide) (fun c3 => ?_) (fun c3 => ?_)
  · refine s_iload_n dJ7_indexOf_9 2 rfl ?_
    refine s_iconst (0 : Int32) dJ7_indexOf_10 (by decide) ?_
    refine s_mmax dJ7_indexOf_11 (by decide) q473 q474 q116 q475 (Nat.le_of_ble_eq_true rfl) ?_
    refine s_istore_n [(2, .int (if p2 < (0 : Int32) then (0 : Int32) else p2)), (0, va_rf p0), (1, .int p1), (3, .int p3)] dJ7_indexOf_14 (by decide) (by decide) rfl ?_
    refine s_iload_n dJ7_indexOf_15 3 rfl ?_
    refine s_oload_n dJ7_indexOf_16 1 rfl ?_
    refine s_ob (r := p0) (fun z => [(2, .int (if p2 < (0 : Int32) then (0 : Int32) else p2)), (0, z), (1, .int p1), (3, .int p3)]) (fun z => [z, .int p3]) (fun a4 => ?_)
    refine s_chk (fun hk5 => ?_)
    refine s_alen dJ7_indexOf_17 hk5 rfl ?_
    refine s_mmin dJ7_indexOf_18 (by decide) q476 q477 q116 q478 (Nat.le_of_ble_eq_true rfl) ?_
    refine s_istore_n [(3, .int (if (nI (h2.len a4)) < p3 then (nI (h2.len a4)) else p3)), (2, .int (if p2 < (0 : Int32) then (0 : Int32) else p2)), (0, .ref a4), (1, .int p1)] dJ7_indexOf_21 (by decide) (by decide) rfl ?_
    refine s_iload_n dJ7_indexOf_22 1 rfl ?_
    refine s_iload_n dJ7_indexOf_23 0 rfl ?_
    refine s_icmp_lt 29 dJ7_indexOf_24 (by decide) (fun c6 => ?_) (fun c6 => ?_)
    · refine s_aload_n dJ7_indexOf_29 2 rfl ?_
      refine s_iload_n dJ7_indexOf_30 3 rfl ?_
      refine s_iload_n dJ7_indexOf_31 1 rfl ?_
      refine s_iload_n dJ7_indexOf_32 0 rfl ?_
      refine s_callS_I (kJ7_indexOfChar G n K hK (some a4) p1 (if p2 < (0 : Int32) then (0 : Int32) else p2) (if (nI (h2.len a4)) < p3 then (nI (h2.len a4)) else p3) h2) (by decide) (by decide) dJ7_indexOf_33 q479 q480 q115 q481 hyJ7_indexOfChar rfl rfl (Nat.le_of_ble_eq_true rfl) (fun r7 h8 => ?_)
      exact s_iret dJ7_indexOf_36 rfl rfl
    · refine s_iconst (-1 : Int32) dJ7_indexOf_27 (by decide) ?_
      exact s_iret dJ7_indexOf_28 rfl rfl
  · refine s_iconst (-1 : Int32) dJ7_indexOf_7 (by decide) ?_
    exact s_iret dJ7_indexOf_8 rfl rfl
theorem hyJ6_indexOf : yJ6_indexOf.cls ≠ "java/lang/invoke/MethodHandle" ∧ yJ6_indexOf.cls ≠ "java/lang/invoke/VarHandle" ∧ (parseMethodDescriptor yJ6_indexOf.desc).map (fun d => d.parameters.length) = some 2 := by decide +kernel
theorem kJ6_indexOf (G : Gl) (n : Nat) (K : Nat → Nat) (hK : K = G.ad) (p0 : Nat) (p1 : Int32) (p2 : Int32) (h : AH) : OkM G yJ6_indexOf cJ6_indexOf 3 (some .int) 3 cvI [.ref p0, .int p1, .int p2] h (F_J6_indexOf n K p0 p1 p2 h) := by
  refine ok_of_sim [(0, .ref p0), (1, .int p1), (2, .int p2)] (by decide +kernel) (fun r => ⟨_, rfl⟩) (by simp [uns, lv_args, lg_sl, catI, catL, catA, va_rfc]) (by simp [uns, lv_args, lg_sl, catI, catL, catA, va_rfc]) (by simp [uns, lv_args, lg_sl, catI, catL, catA, va_rfc]) ?_
  unfold F_J6_indexOf
  refine s_aload_n dJ6_indexOf_0 0 rfl ?_
  refine s_chk (fun hk3 => ?_)
  refine s_callStr (kJ6_isLatin1 G n K hK p0 h) (by decide) (by decide) dJ6_indexOf_1 hk3 rfl q462 q463 q464 q114 q465 hyJ6_isLatin1 rfl rfl (Nat.le_of_ble_eq_true rfl) (fun r1 h2 => ?_)
  refine s_if_eq 23 dJ6_indexOf_4 (by decide) (fun c4 => ?_) (fun c4 => ?_)
  · refine s_aload_n dJ6_indexOf_23 0 rfl ?_
    refine s_chk (fun hk5 => ?_)
    refine s_getStrV dJ6_indexOf_24 hk5 q1796 ?_
    refine s_iload_n dJ6_indexOf_27 1 rfl ?_
    refine s_iload_n dJ6_indexOf_28 2 rfl ?_
    refine s_aload_n dJ6_indexOf_29 0 rfl ?_
    refine s_callStr (kJ6_length G n K hK p0 h2) (by decide) (by decide) dJ6_indexOf_30 hk5 rfl q466 q445 q446 q114 q447 hyJ6_length rfl rfl (by simp [catI, catL, catA, va_rfc]) (fun r6 h7 => ?_)
    exact s_none
  · refine s_aload_n dJ6_indexOf_7 0 rfl ?_
    refine s_chk (fun hk8 => ?_)
    refine s_getStrV dJ6_indexOf_8 hk8 q1796 ?_
    refine s_iload_n dJ6_indexOf_11 1 rfl ?_
    refine s_iload_n dJ6_indexOf_12 2 rfl ?_
    refine s_aload_n dJ6_indexOf_13 0 rfl ?_
    refine s_callStr (kJ6_length G n K hK p0 h2) (by decide) (by decide) dJ6_indexOf_14 hk8 rfl q466 q445 q446 q114 q447 hyJ6_length rfl rfl (by simp [catI, catL, catA, va_rfc]) (fun r9 h10 => ?_)
    refine s_callS_I (kJ7_indexOf G n K hK (h2.R p0 0) p1 p2 r9 h10) (by decide) (by decide) dJ6_indexOf_17 q467 q468 q115 q469 hyJ7_indexOf rfl rfl (Nat.le_of_ble_eq_true rfl) (fun r11 h12 => ?_)
    refine s_goto 36 dJ6_indexOf_20 (by decide) ?_
    exact s_iret dJ6_indexOf_36 rfl rfl
theorem hyJ10_checkIndex : yJ10_checkIndex.cls ≠ "java/lang/invoke/MethodHandle" ∧ yJ10_checkIndex.cls ≠ "java/lang/invoke/VarHandle" ∧ (parseMethodDescriptor yJ10_checkIndex.desc).map (fun d => d.parameters.length) = some 3 := by decide +kernel
theorem kJ10_checkIndex (G : Gl) (n : Nat) (K : Nat → Nat) (hK : K = G.ad) (p0 : Int32) (p1 : Int32) (p2 : Option Nat) (h : AH) : OkM G yJ10_checkIndex cJ10_checkIndex 3 (some .int) 1 cvI [.int p0, .int p1, va_rf p2] h (F_J10_checkIndex n K p0 p1 p2 h) := by
  refine ok_of_sim [(0, .int p0), (1, .int p1), (2, va_rf p2)] (by decide +kernel) (fun r => ⟨_, rfl⟩) (by simp [uns, lv_args, lg_sl, catI, catL, catA, va_rfc]) (by simp [uns, lv_args, lg_sl, catI, catL, catA, va_rfc]) (by simp [uns, lv_args, lg_sl, catI, catL, catA, va_rfc]) ?_
  unfold F_J10_checkIndex
  refine s_iload_n dJ10_checkIndex_0 0 rfl ?_
  refine s_jn (fun j1 => Sim G yJ10_checkIndex.cls yJ10_checkIndex.name cJ10_checkIndex 3 (some .int) 1 cvI 9 [(0, .int p0), (1, .int p1), (2, va_rf p2)] [] h (j1 )) ?_ (fun j1 hj2 => ?_)
  · skip
    refine s_oload_n dJ10_checkIndex_9 2 rfl ?_
    refine s_iload_n dJ10_checkIndex_10 0 rfl ?_
    refine s_iload_n dJ10_checkIndex_11 1 rfl ?_
    exact s_none
  refine s_if_lt 9 dJ10_checkIndex_1 (by decide) (fun c3 => ?_) (fun c3 => ?_)
  · exact hj2
  · refine s_iload_n dJ10_checkIndex_4 0 rfl ?_
    refine s_iload_n dJ10_checkIndex_5 1 rfl ?_
    refine s_icmp_lt 16 dJ10_checkIndex_6 (by decide) (fun c4 => ?_) (fun c4 => ?_)
    · refine s_iload_n dJ10_checkIndex_16 0 rfl ?_
      exact s_iret dJ10_checkIndex_17 rfl rfl
    · exact hj2
