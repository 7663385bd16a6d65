set_option maxRecDepth 100000
theorem hyX3_feeds : yX3_feeds.cls ≠ "java/lang/invoke/MethodHandle" ∧ yX3_feeds.cls ≠ "java/lang/invoke/VarHandle" ∧ (parseMethodDescriptor yX3_feeds.desc).map (fun d => d.parameters.length) = some 1 := by decide +kernel
theorem sX3_feeds_L2 (G : Gl) (n : Nat) (K : Nat → Nat) (hK : K = G.ad) (y3 : Nat) (y4 : Int32) : ∀ (f : Nat) (x2 : Int32) (h : AH), Sim G yX3_feeds.cls yX3_feeds.name cX3_feeds 3 none 1 cvV 2 [(2, .int x2), (0, .ref y3), (1, .int y4)] [] h (F_X3_feeds_L2 n K y3 y4 f x2 h) := by
  intro f
  induction f with
  | zero =>
    intro x2 h
    exact s_none
  | succ f ih =>
    intro x2 h
    unfold F_X3_feeds_L2
    refine s_iload_n dX3_feeds_2 0 rfl ?_
    refine s_if_lt 38 dX3_feeds_3 (by decide) (fun c5 => ?_) (fun c5 => ?_)
    · exact s_vret dX3_feeds_38 rfl rfl
    · refine s_aload_n dX3_feeds_6 1 rfl ?_
      refine s_chk (fun hk6 => ?_)
      refine s_get (j := 0) 4 (va_rf (h.R y3 0)) dX3_feeds_7 hk6 rfl (by decide) q1237 (Or.inl rfl) rfl ?_
      refine s_aload_n dX3_feeds_10 1 rfl ?_
      refine s_get (j := 1) 4 (.int (h.I y3 1)) dX3_feeds_11 hk6 rfl (by decide) q1238 (Or.inl rfl) rfl ?_
      refine s_iload_n dX3_feeds_14 2 rfl ?_
      refine s_bipush (8 : Int32) dX3_feeds_15 (by decide) ?_
      refine s_iload_n dX3_feeds_17 0 rfl ?_
      refine s_imul dX3_feeds_18 ?_
      refine s_iushr dX3_feeds_19 ?_
      refine s_i2b dX3_feeds_20 ?_
      refine s_ob (r := h.R y3 0) (fun z => [(2, .int x2), (0, .ref y3), (1, .int y4)]) (fun z => [.int (((y4.toUInt32 >>> (((8 : Int32) * x2).toUInt32 &&& Int32.toUInt32 31)).toInt32).toInt8.toInt32), .int (h.I y3 1), z]) (fun a7 => ?_)
      refine s_chk (fun hk8 => ?_)
      refine s_chk (fun hi9 => ?_)
      refine s_bast dX3_feeds_21 hk8 rfl (by decide) hi9 ?_
      refine s_hl (fun h10 e11 => ?_)
      refine s_aload_n dX3_feeds_22 1 rfl ?_
      refine s_dup dX3_feeds_23 rfl ?_
      refine s_get (j := 1) 4 (.int (h10.I y3 1)) dX3_feeds_24 (show h10.kind y3 = 5 by rw [e11]; exact hk6) rfl (by decide) q1238 (Or.inl rfl) rfl ?_
      refine s_iconst (1 : Int32) dX3_feeds_27 (by decide) ?_
      refine s_iadd dX3_feeds_28 ?_
      refine s_put (j := 1) 4 (v := .int ((h10.I y3 1) + (1 : Int32))) dX3_feeds_29 (show h10.kind y3 = 5 by rw [e11]; exact hk6) rfl (by decide) q1238 (Or.inl rfl) rfl rfl rfl (Upd.i (fun _ => rfl)) ?_
      refine s_hl (fun h12 e13 => ?_)
      refine s_iinc (-1 : Int32) [(2, .int (x2 + (-1 : Int32))), (0, .ref y3), (1, .int y4)] dX3_feeds_32 0 rfl (by decide) (by decide) (by decide) rfl ?_
      refine s_goto 2 dX3_feeds_35 (by decide) ?_
      exact ih (x2 + (-1 : Int32)) h12
theorem kX3_feeds (G : Gl) (n : Nat) (K : Nat → Nat) (hK : K = G.ad) (p0 : Nat) (p1 : Int32) (h : AH) : OkM G yX3_feeds cX3_feeds 3 none 1 cvV [.ref p0, .int p1] h (F_X3_feeds n K p0 p1 h) := by
  refine ok_of_sim [(0, .ref p0), (1, .int p1)] (by decide +kernel) (fun r => ⟨_, rfl⟩) (by simp [uns, lv_args, lg_sl, catI, catL, catA, va_rfc]) (by simp [uns, lv_args, lg_sl, catI, catL, catA, va_rfc]) (by simp [uns, lv_args, lg_sl, catI, catL, catA, va_rfc]) ?_
  unfold F_X3_feeds
  refine s_iconst (3 : Int32) dX3_feeds_0 (by decide) ?_
  refine s_istore_n [(2, .int (3 : Int32)), (0, .ref p0), (1, .int p1)] dX3_feeds_1 (by decide) (by decide) rfl ?_
  exact sX3_feeds_L2 G n K hK p0 p1 n (3 : Int32) h
theorem hyX3_feed : yX3_feed.cls ≠ "java/lang/invoke/MethodHandle" ∧ yX3_feed.cls ≠ "java/lang/invoke/VarHandle" ∧ (parseMethodDescriptor yX3_feed.desc).map (fun d => d.parameters.length) = some 5 := by decide +kernel
theorem kX3_feed (G : Gl) (n : Nat) (K : Nat → Nat) (hK : K = G.ad) (p0 : Nat) (p1 : Int32) (p2 : Int32) (p3 : Int32) (p4 : Int32) (p5 : Int32) (h : AH) : OkM G yX3_feed cX3_feed 6 (some .int) 2 cvI [.ref p0, .int p1, .int p2, .int p3, .int p4, .int p5] h (F_X3_feed n K p0 p1 p2 p3 p4 p5 h) := by
  refine ok_of_sim [(0, .ref p0), (1, .int p1), (2, .int p2), (3, .int p3), (4, .int p4), (5, .int p5)] (by decide +kernel) (fun r => ⟨_, rfl⟩) (by simp [uns, lv_args, lg_sl, catI, catL, catA, va_rfc]) (by simp [uns, lv_args, lg_sl, catI, catL, catA, va_rfc]) (by simp [uns, lv_args, lg_sl, catI, catL, catA, va_rfc]) ?_
  unfold F_X3_feed
  refine s_aload_n dX3_feed_0 0 rfl ?_
  refine s_chk (fun hk1 => ?_)
  refine s_get (j := 1) 4 (.int (h.I p0 1)) dX3_feed_1 hk1 rfl (by decide) q1238 (Or.inl rfl) rfl ?_
  refine s_bipush (20 : Int32) dX3_feed_4 (by decide) ?_
  refine s_iadd dX3_feed_6 ?_
  refine s_sipush (600 : Int32) dX3_feed_7 (by decide) ?_
  refine s_icmp_le 15 dX3_feed_10 (by decide) (fun c2 => ?_) (fun c2 => ?_)
  · refine s_aload_n dX3_feed_15 0 rfl ?_
    refine s_iload_n dX3_feed_16 1 rfl ?_
    refine s_callV_V 4 (kX3_feeds G n K hK p0 p1 h) (by decide) (by decide) dX3_feed_17 hk1 rfl rfl q1389 q1391 qs49 q109 q1392 hyX3_feeds rfl rfl (Nat.le_of_ble_eq_true rfl) (fun r3 h4 => ?_)
    refine s_aload_n dX3_feed_20 0 rfl ?_
    refine s_iload_n dX3_feed_21 2 rfl ?_
    refine s_chk (fun hk7 => ?_)
    refine s_callV_V 4 (kX3_feeds G n K hK p0 p2 h4) (by decide) (by decide) dX3_feed_22 hk7 rfl rfl q1389 q1391 qs49 q109 q1392 hyX3_feeds rfl rfl (Nat.le_of_ble_eq_true rfl) (fun r5 h6 => ?_)
    refine s_aload_n dX3_feed_25 0 rfl ?_
    refine s_iload_n dX3_feed_26 3 rfl ?_
    refine s_chk (fun hk10 => ?_)
    refine s_callV_V 4 (kX3_feeds G n K hK p0 p3 h6) (by decide) (by decide) dX3_feed_27 hk10 rfl rfl q1389 q1391 qs49 q109 q1392 hyX3_feeds rfl rfl (Nat.le_of_ble_eq_true rfl) (fun r8 h9 => ?_)
    refine s_aload_n dX3_feed_30 0 rfl ?_
    refine s_iload dX3_feed_31 4 rfl (by decide) ?_
    refine s_chk (fun hk13 => ?_)
    refine s_callV_V 4 (kX3_feeds G n K hK p0 p4 h9) (by decide) (by decide) dX3_feed_33 hk13 rfl rfl q1389 q1391 qs49 q109 q1392 hyX3_feeds rfl rfl (Nat.le_of_ble_eq_true rfl) (fun r11 h12 => ?_)
    refine s_aload_n dX3_feed_36 0 rfl ?_
    refine s_iload dX3_feed_37 5 rfl (by decide) ?_
    refine s_chk (fun hk16 => ?_)
    refine s_callV_V 4 (kX3_feeds G n K hK p0 p5 h12) (by decide) (by decide) dX3_feed_39 hk16 rfl rfl q1389 q1391 qs49 q109 q1392 hyX3_feeds rfl rfl (Nat.le_of_ble_eq_true rfl) (fun r14 h15 => ?_)
    refine s_aload_n dX3_feed_42 0 rfl ?_
    refine s_chk (fun hk17 => ?_)
    refine s_get (j := 1) 4 (.int (h15.I p0 1)) dX3_feed_43 hk17 rfl (by decide) q1238 (Or.inl rfl) rfl ?_
    exact s_iret dX3_feed_46 rfl rfl
  · refine s_iconst (-1 : Int32) dX3_feed_13 (by decide) ?_
    exact s_iret dX3_feed_14 rfl rfl
theorem hyX3_in : yX3_in.cls ≠ "java/lang/invoke/MethodHandle" ∧ yX3_in.cls ≠ "java/lang/invoke/VarHandle" ∧ (parseMethodDescriptor yX3_in.desc).map (fun d => d.parameters.length) = some 3 := by decide +kernel
theorem kX3_in (G : Gl) (n : Nat) (K : Nat → Nat) (hK : K = G.ad) (p0 : Int64) (p2 : Int64) (p4 : Int64) (h : AH) : OkM G yX3_in cX3_in 6 (some .boolean) 1 cvI [.long p0, .long p2, .long p4] h (F_X3_in n K p0 p2 p4 h) := by
  refine ok_of_sim [(1000, .long p0), (1002, .long p2), (1004, .long p4)] (by decide +kernel) (fun r => ⟨_, rfl⟩) (by simp [uns, lv_args, lg_sl, catI, catL, catA, va_rfc]) (by simp [uns, lv_args, lg_sl, catI, catL, catA, va_rfc]) (by simp [uns, lv_args, lg_sl, catI, catL, catA, va_rfc]) ?_
  unfold F_X3_in
  refine s_lload_n dX3_in_0 0 rfl ?_
  refine s_lload_n dX3_in_1 1 rfl ?_
  refine s_lcmp dX3_in_2 ?_
  refine s_if_lt 17 dX3_in_3 (by decide) (fun c1 => ?_) (fun c1 => ?_)
  · refine s_iconst (0 : Int32) dX3_in_17 (by decide) ?_
    exact s_zret dX3_in_18 rfl rfl rfl
  · refine s_lload_n dX3_in_6 0 rfl ?_
    refine s_lload dX3_in_7 2 rfl ?_
    refine s_lcmp dX3_in_9 ?_
    refine s_if_gt 17 dX3_in_10 (by decide) (fun c2 => ?_) (fun c2 => ?_)
    · refine s_iconst (0 : Int32) dX3_in_17 (by decide) ?_
      exact s_zret dX3_in_18 rfl rfl rfl
    · refine s_iconst (1 : Int32) dX3_in_13 (by decide) ?_
      refine s_goto 18 dX3_in_14 (by decide) ?_
      exact s_zret dX3_in_18 rfl rfl rfl
theorem hyX3_end : yX3_end.cls ≠ "java/lang/invoke/MethodHandle" ∧ yX3_end.cls ≠ "java/lang/invoke/VarHandle" ∧ (parseMethodDescriptor yX3_end.desc).map (fun d => d.parameters.length) = some 1 := by decide +kernel
theorem kX3_end (G : Gl) (n : Nat) (K : Nat → Nat) (hK : K = G.ad) (p0 : Nat) (p1 : Int32) (h : AH) : OkM G yX3_end cX3_end 2 (some .boolean) 2 cvI [.ref p0, .int p1] h (F_X3_end n K p0 p1 h) := by
  refine ok_of_sim [(0, .ref p0), (1, .int p1)] (by decide +kernel) (fun r => ⟨_, rfl⟩) (by simp [uns, lv_args, lg_sl, catI, catL, catA, va_rfc]) (by simp [uns, lv_args, lg_sl, catI, catL, catA, va_rfc]) (by simp [uns, lv_args, lg_sl, catI, catL, catA, va_rfc]) ?_
  unfold F_X3_end
  refine s_iload_n dX3_end_0 1 rfl ?_
  refine s_i2l dX3_end_1 ?_
  refine s_lconst (0 : Int64) dX3_end_2 (by decide) ?_
  refine s_aload_n dX3_end_3 0 rfl ?_
  refine s_chk (fun hk1 => ?_)
  refine s_get (j := 1) 4 (.int (h.I p0 1)) dX3_end_4 hk1 rfl (by decide) q1238 (Or.inl rfl) rfl ?_
  refine s_i2l dX3_end_7 ?_
  refine s_callS_I (kX3_in G n K hK p1.toInt64 (0 : Int64) ((h.I p0 1).toInt64) h) (by decide) (by decide) dX3_end_8 q1397 q1398 q109 q1399 hyX3_in rfl rfl (Nat.le_of_ble_eq_true rfl) (fun r2 h3 => ?_)
  refine s_if_ne 16 dX3_end_11 (by decide) (fun c4 => ?_) (fun c4 => ?_)
  · refine s_aload_n dX3_end_16 0 rfl ?_
    refine s_iload_n dX3_end_17 1 rfl ?_
    refine s_chk (fun hk5 => ?_)
    refine s_put (j := 1) 4 (v := .int p1) dX3_end_18 hk5 rfl (by decide) q1238 (Or.inl rfl) rfl rfl rfl (Upd.i (fun _ => rfl)) ?_
    refine s_hl (fun h6 e7 => ?_)
    refine s_iconst (1 : Int32) dX3_end_21 (by decide) ?_
    exact s_zret dX3_end_22 rfl rfl rfl
  · refine s_iconst (0 : Int32) dX3_end_14 (by decide) ?_
    exact s_zret dX3_end_15 rfl rfl rfl
theorem hyX3_isLetter : yX3_isLetter.cls ≠ "java/lang/invoke/MethodHandle" ∧ yX3_isLetter.cls ≠ "java/lang/invoke/VarHandle" ∧ (parseMethodDescriptor yX3_isLetter.desc).map (fun d => d.parameters.length) = some 1 := by decide +kernel
theorem kX3_isLetter (G : Gl) (n : Nat) (K : Nat → Nat) (hK : K = G.ad) (p0 : Int32) (h : AH) : OkM G yX3_isLetter cX3_isLetter 1 (some .boolean) 1 cvI [.int p0] h (F_X3_isLetter n K p0 h) := by
  refine ok_of_sim [(0, .int p0)] (by decide +kernel) (fun r => ⟨_, rfl⟩) (by simp [uns, lv_args, lg_sl, catI, catL, catA, va_rfc]) (by simp [uns, lv_args, lg_sl, catI, catL, catA, va_rfc]) (by simp [uns, lv_args, lg_sl, catI, catL, catA, va_rfc]) ?_
  unfold F_X3_isLetter
  refine s_iload_n dX3_isLetter_0 0 rfl ?_
  refine s_bipush (97 : Int32) dX3_isLetter_1 (by decide) ?_
  refine s_icmp_lt 16 dX3_isLetter_3 (by decide) (fun c1 => ?_) (fun c1 => ?_)
  · refine s_iconst (0 : Int32) dX3_isLetter_16 (by decide) ?_
    exact s_zret dX3_isLetter_17 rfl rfl rfl
  · refine s_iload_n dX3_isLetter_6 0 rfl ?_
    refine s_bipush (122 : Int32) dX3_isLetter_7 (by decide) ?_
    refine s_icmp_gt 16 dX3_isLetter_9 (by decide) (fun c2 => ?_) (fun c2 => ?_)
    · refine s_iconst (0 : Int32) dX3_isLetter_16 (by decide) ?_
      exact s_zret dX3_isLetter_17 rfl rfl rfl
    · refine s_iconst (1 : Int32) dX3_isLetter_12 (by decide) ?_
      refine s_goto 17 dX3_isLetter_13 (by decide) ?_
      exact s_zret dX3_isLetter_17 rfl rfl rfl
theorem hyX3_isDigit : yX3_isDigit.cls ≠ "java/lang/invoke/MethodHandle" ∧ yX3_isDigit.cls ≠ "java/lang/invoke/VarHandle" ∧ (parseMethodDescriptor yX3_isDigit.desc).map (fun d => d.parameters.length) = some 1 := by decide +kernel
theorem kX3_isDigit (G : Gl) (n : Nat) (K : Nat → Nat) (hK : K = G.ad) (p0 : Int32) (h : AH) : OkM G yX3_isDigit cX3_isDigit 1 (some .boolean) 1 cvI [.int p0] h (F_X3_isDigit n K p0 h) := by
  refine ok_of_sim [(0, .int p0)] (by decide +kernel) (fun r => ⟨_, rfl⟩) (by simp [uns, lv_args, lg_sl, catI, catL, catA, va_rfc]) (by simp [uns, lv_args, lg_sl, catI, catL, catA, va_rfc]) (by simp [uns, lv_args, lg_sl, catI, catL, catA, va_rfc]) ?_
  unfold F_X3_isDigit
  refine s_iload_n dX3_isDigit_0 0 rfl ?_
  refine s_bipush (48 : Int32) dX3_isDigit_1 (by decide) ?_
  refine s_icmp_lt 16 dX3_isDigit_3 (by decide) (fun c1 => ?_) (fun c1 => ?_)
  · refine s_iconst (0 : Int32) dX3_isDigit_16 (by decide) ?_
    exact s_zret dX3_isDigit_17 rfl rfl rfl
  · refine s_iload_n dX3_isDigit_6 0 rfl ?_
    refine s_bipush (57 : Int32) dX3_isDigit_7 (by decide) ?_
    refine s_icmp_gt 16 dX3_isDigit_9 (by decide) (fun c2 => ?_) (fun c2 => ?_)
    · refine s_iconst (0 : Int32) dX3_isDigit_16 (by decide) ?_
      exact s_zret dX3_isDigit_17 rfl rfl rfl
    · refine s_iconst (1 : Int32) dX3_isDigit_12 (by decide) ?_
      refine s_goto 17 dX3_isDigit_13 (by decide) ?_
      exact s_zret dX3_isDigit_17 rfl rfl rfl
theorem hyX3_skips : yX3_skips.cls ≠ "java/lang/invoke/MethodHandle" ∧ yX3_skips.cls ≠ "java/lang/invoke/VarHandle" ∧ (parseMethodDescriptor yX3_skips.desc).map (fun d => d.parameters.length) = some 0 := by decide +kernel
theorem sX3_skips_L0 (G : Gl) (n : Nat) (K : Nat → Nat) (hK : K = G.ad) (y2 : Nat) : ∀ (f : Nat) (h : AH) (k : AH → Option (Unit × AH)) (hk : ∀ (h : AH), Sim G yX3_skips.cls yX3_skips.name cX3_skips 1 none 2 cvV 52 [(0, .ref y2)] [] h (k h)), Sim G yX3_skips.cls yX3_skips.name cX3_skips 1 none 2 cvV 0 [(0, .ref y2)] [] h (F_X3_skips_L0 n K y2 f h k) := by
  intro f
  induction f with
  | zero =>
    intro h k hk
    exact s_none
  | succ f ih =>
    intro h k hk
    unfold F_X3_skips_L0
    refine s_aload_n dX3_skips_0 0 rfl ?_
    refine s_chk (fun hk3 => ?_)
    refine s_get (j := 2) 4 (.int (h.I y2 2)) dX3_skips_1 hk3 rfl (by decide) q1239 (Or.inl rfl) rfl ?_
    refine s_aload_n dX3_skips_4 0 rfl ?_
    refine s_get (j := 1) 4 (.int (h.I y2 1)) dX3_skips_5 hk3 rfl (by decide) q1238 (Or.inl rfl) rfl ?_
    refine s_icmp_ge 52 dX3_skips_8 (by decide) (fun c4 => ?_) (fun c4 => ?_)
    · exact hk h
    · refine s_aload_n dX3_skips_11 0 rfl ?_
      refine s_get (j := 0) 4 (va_rf (h.R y2 0)) dX3_skips_12 hk3 rfl (by decide) q1237 (Or.inl rfl) rfl ?_
      refine s_aload_n dX3_skips_15 0 rfl ?_
      refine s_get (j := 2) 4 (.int (h.I y2 2)) dX3_skips_16 hk3 rfl (by decide) q1239 (Or.inl rfl) rfl ?_
      refine s_ob (r := h.R y2 0) (fun z => [(0, .ref y2)]) (fun z => [.int (h.I y2 2), z]) (fun a5 => ?_)
      refine s_chk (fun hk6 => ?_)
      refine s_chk (fun hi7 => ?_)
      refine s_bald dX3_skips_19 hk6 rfl hi7 ?_
      refine s_bipush (32 : Int32) dX3_skips_20 (by decide) ?_
      refine s_jn (fun j8 => Sim G yX3_skips.cls yX3_skips.name cX3_skips 1 none 2 cvV 39 [(0, .ref y2)] [] h (j8 )) ?_ (fun j8 hj11 => ?_)
      · skip
        refine s_aload_n dX3_skips_39 0 rfl ?_
        refine s_dup dX3_skips_40 rfl ?_
        refine s_get (j := 2) 4 (.int (h.I y2 2)) dX3_skips_41 hk3 rfl (by decide) q1239 (Or.inl rfl) rfl ?_
        refine s_iconst (1 : Int32) dX3_skips_44 (by decide) ?_
        refine s_iadd dX3_skips_45 ?_
        refine s_put (j := 2) 4 (v := .int ((h.I y2 2) + (1 : Int32))) dX3_skips_46 hk3 rfl (by decide) q1239 (Or.inl rfl) rfl rfl rfl (Upd.i (fun _ => rfl)) ?_
        refine s_hl (fun h9 e10 => ?_)
        refine s_goto 0 dX3_skips_49 (by decide) ?_
        exact ih h9 k hk
      refine s_icmp_eq 39 dX3_skips_22 (by decide) (fun c12 => ?_) (fun c12 => ?_)
      · exact hj11
      · refine s_aload_n dX3_skips_25 0 rfl ?_
        refine s_get (j := 0) 4 (va_rf (h.R y2 0)) dX3_skips_26 hk3 rfl (by decide) q1237 (Or.inl rfl) rfl ?_
        refine s_aload_n dX3_skips_29 0 rfl ?_
        refine s_get (j := 2) 4 (.int (h.I y2 2)) dX3_skips_30 hk3 rfl (by decide) q1239 (Or.inl rfl) rfl ?_
        refine s_ob (r := h.R y2 0) (fun z => [(0, .ref y2)]) (fun z => [.int (h.I y2 2), z]) (fun a13 => ?_)
        refine s_chk (fun hk14 => ?_)
        refine s_chk (fun hi15 => ?_)
        refine s_bald dX3_skips_33 hk14 rfl hi15 ?_
        refine s_bipush (10 : Int32) dX3_skips_34 (by decide) ?_
        refine s_icmp_ne 52 dX3_skips_36 (by decide) (fun c16 => ?_) (fun c16 => ?_)
        · exact hk h
        · exact hj11
theorem sX3_skips_L141 (G : Gl) (n : Nat) (K : Nat → Nat) (hK : K = G.ad) (y39 : Nat) : ∀ (f : Nat) (h : AH), Sim G yX3_skips.cls yX3_skips.name cX3_skips 1 none 2 cvV 141 [(0, .ref y39)] [] h (F_X3_skips_L141 n K y39 f h) := by
  intro f
  induction f with
  | zero =>
    intro h
    exact s_none
  | succ f ih =>
    intro h
    unfold F_X3_skips_L141
    refine s_aload_n dX3_skips_141 0 rfl ?_
    refine s_chk (fun hk40 => ?_)
    refine s_get (j := 3) 4 (.int (h.I y39 3)) dX3_skips_142 hk40 rfl (by decide) q1240 (Or.inl rfl) rfl ?_
    refine s_aload_n dX3_skips_145 0 rfl ?_
    refine s_get (j := 1) 4 (.int (h.I y39 1)) dX3_skips_146 hk40 rfl (by decide) q1238 (Or.inl rfl) rfl ?_
    refine s_icmp_ge 190 dX3_skips_149 (by decide) (fun c41 => ?_) (fun c41 => ?_)
    · exact s_vret dX3_skips_190 rfl rfl
    · refine s_aload_n dX3_skips_152 0 rfl ?_
      refine s_get (j := 0) 4 (va_rf (h.R y39 0)) dX3_skips_153 hk40 rfl (by decide) q1237 (Or.inl rfl) rfl ?_
      refine s_aload_n dX3_skips_156 0 rfl ?_
      refine s_get (j := 3) 4 (.int (h.I y39 3)) dX3_skips_157 hk40 rfl (by decide) q1240 (Or.inl rfl) rfl ?_
      refine s_ob (r := h.R y39 0) (fun z => [(0, .ref y39)]) (fun z => [.int (h.I y39 3), z]) (fun a42 => ?_)
      refine s_chk (fun hk43 => ?_)
      refine s_chk (fun hi44 => ?_)
      refine s_bald dX3_skips_160 hk43 rfl hi44 ?_
      refine s_callS_I (kX3_isDigit G n K hK (h.I a42 (ix (h.I y39 3))) h) (by decide) (by decide) dX3_skips_161 q1415 q1416 q109 q1417 hyX3_isDigit rfl rfl (Nat.le_of_ble_eq_true rfl) (fun r45 h46 => ?_)
      refine s_if_eq 190 dX3_skips_164 (by decide) (fun c47 => ?_) (fun c47 => ?_)
      · exact s_vret dX3_skips_190 rfl rfl
      · refine s_aload_n dX3_skips_167 0 rfl ?_
        refine s_dup dX3_skips_168 rfl ?_
        refine s_chk (fun hk48 => ?_)
        refine s_get (j := 3) 4 (.int (h46.I y39 3)) dX3_skips_169 hk48 rfl (by decide) q1240 (Or.inl rfl) rfl ?_
        refine s_iconst (1 : Int32) dX3_skips_172 (by decide) ?_
        refine s_iadd dX3_skips_173 ?_
        refine s_put (j := 3) 4 (v := .int ((h46.I y39 3) + (1 : Int32))) dX3_skips_174 hk48 rfl (by decide) q1240 (Or.inl rfl) rfl rfl rfl (Upd.i (fun _ => rfl)) ?_
        refine s_hl (fun h49 e50 => ?_)
        refine s_goto 141 dX3_skips_177 (by decide) ?_
        exact ih h49
theorem sX3_skips_L87 (G : Gl) (n : Nat) (K : Nat → Nat) (hK : K = G.ad) (y52 : Nat) : ∀ (f : Nat) (h : AH), Sim G yX3_skips.cls yX3_skips.name cX3_skips 1 none 2 cvV 87 [(0, .ref y52)] [] h (F_X3_skips_L87 n K y52 f h) := by
  intro f
  induction f with
  | zero =>
    intro h
    exact s_none
  | succ f ih =>
    intro h
    unfold F_X3_skips_L87
    refine s_aload_n dX3_skips_87 0 rfl ?_
    refine s_chk (fun hk53 => ?_)
    refine s_get (j := 3) 4 (.int (h.I y52 3)) dX3_skips_88 hk53 rfl (by decide) q1240 (Or.inl rfl) rfl ?_
    refine s_aload_n dX3_skips_91 0 rfl ?_
    refine s_get (j := 1) 4 (.int (h.I y52 1)) dX3_skips_92 hk53 rfl (by decide) q1238 (Or.inl rfl) rfl ?_
    refine s_icmp_ge 190 dX3_skips_95 (by decide) (fun c54 => ?_) (fun c54 => ?_)
    · exact s_vret dX3_skips_190 rfl rfl
    · refine s_aload_n dX3_skips_98 0 rfl ?_
      refine s_get (j := 0) 4 (va_rf (h.R y52 0)) dX3_skips_99 hk53 rfl (by decide) q1237 (Or.inl rfl) rfl ?_
      refine s_aload_n dX3_skips_102 0 rfl ?_
      refine s_get (j := 3) 4 (.int (h.I y52 3)) dX3_skips_103 hk53 rfl (by decide) q1240 (Or.inl rfl) rfl ?_
      refine s_ob (r := h.R y52 0) (fun z => [(0, .ref y52)]) (fun z => [.int (h.I y52 3), z]) (fun a55 => ?_)
      refine s_chk (fun hk56 => ?_)
      refine s_chk (fun hi57 => ?_)
      refine s_bald dX3_skips_106 hk56 rfl hi57 ?_
      refine s_callS_I (kX3_isLetter G n K hK (h.I a55 (ix (h.I y52 3))) h) (by decide) (by decide) dX3_skips_107 q1412 q1413 q109 q1414 hyX3_isLetter rfl rfl (Nat.le_of_ble_eq_true rfl) (fun r58 h59 => ?_)
      refine s_if_eq 190 dX3_skips_110 (by decide) (fun c60 => ?_) (fun c60 => ?_)
      · exact s_vret dX3_skips_190 rfl rfl
      · refine s_aload_n dX3_skips_113 0 rfl ?_
        refine s_dup dX3_skips_114 rfl ?_
        refine s_chk (fun hk61 => ?_)
        refine s_get (j := 3) 4 (.int (h59.I y52 3)) dX3_skips_115 hk61 rfl (by decide) q1240 (Or.inl rfl) rfl ?_
        refine s_iconst (1 : Int32) dX3_skips_118 (by decide) ?_
        refine s_iadd dX3_skips_119 ?_
        refine s_put (j := 3) 4 (v := .int ((h59.I y52 3) + (1 : Int32))) dX3_skips_120 hk61 rfl (by decide) q1240 (Or.inl rfl) rfl rfl rfl (Upd.i (fun _ => rfl)) ?_
        refine s_hl (fun h62 e63 => ?_)
        refine s_goto 87 dX3_skips_123 (by decide) ?_
        exact ih h62
theorem kX3_skips (G : Gl) (n : Nat) (K : Nat → Nat) (hK : K = G.ad) (p0 : Nat) (h : AH) : OkM G yX3_skips cX3_skips 1 none 2 cvV [.ref p0] h (F_X3_skips n K p0 h) := by
  refine ok_of_sim [(0, .ref p0)] (by decide +kernel) (fun r => ⟨_, rfl⟩) (by simp [uns, lv_args, lg_sl, catI, catL, catA, va_rfc]) (by simp [uns, lv_args, lg_sl, catI, catL, catA, va_rfc]) (by simp [uns, lv_args, lg_sl, catI, catL, catA, va_rfc]) ?_
  unfold F_X3_skips
  refine sX3_skips_L0 G n K hK p0 n h _ ?_
  intro h17
  refine s_aload_n dX3_skips_52 0 rfl ?_
  refine s_aload_n dX3_skips_53 0 rfl ?_
  refine s_chk (fun hk18 => ?_)
  refine s_get (j := 2) 4 (.int (h17.I p0 2)) dX3_skips_54 hk18 rfl (by decide) q1239 (Or.inl rfl) rfl ?_
  refine s_put (j := 3) 4 (v := .int (h17.I p0 2)) dX3_skips_57 hk18 rfl (by decide) q1240 (Or.inl rfl) rfl rfl rfl (Upd.i (fun _ => rfl)) ?_
  refine s_hl (fun h19 e20 => ?_)
  refine s_aload_n dX3_skips_60 0 rfl ?_
  refine s_get (j := 2) 4 (.int (h19.I p0 2)) dX3_skips_61 (show h19.kind p0 = 5 by rw [e20]; exact hk18) rfl (by decide) q1239 (Or.inl rfl) rfl ?_
  refine s_aload_n dX3_skips_64 0 rfl ?_
  refine s_get (j := 1) 4 (.int (h19.I p0 1)) dX3_skips_65 (show h19.kind p0 = 5 by rw [e20]; exact hk18) rfl (by decide) q1238 (Or.inl rfl) rfl ?_
  refine s_icmp_ne 72 dX3_skips_68 (by decide) (fun c21 => ?_) (fun c21 => ?_)
  · refine s_aload_n dX3_skips_72 0 rfl ?_
    refine s_get (j := 0) 4 (va_rf (h19.R p0 0)) dX3_skips_73 (show h19.kind p0 = 5 by rw [e20]; exact hk18) rfl (by decide) q1237 (Or.inl rfl) rfl ?_
    refine s_aload_n dX3_skips_76 0 rfl ?_
    refine s_get (j := 2) 4 (.int (h19.I p0 2)) dX3_skips_77 (show h19.kind p0 = 5 by rw [e20]; exact hk18) rfl (by decide) q1239 (Or.inl rfl) rfl ?_
    refine s_ob (r := h19.R p0 0) (fun z => [(0, .ref p0)]) (fun z => [.int (h19.I p0 2), z]) (fun a22 => ?_)
    refine s_chk (fun hk23 => ?_)
    refine s_chk (fun hi24 => ?_)
    refine s_bald dX3_skips_80 hk23 rfl hi24 ?_
    refine s_callS_I (kX3_isLetter G n K hK (h19.I a22 (ix (h19.I p0 2))) h19) (by decide) (by decide) dX3_skips_81 q1412 q1413 q109 q1414 hyX3_isLetter rfl rfl (Nat.le_of_ble_eq_true rfl) (fun r25 h26 => ?_)
    refine s_if_eq 126 dX3_skips_84 (by decide) (fun c27 => ?_) (fun c27 => ?_)
    · refine s_aload_n dX3_skips_126 0 rfl ?_
      refine s_chk (fun hk28 => ?_)
      refine s_get (j := 0) 4 (va_rf (h26.R p0 0)) dX3_skips_127 hk28 rfl (by decide) q1237 (Or.inl rfl) rfl ?_
      refine s_aload_n dX3_skips_130 0 rfl ?_
      refine s_get (j := 2) 4 (.int (h26.I p0 2)) dX3_skips_131 hk28 rfl (by decide) q1239 (Or.inl rfl) rfl ?_
      refine s_ob (r := h26.R p0 0) (fun z => [(0, .ref p0)]) (fun z => [.int (h26.I p0 2), z]) (fun a29 => ?_)
      refine s_chk (fun hk30 => ?_)
      refine s_chk (fun hi31 => ?_)
      refine s_bald dX3_skips_134 hk30 rfl hi31 ?_
      refine s_callS_I (kX3_isDigit G n K hK (h26.I a29 (ix (h26.I p0 2))) h26) (by decide) (by decide) dX3_skips_135 q1415 q1416 q109 q1417 hyX3_isDigit rfl rfl (Nat.le_of_ble_eq_true rfl) (fun r32 h33 => ?_)
      refine s_if_eq 180 dX3_skips_138 (by decide) (fun c34 => ?_) (fun c34 => ?_)
      · refine s_aload_n dX3_skips_180 0 rfl ?_
        refine s_aload_n dX3_skips_181 0 rfl ?_
        refine s_chk (fun hk35 => ?_)
        refine s_get (j := 2) 4 (.int (h33.I p0 2)) dX3_skips_182 hk35 rfl (by decide) q1239 (Or.inl rfl) rfl ?_
        refine s_iconst (1 : Int32) dX3_skips_185 (by decide) ?_
        refine s_iadd dX3_skips_186 ?_
        refine s_put (j := 3) 4 (v := .int ((h33.I p0 2) + (1 : Int32))) dX3_skips_187 hk35 rfl (by decide) q1240 (Or.inl rfl) rfl rfl rfl (Upd.i (fun _ => rfl)) ?_
        refine s_hl (fun h36 e37 => ?_)
        exact s_vret dX3_skips_190 rfl rfl
      · exact sX3_skips_L141 G n K hK p0 n h33
    · exact sX3_skips_L87 G n K hK p0 n h26
  · exact s_vret dX3_skips_71 rfl rfl
theorem hyX3_isWord : yX3_isWord.cls ≠ "java/lang/invoke/MethodHandle" ∧ yX3_isWord.cls ≠ "java/lang/invoke/VarHandle" ∧ (parseMethodDescriptor yX3_isWord.desc).map (fun d => d.parameters.length) = some 1 := by decide +kernel
theorem sX3_isWord_L31 (G : Gl) (n : Nat) (K : Nat → Nat) (hK : K = G.ad) (y10 : Nat) (y11 : Nat) : ∀ (f : Nat) (x9 : Int32) (h : AH), Sim G yX3_isWord.cls yX3_isWord.name cX3_isWord 3 (some .boolean) 5 cvI 31 [(2, .int x9), (0, .ref y10), (1, .ref y11)] [] h (F_X3_isWord_L31 n K y10 y11 f x9 h) := by
  intro f
  induction f with
  | zero =>
    intro x9 h
    exact s_none
  | succ f ih =>
    intro x9 h
    unfold F_X3_isWord_L31
    refine s_iload_n dX3_isWord_31 0 rfl ?_
    refine s_aload_n dX3_isWord_32 2 rfl ?_
    refine s_chk (fun hk14 => ?_)
    refine s_callStr (kSJ6_length G n K hK y11 h) (by decide) (by decide) dX3_isWord_33 hk14 rfl q1427 q445 q446 q114 q447 hyJ6_length rfl rfl (Nat.le_of_ble_eq_true rfl) (fun r12 h13 => ?_)
    refine s_icmp_ge 66 dX3_isWord_36 (by decide) (fun c15 => ?_) (fun c15 => ?_)
    · refine s_iconst (1 : Int32) dX3_isWord_66 (by decide) ?_
      exact s_zret dX3_isWord_67 rfl rfl rfl
    · refine s_aload_n dX3_isWord_39 1 rfl ?_
      refine s_chk (fun hk16 => ?_)
      refine s_get (j := 0) 4 (va_rf (h13.R y10 0)) dX3_isWord_40 hk16 rfl (by decide) q1237 (Or.inl rfl) rfl ?_
      refine s_aload_n dX3_isWord_43 1 rfl ?_
      refine s_get (j := 2) 4 (.int (h13.I y10 2)) dX3_isWord_44 hk16 rfl (by decide) q1239 (Or.inl rfl) rfl ?_
      refine s_iload_n dX3_isWord_47 0 rfl ?_
      refine s_iadd dX3_isWord_48 ?_
      refine s_ob (r := h13.R y10 0) (fun z => [(2, .int x9), (0, .ref y10), (1, .ref y11)]) (fun z => [.int ((h13.I y10 2) + x9), z]) (fun a17 => ?_)
      refine s_chk (fun hk18 => ?_)
      refine s_chk (fun hi19 => ?_)
      refine s_bald dX3_isWord_49 hk18 rfl hi19 ?_
      refine s_aload_n dX3_isWord_50 2 rfl ?_
      refine s_iload_n dX3_isWord_51 0 rfl ?_
      refine s_chk (fun hk22 => ?_)
      refine s_callStr (kSJ6_charAt G n K hK y11 x9 h13) (by decide) (by decide) dX3_isWord_52 hk22 rfl q1428 q532 q533 q114 q534 hyJ6_charAt rfl rfl (Nat.le_of_ble_eq_true rfl) (fun r20 h21 => ?_)
      refine s_icmp_eq 60 dX3_isWord_55 (by decide) (fun c23 => ?_) (fun c23 => ?_)
      · refine s_iinc (1 : Int32) [(2, .int (x9 + (1 : Int32))), (0, .ref y10), (1, .ref y11)] dX3_isWord_60 0 rfl (by decide) (by decide) (by decide) rfl ?_
        refine s_goto 31 dX3_isWord_63 (by decide) ?_
        exact ih (x9 + (1 : Int32)) h21
      · refine s_iconst (0 : Int32) dX3_isWord_58 (by decide) ?_
        exact s_zret dX3_isWord_59 rfl rfl rfl
theorem kX3_isWord (G : Gl) (n : Nat) (K : Nat → Nat) (hK : K = G.ad) (p0 : Nat) (p1 : Option Nat) (h : AH) : OkM G yX3_isWord cX3_isWord 3 (some .boolean) 5 cvI [.ref p0, va_rf p1] h (F_X3_isWord n K p0 p1 h) := by
  refine ok_of_sim [(0, .ref p0), (1, va_rf p1)] (by decide +kernel) (fun r => ⟨_, rfl⟩) (by simp [uns, lv_args, lg_sl, catI, catL, catA, va_rfc]) (by simp [uns, lv_args, lg_sl, catI, catL, catA, va_rfc]) (by simp [uns, lv_args, lg_sl, catI, catL, catA, va_rfc]) ?_
  unfold F_X3_isWord
  refine s_aload_n dX3_isWord_0 0 rfl ?_
  refine s_chk (fun hk1 => ?_)
  refine s_get (j := 2) 4 (.int (h.I p0 2)) dX3_isWord_1 hk1 rfl (by decide) q1239 (Or.inl rfl) rfl ?_
  refine s_aload_n dX3_isWord_4 0 rfl ?_
  refine s_get (j := 1) 4 (.int (h.I p0 1)) dX3_isWord_5 hk1 rfl (by decide) q1238 (Or.inl rfl) rfl ?_
  refine s_icmp_eq 27 dX3_isWord_8 (by decide) (fun c2 => ?_) (fun c2 => ?_)
  · refine s_iconst (0 : Int32) dX3_isWord_27 (by decide) ?_
    exact s_zret dX3_isWord_28 rfl rfl rfl
  · refine s_aload_n dX3_isWord_11 0 rfl ?_
    refine s_get (j := 3) 4 (.int (h.I p0 3)) dX3_isWord_12 hk1 rfl (by decide) q1240 (Or.inl rfl) rfl ?_
    refine s_aload_n dX3_isWord_15 0 rfl ?_
    refine s_get (j := 2) 4 (.int (h.I p0 2)) dX3_isWord_16 hk1 rfl (by decide) q1239 (Or.inl rfl) rfl ?_
    refine s_isub dX3_isWord_19 ?_
    refine s_oload_n dX3_isWord_20 1 rfl ?_
    refine s_ob (r := p1) (fun z => [(0, .ref p0), (1, z)]) (fun z => [z, .int ((h.I p0 3) - (h.I p0 2))]) (fun a3 => ?_)
    refine s_chk (fun hk6 => ?_)
    refine s_callStr (kSJ6_length G n K hK a3 h) (by decide) (by decide) dX3_isWord_21 hk6 rfl q1427 q445 q446 q114 q447 hyJ6_length rfl rfl (Nat.le_of_ble_eq_true rfl) (fun r4 h5 => ?_)
    refine s_icmp_eq 29 dX3_isWord_24 (by decide) (fun c7 => ?_) (fun c7 => ?_)
    · refine s_iconst (0 : Int32) dX3_isWord_29 (by decide) ?_
      refine s_istore_n [(2, .int (0 : Int32)), (0, .ref p0), (1, .ref a3)] dX3_isWord_30 (by decide) (by decide) rfl ?_
      exact sX3_isWord_L31 G n K hK p0 a3 n (0 : Int32) h5
    · refine s_iconst (0 : Int32) dX3_isWord_27 (by decide) ?_
      exact s_zret dX3_isWord_28 rfl rfl rfl
theorem hyX3_passes : yX3_passes.cls ≠ "java/lang/invoke/MethodHandle" ∧ yX3_passes.cls ≠ "java/lang/invoke/VarHandle" ∧ (parseMethodDescriptor yX3_passes.desc).map (fun d => d.parameters.length) = some 1 := by decide +kernel
theorem kX3_passes (G : Gl) (n : Nat) (K : Nat → Nat) (hK : K = G.ad) (p0 : Nat) (p1 : Int32) (h : AH) : OkM G yX3_passes cX3_passes 2 (some .boolean) 3 cvI [.ref p0, .int p1] h (F_X3_passes n K p0 p1 h) := by
  refine ok_of_sim [(0, .ref p0), (1, .int p1)] (by decide +kernel) (fun r => ⟨_, rfl⟩) (by simp [uns, lv_args, lg_sl, catI, catL, catA, va_rfc]) (by simp [uns, lv_args, lg_sl, catI, catL, catA, va_rfc]) (by simp [uns, lv_args, lg_sl, catI, catL, catA, va_rfc]) ?_
  unfold F_X3_passes
  refine s_iload_n dX3_passes_0 1 rfl ?_
  refine s_if_ne 22 dX3_passes_1 (by decide) (fun c1 => ?_) (fun c1 => ?_)
  · refine s_aload_n dX3_passes_22 0 rfl ?_
    refine s_aload_n dX3_passes_23 0 rfl ?_
    refine s_chk (fun hk2 => ?_)
    refine s_get (j := 3) 4 (.int (h.I p0 3)) dX3_passes_24 hk2 rfl (by decide) q1240 (Or.inl rfl) rfl ?_
    refine s_put (j := 2) 4 (v := .int (h.I p0 3)) dX3_passes_27 hk2 rfl (by decide) q1239 (Or.inl rfl) rfl rfl rfl (Upd.i (fun _ => rfl)) ?_
    refine s_hl (fun h3 e4 => ?_)
    refine s_aload_n dX3_passes_30 0 rfl ?_
    refine s_callV_V 4 (kX3_skips G n K hK p0 h3) (by decide) (by decide) dX3_passes_31 (show h3.kind p0 = 5 by rw [e4]; exact hk2) rfl rfl q1408 q1410 qs51 q109 q1411 hyX3_skips rfl rfl (Nat.le_of_ble_eq_true rfl) (fun r5 h6 => ?_)
    refine s_iconst (1 : Int32) dX3_passes_34 (by decide) ?_
    exact s_zret dX3_passes_35 rfl rfl rfl
  · refine s_aload_n dX3_passes_4 0 rfl ?_
    refine s_chk (fun hk7 => ?_)
    refine s_get (j := 4) 4 (.int (h.I p0 4)) dX3_passes_5 hk7 rfl (by decide) q1241 (Or.inl rfl) rfl ?_
    refine s_iconst (-1 : Int32) dX3_passes_8 (by decide) ?_
    refine s_icmp_ne 20 dX3_passes_9 (by decide) (fun c8 => ?_) (fun c8 => ?_)
    · refine s_iconst (0 : Int32) dX3_passes_20 (by decide) ?_
      exact s_zret dX3_passes_21 rfl rfl rfl
    · refine s_aload_n dX3_passes_12 0 rfl ?_
      refine s_aload_n dX3_passes_13 0 rfl ?_
      refine s_get (j := 2) 4 (.int (h.I p0 2)) dX3_passes_14 hk7 rfl (by decide) q1239 (Or.inl rfl) rfl ?_
      refine s_put (j := 4) 4 (v := .int (h.I p0 2)) dX3_passes_17 hk7 rfl (by decide) q1241 (Or.inl rfl) rfl rfl rfl (Upd.i (fun _ => rfl)) ?_
      refine s_hl (fun h9 e10 => ?_)
      refine s_iconst (0 : Int32) dX3_passes_20 (by decide) ?_
      exact s_zret dX3_passes_21 rfl rfl rfl
theorem hyX3_isSign : yX3_isSign.cls ≠ "java/lang/invoke/MethodHandle" ∧ yX3_isSign.cls ≠ "java/lang/invoke/VarHandle" ∧ (parseMethodDescriptor yX3_isSign.desc).map (fun d => d.parameters.length) = some 1 := by decide +kernel
theorem kX3_isSign (G : Gl) (n : Nat) (K : Nat → Nat) (hK : K = G.ad) (p0 : Nat) (p1 : Int32) (h : AH) : OkM G yX3_isSign cX3_isSign 2 (some .boolean) 1 cvI [.ref p0, .int p1] h (F_X3_isSign n K p0 p1 h) := by
  refine ok_of_sim [(0, .ref p0), (1, .int p1)] (by decide +kernel) (fun r => ⟨_, rfl⟩) (by simp [uns, lv_args, lg_sl, catI, catL, catA, va_rfc]) (by simp [uns, lv_args, lg_sl, catI, catL, catA, va_rfc]) (by simp [uns, lv_args, lg_sl, catI, catL, catA, va_rfc]) ?_
  unfold F_X3_isSign
  refine s_aload_n dX3_isSign_0 0 rfl ?_
  refine s_chk (fun hk1 => ?_)
  refine s_get (j := 2) 4 (.int (h.I p0 2)) dX3_isSign_1 hk1 rfl (by decide) q1239 (Or.inl rfl) rfl ?_
  refine s_aload_n dX3_isSign_4 0 rfl ?_
  refine s_get (j := 1) 4 (.int (h.I p0 1)) dX3_isSign_5 hk1 rfl (by decide) q1238 (Or.inl rfl) rfl ?_
  refine s_icmp_ge 28 dX3_isSign_8 (by decide) (fun c2 => ?_) (fun c2 => ?_)
  · refine s_iconst (0 : Int32) dX3_isSign_28 (by decide) ?_
    exact s_zret dX3_isSign_29 rfl rfl rfl
  · refine s_aload_n dX3_isSign_11 0 rfl ?_
    refine s_get (j := 0) 4 (va_rf (h.R p0 0)) dX3_isSign_12 hk1 rfl (by decide) q1237 (Or.inl rfl) rfl ?_
    refine s_aload_n dX3_isSign_15 0 rfl ?_
    refine s_get (j := 2) 4 (.int (h.I p0 2)) dX3_isSign_16 hk1 rfl (by decide) q1239 (Or.inl rfl) rfl ?_
    refine s_ob (r := h.R p0 0) (fun z => [(0, .ref p0), (1, .int p1)]) (fun z => [.int (h.I p0 2), z]) (fun a3 => ?_)
    refine s_chk (fun hk4 => ?_)
    refine s_chk (fun hi5 => ?_)
    refine s_bald dX3_isSign_19 hk4 rfl hi5 ?_
    refine s_iload_n dX3_isSign_20 1 rfl ?_
    refine s_icmp_ne 28 dX3_isSign_21 (by decide) (fun c6 => ?_) (fun c6 => ?_)
    · refine s_iconst (0 : Int32) dX3_isSign_28 (by decide) ?_
      exact s_zret dX3_isSign_29 rfl rfl rfl
    · refine s_iconst (1 : Int32) dX3_isSign_24 (by decide) ?_
      refine s_goto 29 dX3_isSign_25 (by decide) ?_
      exact s_zret dX3_isSign_29 rfl rfl rfl
theorem hyX3_near : yX3_near.cls ≠ "java/lang/invoke/MethodHandle" ∧ yX3_near.cls ≠ "java/lang/invoke/VarHandle" ∧ (parseMethodDescriptor yX3_near.desc).map (fun d => d.parameters.length) = some 0 := by decide +kernel
theorem sX3_near_L4 (G : Gl) (n : Nat) (K : Nat → Nat) (hK : K = G.ad) (y4 : Nat) : ∀ (f : Nat) (x2 : Int32) (x3 : Int32) (h : AH), Sim G yX3_near.cls yX3_near.name cX3_near 3 (some .boolean) 6 cvI 4 [(2, .int x2), (1, .int x3), (0, .ref y4)] [] h (F_X3_near_L4 n K y4 f x2 x3 h) := by
  intro f
  induction f with
  | zero =>
    intro x2 x3 h
    exact s_none
  | succ f ih =>
    intro x2 x3 h
    unfold F_X3_near_L4
    refine s_iload_n dX3_near_4 0 rfl ?_
    refine s_iconst (4 : Int32) dX3_near_5 (by decide) ?_
    refine s_icmp_ge 30 dX3_near_6 (by decide) (fun c5 => ?_) (fun c5 => ?_)
    · refine s_aload_n dX3_near_30 2 rfl ?_
      refine s_iload_n dX3_near_31 1 rfl ?_
      refine s_chk (fun hk6 => ?_)
      refine s_put (j := 19) 4 (v := .int x3) dX3_near_32 hk6 rfl (by decide) q1256 (Or.inl rfl) rfl rfl rfl (Upd.i (fun _ => rfl)) ?_
      refine s_hl (fun h7 e8 => ?_)
      refine s_aload_n dX3_near_35 2 rfl ?_
      refine s_iload_n dX3_near_36 1 rfl ?_
      refine s_iconst (-1 : Int32) dX3_near_37 (by decide) ?_
      refine s_jn (fun j10 => ∀ (x9 : Int32), Sim G yX3_near.cls yX3_near.name cX3_near 3 (some .boolean) 6 cvI 46 [(0, .ref y4)] [.int x9, .ref y4] h7 (j10 x9)) ?_ (fun j10 hj21 => ?_)
      · intro x9
        refine s_callV_I 4 (kX3_passes G n K hK y4 x9 h7) (by decide) (by decide) dX3_near_46 (show h7.kind y4 = 5 by rw [e8]; exact hk6) rfl rfl q1429 q1431 qs54 q109 q1432 hyX3_passes rfl rfl (Nat.le_of_ble_eq_true rfl) (fun r11 h12 => ?_)
        refine s_if_eq 69 dX3_near_49 (by decide) (fun c13 => ?_) (fun c13 => ?_)
        · refine s_iconst (0 : Int32) dX3_near_69 (by decide) ?_
          exact s_zret dX3_near_70 rfl rfl rfl
        · refine s_aload_n dX3_near_52 0 rfl ?_
          refine s_aload_n dX3_near_53 0 rfl ?_
          refine s_bipush (59 : Int32) dX3_near_54 (by decide) ?_
          refine s_chk (fun hk16 => ?_)
          refine s_callV_I 4 (kX3_isSign G n K hK y4 (59 : Int32) h12) (by decide) (by decide) dX3_near_56 hk16 rfl rfl q1437 q1439 qs56 q109 q1440 hyX3_isSign rfl rfl (Nat.le_of_ble_eq_true rfl) (fun r14 h15 => ?_)
          refine s_chk (fun hk19 => ?_)
          refine s_callV_I 4 (kX3_passes G n K hK y4 r14 h15) (by decide) (by decide) dX3_near_59 hk19 rfl rfl q1429 q1431 qs54 q109 q1432 hyX3_passes rfl rfl (Nat.le_of_ble_eq_true rfl) (fun r17 h18 => ?_)
          refine s_if_eq 69 dX3_near_62 (by decide) (fun c20 => ?_) (fun c20 => ?_)
          · refine s_iconst (0 : Int32) dX3_near_69 (by decide) ?_
            exact s_zret dX3_near_70 rfl rfl rfl
          · refine s_iconst (1 : Int32) dX3_near_65 (by decide) ?_
            refine s_goto 70 dX3_near_66 (by decide) ?_
            exact s_zret dX3_near_70 rfl rfl rfl
      refine s_icmp_eq 45 dX3_near_38 (by decide) (fun c22 => ?_) (fun c22 => ?_)
      · refine s_iconst (0 : Int32) dX3_near_45 (by decide) ?_
        refine s_sub [2] rfl ?_
        exact hj21 (0 : Int32)
      · refine s_iconst (1 : Int32) dX3_near_41 (by decide) ?_
        refine s_goto 46 dX3_near_42 (by decide) ?_
        refine s_sub [2] rfl ?_
        exact hj21 (1 : Int32)
    · refine s_aload_n dX3_near_9 2 rfl ?_
      refine s_aload_n dX3_near_10 2 rfl ?_
      refine s_chk (fun hk23 => ?_)
      refine s_get (j := 23) 4 (va_rf (h.R y4 23)) dX3_near_11 hk23 rfl (by decide) q1260 (Or.inl rfl) rfl ?_
      refine s_iload_n dX3_near_14 0 rfl ?_
      refine s_ob (r := h.R y4 23) (fun z => [(2, .int x2), (1, .int x3), (0, .ref y4)]) (fun z => [.int x2, z, .ref y4]) (fun a24 => ?_)
      refine s_chk (fun hk25 => ?_)
      refine s_chk (fun hi26 => ?_)
      refine s_aald dX3_near_15 hk25 rfl rfl rfl hi26 ?_
      refine s_callV_I 4 (kX3_isWord G n K hK y4 (h.R a24 (ix x2)) h) (by decide) (by decide) dX3_near_16 hk23 rfl rfl q1423 q1425 qs53 q109 q1426 hyX3_isWord rfl rfl (Nat.le_of_ble_eq_true rfl) (fun r27 h28 => ?_)
      refine s_if_eq 24 dX3_near_19 (by decide) (fun c29 => ?_) (fun c29 => ?_)
      · refine s_iinc (1 : Int32) [(2, .int (x2 + (1 : Int32))), (1, .int x3), (0, .ref y4)] dX3_near_24 0 rfl (by decide) (by decide) (by decide) rfl ?_
        refine s_goto 4 dX3_near_27 (by decide) ?_
        exact ih (x2 + (1 : Int32)) x3 h28
      · refine s_iload_n dX3_near_22 0 rfl ?_
        refine s_istore_n [(1, .int x2), (2, .int x2), (0, .ref y4)] dX3_near_23 (by decide) (by decide) rfl ?_
        refine s_iinc (1 : Int32) [(2, .int (x2 + (1 : Int32))), (1, .int x2), (0, .ref y4)] dX3_near_24 1 rfl (by decide) (by decide) (by decide) rfl ?_
        refine s_goto 4 dX3_near_27 (by decide) ?_
        exact ih (x2 + (1 : Int32)) x2 h28
theorem kX3_near (G : Gl) (n : Nat) (K : Nat → Nat) (hK : K = G.ad) (p0 : Nat) (h : AH) : OkM G yX3_near cX3_near 3 (some .boolean) 6 cvI [.ref p0] h (F_X3_near n K p0 h) := by
  refine ok_of_sim [(0, .ref p0)] (by decide +kernel) (fun r => ⟨_, rfl⟩) (by simp [uns, lv_args, lg_sl, catI, catL, catA, va_rfc]) (by simp [uns, lv_args, lg_sl, catI, catL, catA, va_rfc]) (by simp [uns, lv_args, lg_sl, catI, catL, catA, va_rfc]) ?_
  unfold F_X3_near
  refine s_iconst (-1 : Int32) dX3_near_0 (by decide) ?_
  refine s_istore_n [(1, .int (-1 : Int32)), (0, .ref p0)] dX3_near_1 (by decide) (by decide) rfl ?_
  refine s_iconst (0 : Int32) dX3_near_2 (by decide) ?_
  refine s_istore_n [(2, .int (0 : Int32)), (1, .int (-1 : Int32)), (0, .ref p0)] dX3_near_3 (by decide) (by decide) rfl ?_
  exact sX3_near_L4 G n K hK p0 n (0 : Int32) (-1 : Int32) h
theorem hyX3_number : yX3_number.cls ≠ "java/lang/invoke/MethodHandle" ∧ yX3_number.cls ≠ "java/lang/invoke/VarHandle" ∧ (parseMethodDescriptor yX3_number.desc).map (fun d => d.parameters.length) = some 2 := by decide +kernel
theorem sX3_number_L41 (G : Gl) (n : Nat) (K : Nat → Nat) (hK : K = G.ad) (y9 : Int32) (y10 : Nat) (y11 : Int32) (y12 : Int32) (h : AH) : ∀ (f : Nat) (x7 : Int32) (x8 : Int32), Sim G yX3_number.cls yX3_number.name cX3_number 6 (some .boolean) 4 cvI 41 [(5, .int x7), (4, .int x8), (3, .int y9), (0, .ref y10), (1, .int y11), (2, .int y12)] [] h (F_X3_number_L41 n K y9 y10 y11 y12 h f x7 x8) := by
  intro f
  induction f with
  | zero =>
    intro x7 x8
    exact s_none
  | succ f ih =>
    intro x7 x8
    unfold F_X3_number_L41
    refine s_iload_n dX3_number_41 2 rfl ?_
    refine s_jn (fun j13 => Sim G yX3_number.cls yX3_number.name cX3_number 6 (some .boolean) 4 cvI 92 [(4, .int x8), (3, .int y9), (0, .ref y10), (1, .int y11), (2, .int y12)] [] h (j13 )) ?_ (fun j13 hj29 => ?_)
    · skip
      refine s_aload_n dX3_number_92 2 rfl ?_
      refine s_iload dX3_number_93 0 rfl (by decide) ?_
      refine s_chk (fun hk14 => ?_)
      refine s_put (j := 5) 4 (v := .int x8) dX3_number_95 hk14 rfl (by decide) q1242 (Or.inl rfl) rfl rfl rfl (Upd.i (fun _ => rfl)) ?_
      refine s_hl (fun h15 e16 => ?_)
      refine s_aload_n dX3_number_98 2 rfl ?_
      refine s_iload_n dX3_number_99 1 rfl ?_
      refine s_jn (fun j19 => ∀ (x17 : Int32) (h18 : AH), Sim G yX3_number.cls yX3_number.name cX3_number 6 (some .boolean) 4 cvI 121 [] [.int x17, .ref y10] h18 (j19 x17 h18)) ?_ (fun j19 hj24 => ?_)
      · intro x17 h18
        refine s_chk (fun hk22 => ?_)
        refine s_callV_I 4 (kX3_passes G n K hK y10 x17 h18) (by decide) (by decide) dX3_number_121 hk22 rfl rfl q1429 q1431 qs54 q109 q1432 hyX3_passes rfl rfl (Nat.le_of_ble_eq_true rfl) (fun r20 h21 => ?_)
        refine s_chk (fun hb23 => ?_)
        exact s_zret dX3_number_124 rfl (nb01 hb23) rfl
      refine s_if_eq 120 dX3_number_100 (by decide) (fun c25 => ?_) (fun c25 => ?_)
      · refine s_iconst (0 : Int32) dX3_number_120 (by decide) ?_
        refine s_sub [] rfl ?_
        exact hj24 (0 : Int32) h15
      · refine s_iload dX3_number_103 0 rfl (by decide) ?_
        refine s_i2l dX3_number_105 ?_
        refine s_iload_n dX3_number_106 3 rfl ?_
        refine s_i2l dX3_number_107 ?_
        refine s_iload_n dX3_number_108 4 rfl ?_
        refine s_i2l dX3_number_109 ?_
        refine s_callS_I (kX3_in G n K hK x8.toInt64 y11.toInt64 y12.toInt64 h15) (by decide) (by decide) dX3_number_110 q1397 q1398 q109 q1399 hyX3_in rfl rfl (Nat.le_of_ble_eq_true rfl) (fun r26 h27 => ?_)
        refine s_if_eq 120 dX3_number_113 (by decide) (fun c28 => ?_) (fun c28 => ?_)
        · refine s_iconst (0 : Int32) dX3_number_120 (by decide) ?_
          refine s_sub [] rfl ?_
          exact hj24 (0 : Int32) h27
        · refine s_iconst (1 : Int32) dX3_number_116 (by decide) ?_
          refine s_goto 121 dX3_number_117 (by decide) ?_
          refine s_sub [] rfl ?_
          exact hj24 (1 : Int32) h27
    refine s_if_eq 92 dX3_number_42 (by decide) (fun c30 => ?_) (fun c30 => ?_)
    · refine s_sub [1, 2, 3, 4, 5] rfl ?_
      exact hj29
    · refine s_iload dX3_number_45 0 rfl (by decide) ?_
      refine s_aload_n dX3_number_47 3 rfl ?_
      refine s_chk (fun hk31 => ?_)
      refine s_get (j := 3) 4 (.int (h.I y10 3)) dX3_number_48 hk31 rfl (by decide) q1240 (Or.inl rfl) rfl ?_
      refine s_icmp_ge 92 dX3_number_51 (by decide) (fun c32 => ?_) (fun c32 => ?_)
      · refine s_sub [1, 2, 3, 4, 5] rfl ?_
        exact hj29
      · refine s_iload dX3_number_54 1 rfl (by decide) ?_
        refine s_sipush (999 : Int32) dX3_number_56 (by decide) ?_
        refine s_icmp_le 68 dX3_number_59 (by decide) (fun c33 => ?_) (fun c33 => ?_)
        · refine s_bipush (10 : Int32) dX3_number_68 (by decide) ?_
          refine s_iload dX3_number_70 1 rfl (by decide) ?_
          refine s_imul dX3_number_72 ?_
          refine s_aload_n dX3_number_73 3 rfl ?_
          refine s_get (j := 0) 4 (va_rf (h.R y10 0)) dX3_number_74 hk31 rfl (by decide) q1237 (Or.inl rfl) rfl ?_
          refine s_iload dX3_number_77 0 rfl (by decide) ?_
          refine s_ob (r := h.R y10 0) (fun z => [(5, .int x7), (4, .int x8), (3, .int y9), (0, .ref y10), (1, .int y11), (2, .int y12)]) (fun z => [.int x7, z, .int ((10 : Int32) * x8)]) (fun a34 => ?_)
          refine s_chk (fun hk35 => ?_)
          refine s_chk (fun hi36 => ?_)
          refine s_bald dX3_number_79 hk35 rfl hi36 ?_
          refine s_iadd dX3_number_80 ?_
          refine s_bipush (48 : Int32) dX3_number_81 (by decide) ?_
          refine s_isub dX3_number_83 ?_
          refine s_istore [(4, .int ((((10 : Int32) * x8) + (h.I a34 (ix x7))) - (48 : Int32))), (5, .int x7), (3, .int y9), (0, .ref y10), (1, .int y11), (2, .int y12)] dX3_number_84 (by decide) (by decide) rfl ?_
          refine s_iinc (1 : Int32) [(5, .int (x7 + (1 : Int32))), (4, .int ((((10 : Int32) * x8) + (h.I a34 (ix x7))) - (48 : Int32))), (3, .int y9), (0, .ref y10), (1, .int y11), (2, .int y12)] dX3_number_86 1 rfl (by decide) (by decide) (by decide) rfl ?_
          refine s_goto 41 dX3_number_89 (by decide) ?_
          exact ih (x7 + (1 : Int32)) ((((10 : Int32) * x8) + (h.I a34 (ix x7))) - (48 : Int32))
        · refine s_sipush (9999 : Int32) dX3_number_62 (by decide) ?_
          refine s_goto 84 dX3_number_65 (by decide) ?_
          refine s_istore [(4, .int (9999 : Int32)), (5, .int x7), (3, .int y9), (0, .ref y10), (1, .int y11), (2, .int y12)] dX3_number_84 (by decide) (by decide) rfl ?_
          refine s_iinc (1 : Int32) [(5, .int (x7 + (1 : Int32))), (4, .int (9999 : Int32)), (3, .int y9), (0, .ref y10), (1, .int y11), (2, .int y12)] dX3_number_86 1 rfl (by decide) (by decide) (by decide) rfl ?_
          refine s_goto 41 dX3_number_89 (by decide) ?_
          exact ih (x7 + (1 : Int32)) (9999 : Int32)
theorem kX3_number (G : Gl) (n : Nat) (K : Nat → Nat) (hK : K = G.ad) (p0 : Nat) (p1 : Int32) (p2 : Int32) (h : AH) : OkM G yX3_number cX3_number 6 (some .boolean) 4 cvI [.ref p0, .int p1, .int p2] h (F_X3_number n K p0 p1 p2 h) := by
  refine ok_of_sim [(0, .ref p0), (1, .int p1), (2, .int p2)] (by decide +kernel) (fun r => ⟨_, rfl⟩) (by simp [uns, lv_args, lg_sl, catI, catL, catA, va_rfc]) (by simp [uns, lv_args, lg_sl, catI, catL, catA, va_rfc]) (by simp [uns, lv_args, lg_sl, catI, catL, catA, va_rfc]) ?_
  unfold F_X3_number
  refine s_aload_n dX3_number_0 0 rfl ?_
  refine s_chk (fun hk1 => ?_)
  refine s_get (j := 2) 4 (.int (h.I p0 2)) dX3_number_1 hk1 rfl (by decide) q1239 (Or.inl rfl) rfl ?_
  refine s_aload_n dX3_number_4 0 rfl ?_
  refine s_get (j := 1) 4 (.int (h.I p0 1)) dX3_number_5 hk1 rfl (by decide) q1238 (Or.inl rfl) rfl ?_
  refine s_jn (fun j4 => ∀ (x2 : Int32) (h3 : AH), Sim G yX3_number.cls yX3_number.name cX3_number 6 (some .boolean) 4 cvI 31 [(0, .ref p0), (1, .int p1), (2, .int p2)] [.int x2] h3 (j4 x2 h3)) ?_ (fun j4 hj37 => ?_)
  · intro x2 h3
    refine s_istore_n [(3, .int x2), (0, .ref p0), (1, .int p1), (2, .int p2)] dX3_number_31 (by decide) (by decide) rfl ?_
    refine s_iconst (0 : Int32) dX3_number_32 (by decide) ?_
    refine s_istore [(4, .int (0 : Int32)), (3, .int x2), (0, .ref p0), (1, .int p1), (2, .int p2)] dX3_number_33 (by decide) (by decide) rfl ?_
    refine s_aload_n dX3_number_35 2 rfl ?_
    refine s_chk (fun hk5 => ?_)
    refine s_get (j := 2) 4 (.int (h3.I p0 2)) dX3_number_36 hk5 rfl (by decide) q1239 (Or.inl rfl) rfl ?_
    refine s_istore [(5, .int (h3.I p0 2)), (4, .int (0 : Int32)), (3, .int x2), (0, .ref p0), (1, .int p1), (2, .int p2)] dX3_number_39 (by decide) (by decide) rfl ?_
    exact sX3_number_L41 G n K hK x2 p0 p1 p2 h3 n (h3.I p0 2) (0 : Int32)
  refine s_icmp_ge 30 dX3_number_8 (by decide) (fun c38 => ?_) (fun c38 => ?_)
  · refine s_iconst (0 : Int32) dX3_number_30 (by decide) ?_
    exact hj37 (0 : Int32) h
  · refine s_aload_n dX3_number_11 0 rfl ?_
    refine s_get (j := 0) 4 (va_rf (h.R p0 0)) dX3_number_12 hk1 rfl (by decide) q1237 (Or.inl rfl) rfl ?_
    refine s_aload_n dX3_number_15 0 rfl ?_
    refine s_get (j := 2) 4 (.int (h.I p0 2)) dX3_number_16 hk1 rfl (by decide) q1239 (Or.inl rfl) rfl ?_
    refine s_ob (r := h.R p0 0) (fun z => [(0, .ref p0), (1, .int p1), (2, .int p2)]) (fun z => [.int (h.I p0 2), z]) (fun a39 => ?_)
    refine s_chk (fun hk40 => ?_)
    refine s_chk (fun hi41 => ?_)
    refine s_bald dX3_number_19 hk40 rfl hi41 ?_
    refine s_callS_I (kX3_isDigit G n K hK (h.I a39 (ix (h.I p0 2))) h) (by decide) (by decide) dX3_number_20 q1415 q1416 q109 q1417 hyX3_isDigit rfl rfl (Nat.le_of_ble_eq_true rfl) (fun r42 h43 => ?_)
    refine s_if_eq 30 dX3_number_23 (by decide) (fun c44 => ?_) (fun c44 => ?_)
    · refine s_iconst (0 : Int32) dX3_number_30 (by decide) ?_
      exact hj37 (0 : Int32) h43
    · refine s_iconst (1 : Int32) dX3_number_26 (by decide) ?_
      refine s_goto 31 dX3_number_27 (by decide) ?_
      exact hj37 (1 : Int32) h43
theorem hyX3_stretch : yX3_stretch.cls ≠ "java/lang/invoke/MethodHandle" ∧ yX3_stretch.cls ≠ "java/lang/invoke/VarHandle" ∧ (parseMethodDescriptor yX3_stretch.desc).map (fun d => d.parameters.length) = some 0 := by decide +kernel
theorem kX3_stretch (G : Gl) (n : Nat) (K : Nat → Nat) (hK : K = G.ad) (p0 : Nat) (h : AH) : OkM G yX3_stretch cX3_stretch 2 (some .boolean) 5 cvI [.ref p0] h (F_X3_stretch n K p0 h) := by
  refine ok_of_sim [(0, .ref p0)] (by decide +kernel) (fun r => ⟨_, rfl⟩) (by simp [uns, lv_args, lg_sl, catI, catL, catA, va_rfc]) (by simp [uns, lv_args, lg_sl, catI, catL, catA, va_rfc]) (by simp [uns, lv_args, lg_sl, catI, catL, catA, va_rfc]) ?_
  unfold F_X3_stretch
  refine s_aload_n dX3_stretch_0 0 rfl ?_
  refine s_iconst (1 : Int32) dX3_stretch_1 (by decide) ?_
  refine s_bipush (9 : Int32) dX3_stretch_2 (by decide) ?_
  refine s_chk (fun hk3 => ?_)
  refine s_callV_I 4 (kX3_number G n K hK p0 (1 : Int32) (9 : Int32) h) (by decide) (by decide) dX3_stretch_4 hk3 rfl rfl q1446 q1448 qs58 q109 q1449 hyX3_number rfl rfl (Nat.le_of_ble_eq_true rfl) (fun r1 h2 => ?_)
  refine s_if_ne 12 dX3_stretch_7 (by decide) (fun c4 => ?_) (fun c4 => ?_)
  · refine s_aload_n dX3_stretch_12 0 rfl ?_
    refine s_chk (fun hk5 => ?_)
    refine s_get (j := 5) 4 (.int (h2.I p0 5)) dX3_stretch_13 hk5 rfl (by decide) q1242 (Or.inl rfl) rfl ?_
    refine s_istore_n [(1, .int (h2.I p0 5)), (0, .ref p0)] dX3_stretch_16 (by decide) (by decide) rfl ?_
    refine s_aload_n dX3_stretch_17 1 rfl ?_
    refine s_iconst (1 : Int32) dX3_stretch_18 (by decide) ?_
    refine s_bipush (9 : Int32) dX3_stretch_19 (by decide) ?_
    refine s_callV_I 4 (kX3_number G n K hK p0 (1 : Int32) (9 : Int32) h2) (by decide) (by decide) dX3_stretch_21 hk5 rfl rfl q1446 q1448 qs58 q109 q1449 hyX3_number rfl rfl (Nat.le_of_ble_eq_true rfl) (fun r6 h7 => ?_)
    refine s_if_ne 29 dX3_stretch_24 (by decide) (fun c8 => ?_) (fun c8 => ?_)
    · refine s_aload_n dX3_stretch_29 1 rfl ?_
      refine s_iload_n dX3_stretch_30 0 rfl ?_
      refine s_chk (fun hk9 => ?_)
      refine s_put (j := 20) 4 (v := .int (h2.I p0 5)) dX3_stretch_31 hk9 rfl (by decide) q1257 (Or.inl rfl) rfl rfl rfl (Upd.i (fun _ => rfl)) ?_
      refine s_hl (fun h10 e11 => ?_)
      refine s_aload_n dX3_stretch_34 1 rfl ?_
      refine s_aload_n dX3_stretch_35 1 rfl ?_
      refine s_get (j := 5) 4 (.int (h10.I p0 5)) dX3_stretch_36 (show h10.kind p0 = 5 by rw [e11]; exact hk9) rfl (by decide) q1242 (Or.inl rfl) rfl ?_
      refine s_put (j := 21) 4 (v := .int (h10.I p0 5)) dX3_stretch_39 (show h10.kind p0 = 5 by rw [e11]; exact hk9) rfl (by decide) q1258 (Or.inl rfl) rfl rfl rfl (Upd.i (fun _ => rfl)) ?_
      refine s_hl (fun h12 e13 => ?_)
      refine s_aload_n dX3_stretch_42 1 rfl ?_
      refine s_aload_n dX3_stretch_43 1 rfl ?_
      refine s_bipush (59 : Int32) dX3_stretch_44 (by decide) ?_
      refine s_callV_I 4 (kX3_isSign G n K hK p0 (59 : Int32) h12) (by decide) (by decide) dX3_stretch_46 (show h12.kind p0 = 5 by rw [e13, e11]; exact hk9) rfl rfl q1437 q1439 qs56 q109 q1440 hyX3_isSign rfl rfl (Nat.le_of_ble_eq_true rfl) (fun r14 h15 => ?_)
      refine s_chk (fun hk18 => ?_)
      refine s_callV_I 4 (kX3_passes G n K hK p0 r14 h15) (by decide) (by decide) dX3_stretch_49 hk18 rfl rfl q1429 q1431 qs54 q109 q1432 hyX3_passes rfl rfl (Nat.le_of_ble_eq_true rfl) (fun r16 h17 => ?_)
      refine s_chk (fun hb19 => ?_)
      exact s_zret dX3_stretch_52 rfl (nb01 hb19) rfl
    · refine s_iconst (0 : Int32) dX3_stretch_27 (by decide) ?_
      exact s_zret dX3_stretch_28 rfl rfl rfl
  · refine s_iconst (0 : Int32) dX3_stretch_10 (by decide) ?_
    exact s_zret dX3_stretch_11 rfl rfl rfl
theorem hyX3_voterRead : yX3_voterRead.cls ≠ "java/lang/invoke/MethodHandle" ∧ yX3_voterRead.cls ≠ "java/lang/invoke/VarHandle" ∧ (parseMethodDescriptor yX3_voterRead.desc).map (fun d => d.parameters.length) = some 0 := by decide +kernel
theorem kX3_voterRead (G : Gl) (n : Nat) (K : Nat → Nat) (hK : K = G.ad) (p0 : Nat) (h : AH) : OkM G yX3_voterRead cX3_voterRead 2 (some .boolean) 6 cvI [.ref p0] h (F_X3_voterRead n K p0 h) := by
  refine ok_of_sim [(0, .ref p0)] (by decide +kernel) (fun r => ⟨_, rfl⟩) (by simp [uns, lv_args, lg_sl, catI, catL, catA, va_rfc]) (by simp [uns, lv_args, lg_sl, catI, catL, catA, va_rfc]) (by simp [uns, lv_args, lg_sl, catI, catL, catA, va_rfc]) ?_
  unfold F_X3_voterRead
  refine s_aload_n dX3_voterRead_0 0 rfl ?_
  refine s_chk (fun hk1 => ?_)
  refine s_get (j := 14) 4 (va_rf (h.R p0 14)) dX3_voterRead_1 hk1 rfl (by decide) q1251 (Or.inl rfl) rfl ?_
  refine s_iconst (1 : Int32) dX3_voterRead_4 (by decide) ?_
  refine s_ob (r := h.R p0 14) (fun z => [(0, .ref p0)]) (fun z => [.int (1 : Int32), z]) (fun a2 => ?_)
  refine s_chk (fun hk3 => ?_)
  refine s_chk (fun hi4 => ?_)
  refine s_iald dX3_voterRead_5 hk3 rfl hi4 ?_
  refine s_istore_n [(1, .int (h.I a2 (ix (1 : Int32)))), (0, .ref p0)] dX3_voterRead_6 (by decide) (by decide) rfl ?_
  refine s_aload_n dX3_voterRead_7 1 rfl ?_
  refine s_iconst (0 : Int32) dX3_voterRead_8 (by decide) ?_
  refine s_bipush (99 : Int32) dX3_voterRead_9 (by decide) ?_
  refine s_callV_I 4 (kX3_number G n K hK p0 (0 : Int32) (99 : Int32) h) (by decide) (by decide) dX3_voterRead_11 hk1 rfl rfl q1446 q1448 qs58 q109 q1449 hyX3_number rfl rfl (Nat.le_of_ble_eq_true rfl) (fun r5 h6 => ?_)
  refine s_if_ne 19 dX3_voterRead_14 (by decide) (fun c7 => ?_) (fun c7 => ?_)
  · refine s_aload_n dX3_voterRead_19 1 rfl ?_
    refine s_chk (fun hk8 => ?_)
    refine s_get (j := 6) 4 (va_rf (h6.R p0 6)) dX3_voterRead_20 hk8 rfl (by decide) q1243 (Or.inl rfl) rfl ?_
    refine s_iconst (1 : Int32) dX3_voterRead_23 (by decide) ?_
    refine s_ob (r := h6.R p0 6) (fun z => [(1, .int (h.I a2 (ix (1 : Int32)))), (0, .ref p0)]) (fun z => [.int (1 : Int32), z]) (fun a9 => ?_)
    refine s_chk (fun hk10 => ?_)
    refine s_chk (fun hi11 => ?_)
    refine s_aald dX3_voterRead_24 hk10 rfl rfl rfl hi11 ?_
    refine s_iload_n dX3_voterRead_25 0 rfl ?_
    refine s_aload_n dX3_voterRead_26 1 rfl ?_
    refine s_get (j := 5) 4 (.int (h6.I p0 5)) dX3_voterRead_27 hk8 rfl (by decide) q1242 (Or.inl rfl) rfl ?_
    refine s_ob (r := h6.R a9 (ix (1 : Int32))) (fun z => [(1, .int (h.I a2 (ix (1 : Int32)))), (0, .ref p0)]) (fun z => [.int (h6.I p0 5), .int (h.I a2 (ix (1 : Int32))), z]) (fun a12 => ?_)
    refine s_chk (fun hk13 => ?_)
    refine s_chk (fun hi14 => ?_)
    refine s_iast dX3_voterRead_30 hk13 rfl (by decide) hi14 ?_
    refine s_hl (fun h15 e16 => ?_)
    refine s_aload_n dX3_voterRead_31 1 rfl ?_
    refine s_iconst (0 : Int32) dX3_voterRead_32 (by decide) ?_
    refine s_bipush (99 : Int32) dX3_voterRead_33 (by decide) ?_
    refine s_callV_I 4 (kX3_number G n K hK p0 (0 : Int32) (99 : Int32) h15) (by decide) (by decide) dX3_voterRead_35 (show h15.kind p0 = 5 by rw [e16]; exact hk8) rfl rfl q1446 q1448 qs58 q109 q1449 hyX3_number rfl rfl (Nat.le_of_ble_eq_true rfl) (fun r17 h18 => ?_)
    refine s_if_ne 43 dX3_voterRead_38 (by decide) (fun c19 => ?_) (fun c19 => ?_)
    · refine s_aload_n dX3_voterRead_43 1 rfl ?_
      refine s_chk (fun hk20 => ?_)
      refine s_get (j := 7) 4 (va_rf (h18.R p0 7)) dX3_voterRead_44 hk20 rfl (by decide) q1244 (Or.inl rfl) rfl ?_
      refine s_iconst (1 : Int32) dX3_voterRead_47 (by decide) ?_
      refine s_ob (r := h18.R p0 7) (fun z => [(1, .int (h.I a2 (ix (1 : Int32)))), (0, .ref p0)]) (fun z => [.int (1 : Int32), z]) (fun a21 => ?_)
      refine s_chk (fun hk22 => ?_)
      refine s_chk (fun hi23 => ?_)
      refine s_aald dX3_voterRead_48 hk22 rfl rfl rfl hi23 ?_
      refine s_iload_n dX3_voterRead_49 0 rfl ?_
      refine s_aload_n dX3_voterRead_50 1 rfl ?_
      refine s_get (j := 5) 4 (.int (h18.I p0 5)) dX3_voterRead_51 hk20 rfl (by decide) q1242 (Or.inl rfl) rfl ?_
      refine s_ob (r := h18.R a21 (ix (1 : Int32))) (fun z => [(1, .int (h.I a2 (ix (1 : Int32)))), (0, .ref p0)]) (fun z => [.int (h18.I p0 5), .int (h.I a2 (ix (1 : Int32))), z]) (fun a24 => ?_)
      refine s_chk (fun hk25 => ?_)
      refine s_chk (fun hi26 => ?_)
      refine s_iast dX3_voterRead_54 hk25 rfl (by decide) hi26 ?_
      refine s_hl (fun h27 e28 => ?_)
      refine s_aload_n dX3_voterRead_55 1 rfl ?_
      refine s_get (j := 8) 4 (va_rf (h27.R p0 8)) dX3_voterRead_56 (show h27.kind p0 = 5 by rw [e28]; exact hk20) rfl (by decide) q1245 (Or.inl rfl) rfl ?_
      refine s_iconst (1 : Int32) dX3_voterRead_59 (by decide) ?_
      refine s_ob (r := h27.R p0 8) (fun z => [(1, .int (h.I a2 (ix (1 : Int32)))), (0, .ref p0)]) (fun z => [.int (1 : Int32), z]) (fun a29 => ?_)
      refine s_chk (fun hk30 => ?_)
      refine s_chk (fun hi31 => ?_)
      refine s_aald dX3_voterRead_60 hk30 rfl rfl rfl hi31 ?_
      refine s_iload_n dX3_voterRead_61 0 rfl ?_
      refine s_iconst (1 : Int32) dX3_voterRead_62 (by decide) ?_
      refine s_ob (r := h27.R a29 (ix (1 : Int32))) (fun z => [(1, .int (h.I a2 (ix (1 : Int32)))), (0, .ref p0)]) (fun z => [.int (1 : Int32), .int (h.I a2 (ix (1 : Int32))), z]) (fun a32 => ?_)
      refine s_chk (fun hk33 => ?_)
      refine s_chk (fun hi34 => ?_)
      refine s_iast dX3_voterRead_63 hk33 rfl (by decide) hi34 ?_
      refine s_hl (fun h35 e36 => ?_)
      refine s_aload_n dX3_voterRead_64 1 rfl ?_
      refine s_get (j := 9) 4 (va_rf (h35.R p0 9)) dX3_voterRead_65 (show h35.kind p0 = 5 by rw [e36, e28]; exact hk20) rfl (by decide) q1246 (Or.inl rfl) rfl ?_
      refine s_iconst (1 : Int32) dX3_voterRead_68 (by decide) ?_
      refine s_ob (r := h35.R p0 9) (fun z => [(1, .int (h.I a2 (ix (1 : Int32)))), (0, .ref p0)]) (fun z => [.int (1 : Int32), z]) (fun a37 => ?_)
      refine s_chk (fun hk38 => ?_)
      refine s_chk (fun hi39 => ?_)
      refine s_aald dX3_voterRead_69 hk38 rfl rfl rfl hi39 ?_
      refine s_iload_n dX3_voterRead_70 0 rfl ?_
      refine s_aload_n dX3_voterRead_71 1 rfl ?_
      refine s_get (j := 19) 4 (.int (h35.I p0 19)) dX3_voterRead_72 (show h35.kind p0 = 5 by rw [e36, e28]; exact hk20) rfl (by decide) q1256 (Or.inl rfl) rfl ?_
      refine s_ob (r := h35.R a37 (ix (1 : Int32))) (fun z => [(1, .int (h.I a2 (ix (1 : Int32)))), (0, .ref p0)]) (fun z => [.int (h35.I p0 19), .int (h.I a2 (ix (1 : Int32))), z]) (fun a40 => ?_)
      refine s_chk (fun hk41 => ?_)
      refine s_chk (fun hi42 => ?_)
      refine s_iast dX3_voterRead_75 hk41 rfl (by decide) hi42 ?_
      refine s_hl (fun h43 e44 => ?_)
      refine s_aload_n dX3_voterRead_76 1 rfl ?_
      refine s_get (j := 10) 4 (va_rf (h43.R p0 10)) dX3_voterRead_77 (show h43.kind p0 = 5 by rw [e44, e36, e28]; exact hk20) rfl (by decide) q1247 (Or.inl rfl) rfl ?_
      refine s_iconst (1 : Int32) dX3_voterRead_80 (by decide) ?_
      refine s_ob (r := h43.R p0 10) (fun z => [(1, .int (h.I a2 (ix (1 : Int32)))), (0, .ref p0)]) (fun z => [.int (1 : Int32), z]) (fun a45 => ?_)
      refine s_chk (fun hk46 => ?_)
      refine s_chk (fun hi47 => ?_)
      refine s_aald dX3_voterRead_81 hk46 rfl rfl rfl hi47 ?_
      refine s_iload_n dX3_voterRead_82 0 rfl ?_
      refine s_aload_n dX3_voterRead_83 1 rfl ?_
      refine s_get (j := 20) 4 (.int (h43.I p0 20)) dX3_voterRead_84 (show h43.kind p0 = 5 by rw [e44, e36, e28]; exact hk20) rfl (by decide) q1257 (Or.inl rfl) rfl ?_
      refine s_ob (r := h43.R a45 (ix (1 : Int32))) (fun z => [(1, .int (h.I a2 (ix (1 : Int32)))), (0, .ref p0)]) (fun z => [.int (h43.I p0 20), .int (h.I a2 (ix (1 : Int32))), z]) (fun a48 => ?_)
      refine s_chk (fun hk49 => ?_)
      refine s_chk (fun hi50 => ?_)
      refine s_iast dX3_voterRead_87 hk49 rfl (by decide) hi50 ?_
      refine s_hl (fun h51 e52 => ?_)
      refine s_aload_n dX3_voterRead_88 1 rfl ?_
      refine s_get (j := 11) 4 (va_rf (h51.R p0 11)) dX3_voterRead_89 (show h51.kind p0 = 5 by rw [e52, e44, e36, e28]; exact hk20) rfl (by decide) q1248 (Or.inl rfl) rfl ?_
      refine s_iconst (1 : Int32) dX3_voterRead_92 (by decide) ?_
      refine s_ob (r := h51.R p0 11) (fun z => [(1, .int (h.I a2 (ix (1 : Int32)))), (0, .ref p0)]) (fun z => [.int (1 : Int32), z]) (fun a53 => ?_)
      refine s_chk (fun hk54 => ?_)
      refine s_chk (fun hi55 => ?_)
      refine s_aald dX3_voterRead_93 hk54 rfl rfl rfl hi55 ?_
      refine s_iload_n dX3_voterRead_94 0 rfl ?_
      refine s_aload_n dX3_voterRead_95 1 rfl ?_
      refine s_get (j := 21) 4 (.int (h51.I p0 21)) dX3_voterRead_96 (show h51.kind p0 = 5 by rw [e52, e44, e36, e28]; exact hk20) rfl (by decide) q1258 (Or.inl rfl) rfl ?_
      refine s_ob (r := h51.R a53 (ix (1 : Int32))) (fun z => [(1, .int (h.I a2 (ix (1 : Int32)))), (0, .ref p0)]) (fun z => [.int (h51.I p0 21), .int (h.I a2 (ix (1 : Int32))), z]) (fun a56 => ?_)
      refine s_chk (fun hk57 => ?_)
      refine s_chk (fun hi58 => ?_)
      refine s_iast dX3_voterRead_99 hk57 rfl (by decide) hi58 ?_
      refine s_hl (fun h59 e60 => ?_)
      refine s_aload_n dX3_voterRead_100 1 rfl ?_
      refine s_ldcS dX3_voterRead_101 11 rfl hK ?_
      refine s_callV_I 4 (kX3_isWord G n K hK p0 (some (K 12)) h59) (by decide) (by decide) dX3_voterRead_103 (show h59.kind p0 = 5 by rw [e60, e52, e44, e36, e28]; exact hk20) rfl rfl q1423 q1425 qs53 q109 q1426 hyX3_isWord rfl rfl (Nat.le_of_ble_eq_true rfl) (fun r61 h62 => ?_)
      refine s_jn (fun j64 => ∀ (h63 : AH), Sim G yX3_voterRead.cls yX3_voterRead.name cX3_voterRead 2 (some .boolean) 6 cvI 141 [(0, .ref p0)] [] h63 (j64 h63)) ?_ (fun j64 hj78 => ?_)
      · intro h63
        refine s_aload_n dX3_voterRead_141 0 rfl ?_
        refine s_chk (fun hk65 => ?_)
        refine s_get (j := 14) 4 (va_rf (h63.R p0 14)) dX3_voterRead_142 hk65 rfl (by decide) q1251 (Or.inl rfl) rfl ?_
        refine s_iconst (1 : Int32) dX3_voterRead_145 (by decide) ?_
        refine s_dup2_11 dX3_voterRead_146 rfl (va_rfc _) ?_
        refine s_ob (r := h63.R p0 14) (fun z => [(0, .ref p0)]) (fun z => [.int (1 : Int32), z, .int (1 : Int32), z]) (fun a66 => ?_)
        refine s_chk (fun hk67 => ?_)
        refine s_chk (fun hi68 => ?_)
        refine s_iald dX3_voterRead_147 hk67 rfl hi68 ?_
        refine s_iconst (1 : Int32) dX3_voterRead_148 (by decide) ?_
        refine s_iadd dX3_voterRead_149 ?_
        refine s_chk (fun hi69 => ?_)
        refine s_iast dX3_voterRead_150 hk67 rfl (by decide) hi69 ?_
        refine s_hl (fun h70 e71 => ?_)
        refine s_aload_n dX3_voterRead_151 0 rfl ?_
        refine s_aload_n dX3_voterRead_152 0 rfl ?_
        refine s_bipush (59 : Int32) dX3_voterRead_153 (by decide) ?_
        refine s_callV_I 4 (kX3_isSign G n K hK p0 (59 : Int32) h70) (by decide) (by decide) dX3_voterRead_155 (show h70.kind p0 = 5 by rw [e71]; exact hk65) rfl rfl q1437 q1439 qs56 q109 q1440 hyX3_isSign rfl rfl (Nat.le_of_ble_eq_true rfl) (fun r72 h73 => ?_)
        refine s_chk (fun hk76 => ?_)
        refine s_callV_I 4 (kX3_passes G n K hK p0 r72 h73) (by decide) (by decide) dX3_voterRead_158 hk76 rfl rfl q1429 q1431 qs54 q109 q1432 hyX3_passes rfl rfl (Nat.le_of_ble_eq_true rfl) (fun r74 h75 => ?_)
        refine s_chk (fun hb77 => ?_)
        exact s_zret dX3_voterRead_161 rfl (nb01 hb77) rfl
      refine s_if_eq 141 dX3_voterRead_106 (by decide) (fun c79 => ?_) (fun c79 => ?_)
      · refine s_sub [1] rfl ?_
        exact hj78 h62
      · refine s_aload_n dX3_voterRead_109 1 rfl ?_
        refine s_iconst (1 : Int32) dX3_voterRead_110 (by decide) ?_
        refine s_chk (fun hk82 => ?_)
        refine s_callV_I 4 (kX3_passes G n K hK p0 (1 : Int32) h62) (by decide) (by decide) dX3_voterRead_111 hk82 rfl rfl q1429 q1431 qs54 q109 q1432 hyX3_passes rfl rfl (Nat.le_of_ble_eq_true rfl) (fun r80 h81 => ?_)
        refine s_if_eq 127 dX3_voterRead_114 (by decide) (fun c83 => ?_) (fun c83 => ?_)
        · refine s_iconst (0 : Int32) dX3_voterRead_127 (by decide) ?_
          exact s_zret dX3_voterRead_128 rfl rfl rfl
        · refine s_aload_n dX3_voterRead_117 1 rfl ?_
          refine s_iconst (1 : Int32) dX3_voterRead_118 (by decide) ?_
          refine s_bipush (9 : Int32) dX3_voterRead_119 (by decide) ?_
          refine s_chk (fun hk86 => ?_)
          refine s_callV_I 4 (kX3_number G n K hK p0 (1 : Int32) (9 : Int32) h81) (by decide) (by decide) dX3_voterRead_121 hk86 rfl rfl q1446 q1448 qs58 q109 q1449 hyX3_number rfl rfl (Nat.le_of_ble_eq_true rfl) (fun r84 h85 => ?_)
          refine s_if_ne 129 dX3_voterRead_124 (by decide) (fun c87 => ?_) (fun c87 => ?_)
          · refine s_aload_n dX3_voterRead_129 1 rfl ?_
            refine s_chk (fun hk88 => ?_)
            refine s_get (j := 8) 4 (va_rf (h85.R p0 8)) dX3_voterRead_130 hk88 rfl (by decide) q1245 (Or.inl rfl) rfl ?_
            refine s_iconst (1 : Int32) dX3_voterRead_133 (by decide) ?_
            refine s_ob (r := h85.R p0 8) (fun z => [(1, .int (h.I a2 (ix (1 : Int32)))), (0, .ref p0)]) (fun z => [.int (1 : Int32), z]) (fun a89 => ?_)
            refine s_chk (fun hk90 => ?_)
            refine s_chk (fun hi91 => ?_)
            refine s_aald dX3_voterRead_134 hk90 rfl rfl rfl hi91 ?_
            refine s_iload_n dX3_voterRead_135 0 rfl ?_
            refine s_aload_n dX3_voterRead_136 1 rfl ?_
            refine s_get (j := 5) 4 (.int (h85.I p0 5)) dX3_voterRead_137 hk88 rfl (by decide) q1242 (Or.inl rfl) rfl ?_
            refine s_ob (r := h85.R a89 (ix (1 : Int32))) (fun z => [(1, .int (h.I a2 (ix (1 : Int32)))), (0, .ref p0)]) (fun z => [.int (h85.I p0 5), .int (h.I a2 (ix (1 : Int32))), z]) (fun a92 => ?_)
            refine s_chk (fun hk93 => ?_)
            refine s_chk (fun hi94 => ?_)
            refine s_iast dX3_voterRead_140 hk93 rfl (by decide) hi94 ?_
            refine s_hl (fun h95 e96 => ?_)
            refine s_sub [1] rfl ?_
            exact hj78 h95
          · refine s_iconst (0 : Int32) dX3_voterRead_127 (by decide) ?_
            exact s_zret dX3_voterRead_128 rfl rfl rfl
    · refine s_iconst (0 : Int32) dX3_voterRead_41 (by decide) ?_
      exact s_zret dX3_voterRead_42 rfl rfl rfl
  · refine s_iconst (0 : Int32) dX3_voterRead_17 (by decide) ?_
    exact s_zret dX3_voterRead_18 rfl rfl rfl
theorem hyX3_placeRead : yX3_placeRead.cls ≠ "java/lang/invoke/MethodHandle" ∧ yX3_placeRead.cls ≠ "java/lang/invoke/VarHandle" ∧ (parseMethodDescriptor yX3_placeRead.desc).map (fun d => d.parameters.length) = some 0 := by decide +kernel
theorem kX3_placeRead (G : Gl) (n : Nat) (K : Nat → Nat) (hK : K = G.ad) (p0 : Nat) (h : AH) : OkM G yX3_placeRead cX3_placeRead 2 (some .boolean) 5 cvI [.ref p0] h (F_X3_placeRead n K p0 h) := by
  refine ok_of_sim [(0, .ref p0)] (by decide +kernel) (fun r => ⟨_, rfl⟩) (by simp [uns, lv_args, lg_sl, catI, catL, catA, va_rfc]) (by simp [uns, lv_args, lg_sl, catI, catL, catA, va_rfc]) (by simp [uns, lv_args, lg_sl, catI, catL, catA, va_rfc]) ?_
  unfold F_X3_placeRead
  refine s_aload_n dX3_placeRead_0 0 rfl ?_
  refine s_chk (fun hk1 => ?_)
  refine s_get (j := 15) 4 (va_rf (h.R p0 15)) dX3_placeRead_1 hk1 rfl (by decide) q1252 (Or.inl rfl) rfl ?_
  refine s_iconst (1 : Int32) dX3_placeRead_4 (by decide) ?_
  refine s_ob (r := h.R p0 15) (fun z => [(0, .ref p0)]) (fun z => [.int (1 : Int32), z]) (fun a2 => ?_)
  refine s_chk (fun hk3 => ?_)
  refine s_chk (fun hi4 => ?_)
  refine s_iald dX3_placeRead_5 hk3 rfl hi4 ?_
  refine s_istore_n [(1, .int (h.I a2 (ix (1 : Int32)))), (0, .ref p0)] dX3_placeRead_6 (by decide) (by decide) rfl ?_
  refine s_aload_n dX3_placeRead_7 1 rfl ?_
  refine s_iconst (0 : Int32) dX3_placeRead_8 (by decide) ?_
  refine s_bipush (99 : Int32) dX3_placeRead_9 (by decide) ?_
  refine s_callV_I 4 (kX3_number G n K hK p0 (0 : Int32) (99 : Int32) h) (by decide) (by decide) dX3_placeRead_11 hk1 rfl rfl q1446 q1448 qs58 q109 q1449 hyX3_number rfl rfl (Nat.le_of_ble_eq_true rfl) (fun r5 h6 => ?_)
  refine s_if_ne 19 dX3_placeRead_14 (by decide) (fun c7 => ?_) (fun c7 => ?_)
  · refine s_aload_n dX3_placeRead_19 1 rfl ?_
    refine s_chk (fun hk8 => ?_)
    refine s_get (j := 12) 4 (va_rf (h6.R p0 12)) dX3_placeRead_20 hk8 rfl (by decide) q1249 (Or.inl rfl) rfl ?_
    refine s_iconst (1 : Int32) dX3_placeRead_23 (by decide) ?_
    refine s_ob (r := h6.R p0 12) (fun z => [(1, .int (h.I a2 (ix (1 : Int32)))), (0, .ref p0)]) (fun z => [.int (1 : Int32), z]) (fun a9 => ?_)
    refine s_chk (fun hk10 => ?_)
    refine s_chk (fun hi11 => ?_)
    refine s_aald dX3_placeRead_24 hk10 rfl rfl rfl hi11 ?_
    refine s_iload_n dX3_placeRead_25 0 rfl ?_
    refine s_aload_n dX3_placeRead_26 1 rfl ?_
    refine s_get (j := 5) 4 (.int (h6.I p0 5)) dX3_placeRead_27 hk8 rfl (by decide) q1242 (Or.inl rfl) rfl ?_
    refine s_ob (r := h6.R a9 (ix (1 : Int32))) (fun z => [(1, .int (h.I a2 (ix (1 : Int32)))), (0, .ref p0)]) (fun z => [.int (h6.I p0 5), .int (h.I a2 (ix (1 : Int32))), z]) (fun a12 => ?_)
    refine s_chk (fun hk13 => ?_)
    refine s_chk (fun hi14 => ?_)
    refine s_iast dX3_placeRead_30 hk13 rfl (by decide) hi14 ?_
    refine s_hl (fun h15 e16 => ?_)
    refine s_aload_n dX3_placeRead_31 1 rfl ?_
    refine s_iconst (0 : Int32) dX3_placeRead_32 (by decide) ?_
    refine s_bipush (99 : Int32) dX3_placeRead_33 (by decide) ?_
    refine s_callV_I 4 (kX3_number G n K hK p0 (0 : Int32) (99 : Int32) h15) (by decide) (by decide) dX3_placeRead_35 (show h15.kind p0 = 5 by rw [e16]; exact hk8) rfl rfl q1446 q1448 qs58 q109 q1449 hyX3_number rfl rfl (Nat.le_of_ble_eq_true rfl) (fun r17 h18 => ?_)
    refine s_if_ne 43 dX3_placeRead_38 (by decide) (fun c19 => ?_) (fun c19 => ?_)
    · refine s_aload_n dX3_placeRead_43 1 rfl ?_
      refine s_chk (fun hk20 => ?_)
      refine s_get (j := 13) 4 (va_rf (h18.R p0 13)) dX3_placeRead_44 hk20 rfl (by decide) q1250 (Or.inl rfl) rfl ?_
      refine s_iconst (1 : Int32) dX3_placeRead_47 (by decide) ?_
      refine s_ob (r := h18.R p0 13) (fun z => [(1, .int (h.I a2 (ix (1 : Int32)))), (0, .ref p0)]) (fun z => [.int (1 : Int32), z]) (fun a21 => ?_)
      refine s_chk (fun hk22 => ?_)
      refine s_chk (fun hi23 => ?_)
      refine s_aald dX3_placeRead_48 hk22 rfl rfl rfl hi23 ?_
      refine s_iload_n dX3_placeRead_49 0 rfl ?_
      refine s_aload_n dX3_placeRead_50 1 rfl ?_
      refine s_get (j := 5) 4 (.int (h18.I p0 5)) dX3_placeRead_51 hk20 rfl (by decide) q1242 (Or.inl rfl) rfl ?_
      refine s_ob (r := h18.R a21 (ix (1 : Int32))) (fun z => [(1, .int (h.I a2 (ix (1 : Int32)))), (0, .ref p0)]) (fun z => [.int (h18.I p0 5), .int (h.I a2 (ix (1 : Int32))), z]) (fun a24 => ?_)
      refine s_chk (fun hk25 => ?_)
      refine s_chk (fun hi26 => ?_)
      refine s_iast dX3_placeRead_54 hk25 rfl (by decide) hi26 ?_
      refine s_hl (fun h27 e28 => ?_)
      refine s_aload_n dX3_placeRead_55 1 rfl ?_
      refine s_get (j := 15) 4 (va_rf (h27.R p0 15)) dX3_placeRead_56 (show h27.kind p0 = 5 by rw [e28]; exact hk20) rfl (by decide) q1252 (Or.inl rfl) rfl ?_
      refine s_iconst (1 : Int32) dX3_placeRead_59 (by decide) ?_
      refine s_dup2_11 dX3_placeRead_60 rfl (va_rfc _) ?_
      refine s_ob (r := h27.R p0 15) (fun z => [(1, .int (h.I a2 (ix (1 : Int32)))), (0, .ref p0)]) (fun z => [.int (1 : Int32), z, .int (1 : Int32), z]) (fun a29 => ?_)
      refine s_chk (fun hk30 => ?_)
      refine s_chk (fun hi31 => ?_)
      refine s_iald dX3_placeRead_61 hk30 rfl hi31 ?_
      refine s_iconst (1 : Int32) dX3_placeRead_62 (by decide) ?_
      refine s_iadd dX3_placeRead_63 ?_
      refine s_chk (fun hi32 => ?_)
      refine s_iast dX3_placeRead_64 hk30 rfl (by decide) hi32 ?_
      refine s_hl (fun h33 e34 => ?_)
      refine s_aload_n dX3_placeRead_65 1 rfl ?_
      refine s_aload_n dX3_placeRead_66 1 rfl ?_
      refine s_bipush (59 : Int32) dX3_placeRead_67 (by decide) ?_
      refine s_callV_I 4 (kX3_isSign G n K hK p0 (59 : Int32) h33) (by decide) (by decide) dX3_placeRead_69 (show h33.kind p0 = 5 by rw [e34, e28]; exact hk20) rfl rfl q1437 q1439 qs56 q109 q1440 hyX3_isSign rfl rfl (Nat.le_of_ble_eq_true rfl) (fun r35 h36 => ?_)
      refine s_chk (fun hk39 => ?_)
      refine s_callV_I 4 (kX3_passes G n K hK p0 r35 h36) (by decide) (by decide) dX3_placeRead_72 hk39 rfl rfl q1429 q1431 qs54 q109 q1432 hyX3_passes rfl rfl (Nat.le_of_ble_eq_true rfl) (fun r37 h38 => ?_)
      refine s_chk (fun hb40 => ?_)
      exact s_zret dX3_placeRead_75 rfl (nb01 hb40) rfl
    · refine s_iconst (0 : Int32) dX3_placeRead_41 (by decide) ?_
      exact s_zret dX3_placeRead_42 rfl rfl rfl
  · refine s_iconst (0 : Int32) dX3_placeRead_17 (by decide) ?_
    exact s_zret dX3_placeRead_18 rfl rfl rfl
