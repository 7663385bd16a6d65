set_option maxRecDepth 100000
theorem hyX0_votes : yX0_votes.cls ≠ "java/lang/invoke/MethodHandle" ∧ yX0_votes.cls ≠ "java/lang/invoke/VarHandle" ∧ (parseMethodDescriptor yX0_votes.desc).map (fun d => d.parameters.length) = some 2 := by decide +kernel
theorem kX0_votes (G : Gl) (n : Nat) (K : Nat → Nat) (hK : K = G.ad) (p0 : Nat) (p1 : Int32) (p2 : Int32) (h : AH) : OkM G yX0_votes cX0_votes 5 (some .int) 7 cvI [.ref p0, .int p1, .int p2] h (F_X0_votes n K p0 p1 p2 h) := by
  refine ok_of_sim [(0, .ref p0), (1, .int p1), (2, .int p2)] (by decide +kernel) (fun r => ⟨_, rfl⟩) (by simp [uns, lv_args, lg_sl, catI, catL, catA, va_rfc]) (by simp [uns, lv_args, lg_sl, catI, catL, catA, va_rfc]) (by simp [uns, lv_args, lg_sl, catI, catL, catA, va_rfc]) ?_
  unfold F_X0_votes
  refine s_aload_n dX0_votes_0 0 rfl ?_
  refine s_iload_n dX0_votes_1 1 rfl ?_
  refine s_chk (fun hk3 => ?_)
  refine s_callV_R 0 (kX0_placeAt G n K hK p0 p1 h) (by decide) (by decide) dX0_votes_2 hk3 rfl rfl q779 q781 qs18 q103 q782 hyX0_placeAt rfl rfl (Nat.le_of_ble_eq_true rfl) (fun r1 h2 => ?_)
  refine s_ostore_n [(3, va_rf r1), (0, .ref p0), (1, .int p1), (2, .int p2)] dX0_votes_5 (by decide) (by decide) rfl ?_
  refine s_aload_n dX0_votes_6 1 rfl ?_
  refine s_iload_n dX0_votes_7 3 rfl ?_
  refine s_chk (fun hk6 => ?_)
  refine s_callV_R 0 (kX0_placeAt G n K hK p0 p2 h2) (by decide) (by decide) dX0_votes_8 hk6 rfl rfl q779 q781 qs18 q103 q782 hyX0_placeAt rfl rfl (Nat.le_of_ble_eq_true rfl) (fun r4 h5 => ?_)
  refine s_ostore [(4, va_rf r4), (3, va_rf r1), (0, .ref p0), (1, .int p1), (2, .int p2)] dX0_votes_11 (by decide) (by decide) rfl ?_
  refine s_oload_n dX0_votes_13 1 rfl ?_
  refine s_ifnull (r := r1) 22 (fun z => [(4, va_rf r4), (3, z), (0, .ref p0), (1, .int p1), (2, .int p2)]) (fun z => []) dX0_votes_14 (by decide) ?_ (fun a7 => ?_)
  · refine s_iconst (-1 : Int32) dX0_votes_22 (by decide) ?_
    refine s_goto 33 dX0_votes_23 (by decide) ?_
    exact s_iret dX0_votes_33 rfl rfl
  · refine s_oload dX0_votes_17 0 rfl (by decide) ?_
    refine s_ifnonnull (r := r4) 26 (fun z => [(4, z), (3, .ref a7), (0, .ref p0), (1, .int p1), (2, .int p2)]) (fun z => []) dX0_votes_19 (by decide) ?_ (fun a8 => ?_)
    · refine s_iconst (-1 : Int32) dX0_votes_22 (by decide) ?_
      refine s_goto 33 dX0_votes_23 (by decide) ?_
      exact s_iret dX0_votes_33 rfl rfl
    · refine s_aload_n dX0_votes_26 2 rfl ?_
      refine s_aload_n dX0_votes_27 1 rfl ?_
      refine s_aload dX0_votes_28 0 rfl (by decide) ?_
      refine s_chk (fun hk11 => ?_)
      refine s_callV_I 0 (kX0_votesOf G n K hK p0 (some a7) (some a8) h5) (by decide) (by decide) dX0_votes_30 hk11 rfl rfl q835 q837 qs19 q103 q838 hyX0_votesOf rfl rfl (Nat.le_of_ble_eq_true rfl) (fun r9 h10 => ?_)
      exact s_iret dX0_votes_33 rfl rfl
theorem hyX2_wins : yX2_wins.cls ≠ "java/lang/invoke/MethodHandle" ∧ yX2_wins.cls ≠ "java/lang/invoke/VarHandle" ∧ (parseMethodDescriptor yX2_wins.desc).map (fun d => d.parameters.length) = some 3 := by decide +kernel
theorem kX2_wins (G : Gl) (n : Nat) (K : Nat → Nat) (hK : K = G.ad) (p0 : Nat) (p1 : Int32) (p2 : Int32) (p3 : Int32) (h : AH) : OkM G yX2_wins cX2_wins 5 (some .boolean) 1 cvI [.ref p0, .int p1, .int p2, .int p3] h (F_X2_wins n K p0 p1 p2 p3 h) := by
  refine ok_of_sim [(0, .ref p0), (1, .int p1), (2, .int p2), (3, .int p3)] (by decide +kernel) (fun r => ⟨_, rfl⟩) (by simp [uns, lv_args, lg_sl, catI, catL, catA, va_rfc]) (by simp [uns, lv_args, lg_sl, catI, catL, catA, va_rfc]) (by simp [uns, lv_args, lg_sl, catI, catL, catA, va_rfc]) ?_
  unfold F_X2_wins
  refine s_aload_n dX2_wins_0 0 rfl ?_
  refine s_chk (fun hk1 => ?_)
  refine s_get (j := 0) 3 (.int (h.I p0 0)) dX2_wins_1 hk1 rfl (by decide) q221 (Or.inl rfl) rfl ?_
  refine s_if_ne 18 dX2_wins_4 (by decide) (fun c2 => ?_) (fun c2 => ?_)
  · refine s_aload_n dX2_wins_18 0 rfl ?_
    refine s_get (j := 1) 3 (.int (h.I p0 1)) dX2_wins_19 hk1 rfl (by decide) q222 (Or.inl rfl) rfl ?_
    refine s_iload_n dX2_wins_22 3 rfl ?_
    refine s_imul dX2_wins_23 ?_
    refine s_istore [(4, .int ((h.I p0 1) * p3)), (0, .ref p0), (1, .int p1), (2, .int p2), (3, .int p3)] dX2_wins_24 (by decide) (by decide) rfl ?_
    refine s_aload_n dX2_wins_26 1 rfl ?_
    refine s_get (j := 0) 3 (.int (h.I p0 0)) dX2_wins_27 hk1 rfl (by decide) q221 (Or.inl rfl) rfl ?_
    refine s_iconst (1 : Int32) dX2_wins_30 (by decide) ?_
    refine s_icmp_ne 53 dX2_wins_31 (by decide) (fun c3 => ?_) (fun c3 => ?_)
    · refine s_iload_n dX2_wins_53 2 rfl ?_
      refine s_aload_n dX2_wins_54 1 rfl ?_
      refine s_get (j := 2) 3 (.int (h.I p0 2)) dX2_wins_55 hk1 rfl (by decide) q223 (Or.inl rfl) rfl ?_
      refine s_imul dX2_wins_58 ?_
      refine s_iload dX2_wins_59 0 rfl (by decide) ?_
      refine s_icmp_lt 73 dX2_wins_61 (by decide) (fun c4 => ?_) (fun c4 => ?_)
      · refine s_iconst (0 : Int32) dX2_wins_73 (by decide) ?_
        exact s_zret dX2_wins_74 rfl rfl rfl
      · refine s_iload_n dX2_wins_64 2 rfl ?_
        refine s_iload_n dX2_wins_65 3 rfl ?_
        refine s_icmp_le 73 dX2_wins_66 (by decide) (fun c5 => ?_) (fun c5 => ?_)
        · refine s_iconst (0 : Int32) dX2_wins_73 (by decide) ?_
          exact s_zret dX2_wins_74 rfl rfl rfl
        · refine s_iconst (1 : Int32) dX2_wins_69 (by decide) ?_
          refine s_goto 74 dX2_wins_70 (by decide) ?_
          exact s_zret dX2_wins_74 rfl rfl rfl
    · refine s_iload_n dX2_wins_34 2 rfl ?_
      refine s_aload_n dX2_wins_35 1 rfl ?_
      refine s_get (j := 2) 3 (.int (h.I p0 2)) dX2_wins_36 hk1 rfl (by decide) q223 (Or.inl rfl) rfl ?_
      refine s_imul dX2_wins_39 ?_
      refine s_iload dX2_wins_40 0 rfl (by decide) ?_
      refine s_icmp_le 49 dX2_wins_42 (by decide) (fun c6 => ?_) (fun c6 => ?_)
      · refine s_iconst (0 : Int32) dX2_wins_49 (by decide) ?_
        refine s_goto 74 dX2_wins_50 (by decide) ?_
        exact s_zret dX2_wins_74 rfl rfl rfl
      · refine s_iconst (1 : Int32) dX2_wins_45 (by decide) ?_
        refine s_goto 74 dX2_wins_46 (by decide) ?_
        exact s_zret dX2_wins_74 rfl rfl rfl
  · refine s_iload_n dX2_wins_7 1 rfl ?_
    refine s_iload_n dX2_wins_8 2 rfl ?_
    refine s_icmp_le 16 dX2_wins_9 (by decide) (fun c7 => ?_) (fun c7 => ?_)
    · refine s_iconst (0 : Int32) dX2_wins_16 (by decide) ?_
      exact s_zret dX2_wins_17 rfl rfl rfl
    · refine s_iconst (1 : Int32) dX2_wins_12 (by decide) ?_
      refine s_goto 17 dX2_wins_13 (by decide) ?_
      exact s_zret dX2_wins_17 rfl rfl rfl
theorem hyX0_isBeaten : yX0_isBeaten.cls ≠ "java/lang/invoke/MethodHandle" ∧ yX0_isBeaten.cls ≠ "java/lang/invoke/VarHandle" ∧ (parseMethodDescriptor yX0_isBeaten.desc).map (fun d => d.parameters.length) = some 4 := by decide +kernel
theorem kX0_isBeaten (G : Gl) (n : Nat) (K : Nat → Nat) (hK : K = G.ad) (p0 : Nat) (p1 : Int32) (p2 : Int32) (p3 : Int32) (p4 : Int32) (h : AH) : OkM G yX0_isBeaten cX0_isBeaten 5 (some .boolean) 6 cvI [.ref p0, .int p1, .int p2, .int p3, .int p4] h (F_X0_isBeaten n K p0 p1 p2 p3 p4 h) := by
  refine ok_of_sim [(0, .ref p0), (1, .int p1), (2, .int p2), (3, .int p3), (4, .int p4)] (by decide +kernel) (fun r => ⟨_, rfl⟩) (by simp [uns, lv_args, lg_sl, catI, catL, catA, va_rfc]) (by simp [uns, lv_args, lg_sl, catI, catL, catA, va_rfc]) (by simp [uns, lv_args, lg_sl, catI, catL, catA, va_rfc]) ?_
  unfold F_X0_isBeaten
  refine s_aload_n dX0_isBeaten_0 0 rfl ?_
  refine s_chk (fun hk1 => ?_)
  refine s_get (j := 5) 0 (va_rf (h.R p0 5)) dX0_isBeaten_1 hk1 rfl (by decide) q238 (Or.inl rfl) rfl ?_
  refine s_aload_n dX0_isBeaten_4 0 rfl ?_
  refine s_iload_n dX0_isBeaten_5 3 rfl ?_
  refine s_iload dX0_isBeaten_6 4 rfl (by decide) ?_
  refine s_iload_n dX0_isBeaten_8 1 rfl ?_
  refine s_iload_n dX0_isBeaten_9 2 rfl ?_
  refine s_callV_I 0 (kX0_votesFor G n K hK p0 p3 p4 p1 p2 h) (by decide) (by decide) dX0_isBeaten_10 hk1 rfl rfl q839 q841 qs20 q103 q842 hyX0_votesFor rfl rfl (by simp [catI, catL, catA, va_rfc]) (fun r2 h3 => ?_)
  refine s_aload_n dX0_isBeaten_13 0 rfl ?_
  refine s_iload_n dX0_isBeaten_14 1 rfl ?_
  refine s_iload_n dX0_isBeaten_15 2 rfl ?_
  refine s_iload_n dX0_isBeaten_16 3 rfl ?_
  refine s_iload dX0_isBeaten_17 4 rfl (by decide) ?_
  refine s_chk (fun hk6 => ?_)
  refine s_callV_I 0 (kX0_votesFor G n K hK p0 p1 p2 p3 p4 h3) (by decide) (by decide) dX0_isBeaten_19 hk6 rfl rfl q839 q841 qs20 q103 q842 hyX0_votesFor rfl rfl (by simp [catI, catL, catA, va_rfc]) (fun r4 h5 => ?_)
  refine s_aload_n dX0_isBeaten_22 0 rfl ?_
  refine s_chk (fun hk7 => ?_)
  refine s_get (j := 7) 0 (.int (h5.I p0 7)) dX0_isBeaten_23 hk7 rfl (by decide) q240 (Or.inl rfl) rfl ?_
  refine s_ob (r := h.R p0 5) (fun z => [(0, .ref p0), (1, .int p1), (2, .int p2), (3, .int p3), (4, .int p4)]) (fun z => [.int (h5.I p0 7), .int r4, .int r2, z]) (fun a8 => ?_)
  refine s_chk (fun hk11 => ?_)
  refine s_callV_I 3 (kX2_wins G n K hK a8 r2 r4 (h5.I p0 7) h5) (by decide) (by decide) dX0_isBeaten_26 hk11 rfl rfl q867 q868 q869 q108 q870 hyX2_wins rfl rfl (Nat.le_of_ble_eq_true rfl) (fun r9 h10 => ?_)
  refine s_chk (fun hb12 => ?_)
  exact s_zret dX0_isBeaten_29 rfl (nb01 hb12) rfl
theorem hyX0_above : yX0_above.cls ≠ "java/lang/invoke/MethodHandle" ∧ yX0_above.cls ≠ "java/lang/invoke/VarHandle" ∧ (parseMethodDescriptor yX0_above.desc).map (fun d => d.parameters.length) = some 2 := by decide +kernel
theorem kX0_above (G : Gl) (n : Nat) (K : Nat → Nat) (hK : K = G.ad) (p0 : Nat) (p1 : Option Nat) (p2 : Option Nat) (h : AH) : OkM G yX0_above cX0_above 3 (some .boolean) 7 cvI [.ref p0, va_rf p1, va_rf p2] h (F_X0_above n K p0 p1 p2 h) := by
  refine ok_of_sim [(0, .ref p0), (1, va_rf p1), (2, va_rf p2)] (by decide +kernel) (fun r => ⟨_, rfl⟩) (by simp [uns, lv_args, lg_sl, catI, catL, catA, va_rfc]) (by simp [uns, lv_args, lg_sl, catI, catL, catA, va_rfc]) (by simp [uns, lv_args, lg_sl, catI, catL, catA, va_rfc]) ?_
  unfold F_X0_above
  refine s_aload_n dX0_above_0 0 rfl ?_
  refine s_oload_n dX0_above_1 2 rfl ?_
  refine s_ob (r := p2) (fun z => [(0, .ref p0), (1, va_rf p1), (2, z)]) (fun z => [z, .ref p0]) (fun a1 => ?_)
  refine s_chk (fun hk2 => ?_)
  refine s_getN (j := 0) 10 (.int (h.I a1 0)) dX0_above_2 hk2 rfl (by decide) q705 (Or.inl rfl) rfl ?_
  refine s_aload_n dX0_above_5 2 rfl ?_
  refine s_getN (j := 1) 10 (.int (h.I a1 1)) dX0_above_6 hk2 rfl (by decide) q707 (Or.inl rfl) rfl ?_
  refine s_oload_n dX0_above_9 1 rfl ?_
  refine s_ob (r := p1) (fun z => [(0, .ref p0), (1, z), (2, .ref a1)]) (fun z => [z, .int (h.I a1 1), .int (h.I a1 0), .ref p0]) (fun a3 => ?_)
  refine s_chk (fun hk4 => ?_)
  refine s_getN (j := 0) 10 (.int (h.I a3 0)) dX0_above_10 hk4 rfl (by decide) q705 (Or.inl rfl) rfl ?_
  refine s_aload_n dX0_above_13 1 rfl ?_
  refine s_getN (j := 1) 10 (.int (h.I a3 1)) dX0_above_14 hk4 rfl (by decide) q707 (Or.inl rfl) rfl ?_
  refine s_chk (fun hk7 => ?_)
  refine s_callV_I 0 (kX0_isBeaten G n K hK p0 (h.I a1 0) (h.I a1 1) (h.I a3 0) (h.I a3 1) h) (by decide) (by decide) dX0_above_17 hk7 rfl rfl q863 q865 qs22 q103 q866 hyX0_isBeaten rfl rfl (Nat.le_of_ble_eq_true rfl) (fun r5 h6 => ?_)
  refine s_chk (fun hb8 => ?_)
  exact s_zret dX0_above_20 rfl (nb01 hb8) rfl
theorem hyX0_beats : yX0_beats.cls ≠ "java/lang/invoke/MethodHandle" ∧ yX0_beats.cls ≠ "java/lang/invoke/VarHandle" ∧ (parseMethodDescriptor yX0_beats.desc).map (fun d => d.parameters.length) = some 2 := by decide +kernel
theorem kX0_beats (G : Gl) (n : Nat) (K : Nat → Nat) (hK : K = G.ad) (p0 : Nat) (p1 : Int32) (p2 : Int32) (h : AH) : OkM G yX0_beats cX0_beats 5 (some .boolean) 8 cvI [.ref p0, .int p1, .int p2] h (F_X0_beats n K p0 p1 p2 h) := by
  refine ok_of_sim [(0, .ref p0), (1, .int p1), (2, .int p2)] (by decide +kernel) (fun r => ⟨_, rfl⟩) (by simp [uns, lv_args, lg_sl, catI, catL, catA, va_rfc]) (by simp [uns, lv_args, lg_sl, catI, catL, catA, va_rfc]) (by simp [uns, lv_args, lg_sl, catI, catL, catA, va_rfc]) ?_
  unfold F_X0_beats
  refine s_aload_n dX0_beats_0 0 rfl ?_
  refine s_iload_n dX0_beats_1 1 rfl ?_
  refine s_chk (fun hk3 => ?_)
  refine s_callV_R 0 (kX0_placeAt G n K hK p0 p1 h) (by decide) (by decide) dX0_beats_2 hk3 rfl rfl q779 q781 qs18 q103 q782 hyX0_placeAt rfl rfl (Nat.le_of_ble_eq_true rfl) (fun r1 h2 => ?_)
  refine s_ostore_n [(3, va_rf r1), (0, .ref p0), (1, .int p1), (2, .int p2)] dX0_beats_5 (by decide) (by decide) rfl ?_
  refine s_aload_n dX0_beats_6 1 rfl ?_
  refine s_iload_n dX0_beats_7 3 rfl ?_
  refine s_chk (fun hk6 => ?_)
  refine s_callV_R 0 (kX0_placeAt G n K hK p0 p2 h2) (by decide) (by decide) dX0_beats_8 hk6 rfl rfl q779 q781 qs18 q103 q782 hyX0_placeAt rfl rfl (Nat.le_of_ble_eq_true rfl) (fun r4 h5 => ?_)
  refine s_ostore [(4, va_rf r4), (3, va_rf r1), (0, .ref p0), (1, .int p1), (2, .int p2)] dX0_beats_11 (by decide) (by decide) rfl ?_
  refine s_oload_n dX0_beats_13 1 rfl ?_
  refine s_ifnull (r := r1) 36 (fun z => [(4, va_rf r4), (3, z), (0, .ref p0), (1, .int p1), (2, .int p2)]) (fun z => []) dX0_beats_14 (by decide) ?_ (fun a7 => ?_)
  · refine s_iconst (0 : Int32) dX0_beats_36 (by decide) ?_
    exact s_zret dX0_beats_37 rfl rfl rfl
  · refine s_oload dX0_beats_17 0 rfl (by decide) ?_
    refine s_ifnull (r := r4) 36 (fun z => [(4, z), (3, .ref a7), (0, .ref p0), (1, .int p1), (2, .int p2)]) (fun z => []) dX0_beats_19 (by decide) ?_ (fun a8 => ?_)
    · refine s_iconst (0 : Int32) dX0_beats_36 (by decide) ?_
      exact s_zret dX0_beats_37 rfl rfl rfl
    · refine s_aload_n dX0_beats_22 2 rfl ?_
      refine s_aload_n dX0_beats_23 1 rfl ?_
      refine s_aload dX0_beats_24 0 rfl (by decide) ?_
      refine s_chk (fun hk11 => ?_)
      refine s_callV_I 0 (kX0_above G n K hK p0 (some a7) (some a8) h5) (by decide) (by decide) dX0_beats_26 hk11 rfl rfl q859 q861 qs21 q103 q862 hyX0_above rfl rfl (Nat.le_of_ble_eq_true rfl) (fun r9 h10 => ?_)
      refine s_if_eq 36 dX0_beats_29 (by decide) (fun c12 => ?_) (fun c12 => ?_)
      · refine s_iconst (0 : Int32) dX0_beats_36 (by decide) ?_
        exact s_zret dX0_beats_37 rfl rfl rfl
      · refine s_iconst (1 : Int32) dX0_beats_32 (by decide) ?_
        refine s_goto 37 dX0_beats_33 (by decide) ?_
        exact s_zret dX0_beats_37 rfl rfl rfl
theorem hyX0_wins : yX0_wins.cls ≠ "java/lang/invoke/MethodHandle" ∧ yX0_wins.cls ≠ "java/lang/invoke/VarHandle" ∧ (parseMethodDescriptor yX0_wins.desc).map (fun d => d.parameters.length) = some 2 := by decide +kernel
theorem kX0_wins (G : Gl) (n : Nat) (K : Nat → Nat) (hK : K = G.ad) (p0 : Nat) (p1 : Int32) (p2 : Int32) (h : AH) : OkM G yX0_wins cX0_wins 3 (some .boolean) 7 cvI [.ref p0, .int p1, .int p2] h (F_X0_wins n K p0 p1 p2 h) := by
  refine ok_of_sim [(0, .ref p0), (1, .int p1), (2, .int p2)] (by decide +kernel) (fun r => ⟨_, rfl⟩) (by simp [uns, lv_args, lg_sl, catI, catL, catA, va_rfc]) (by simp [uns, lv_args, lg_sl, catI, catL, catA, va_rfc]) (by simp [uns, lv_args, lg_sl, catI, catL, catA, va_rfc]) ?_
  unfold F_X0_wins
  refine s_aload_n dX0_wins_0 0 rfl ?_
  refine s_chk (fun hk1 => ?_)
  refine s_get (j := 2) 0 (va_rf (h.R p0 2)) dX0_wins_1 hk1 rfl (by decide) q235 (Or.inl rfl) rfl ?_
  refine s_ob (r := h.R p0 2) (fun z => [(0, .ref p0), (1, .int p1), (2, .int p2)]) (fun z => [z]) (fun a2 => ?_)
  refine s_chk (fun hk5 => ?_)
  refine s_callV_I 2 (kJ2_isEmpty G n K hK a2 h) (by decide) (by decide) dX0_wins_4 hk5 rfl rfl q787 q723 q724 q107 q725 hyJ2_isEmpty rfl rfl (Nat.le_of_ble_eq_true rfl) (fun r3 h4 => ?_)
  refine s_if_ne 32 dX0_wins_7 (by decide) (fun c6 => ?_) (fun c6 => ?_)
  · refine s_iconst (0 : Int32) dX0_wins_32 (by decide) ?_
    exact s_zret dX0_wins_33 rfl rfl rfl
  · refine s_iload_n dX0_wins_10 1 rfl ?_
    refine s_iconst (0 : Int32) dX0_wins_11 (by decide) ?_
    refine s_sipush (9999 : Int32) dX0_wins_12 (by decide) ?_
    refine s_callS_I (kX0_in G n K hK p1 (0 : Int32) (9999 : Int32) h4) (by decide) (by decide) dX0_wins_15 q335 q336 q103 q337 hyX0_in rfl rfl (Nat.le_of_ble_eq_true rfl) (fun r7 h8 => ?_)
    refine s_if_eq 32 dX0_wins_18 (by decide) (fun c9 => ?_) (fun c9 => ?_)
    · refine s_iconst (0 : Int32) dX0_wins_32 (by decide) ?_
      exact s_zret dX0_wins_33 rfl rfl rfl
    · refine s_iload_n dX0_wins_21 2 rfl ?_
      refine s_iconst (0 : Int32) dX0_wins_22 (by decide) ?_
      refine s_sipush (9999 : Int32) dX0_wins_23 (by decide) ?_
      refine s_callS_I (kX0_in G n K hK p2 (0 : Int32) (9999 : Int32) h8) (by decide) (by decide) dX0_wins_26 q335 q336 q103 q337 hyX0_in rfl rfl (Nat.le_of_ble_eq_true rfl) (fun r10 h11 => ?_)
      refine s_if_ne 34 dX0_wins_29 (by decide) (fun c12 => ?_) (fun c12 => ?_)
      · refine s_aload_n dX0_wins_34 0 rfl ?_
        refine s_iload_n dX0_wins_35 2 rfl ?_
        refine s_bipush (100 : Int32) dX0_wins_36 (by decide) ?_
        refine s_idiv dX0_wins_38 (by decide) ?_
        refine s_iload_n dX0_wins_39 2 rfl ?_
        refine s_bipush (100 : Int32) dX0_wins_40 (by decide) ?_
        refine s_irem dX0_wins_42 (by decide) ?_
        refine s_iload_n dX0_wins_43 1 rfl ?_
        refine s_bipush (100 : Int32) dX0_wins_44 (by decide) ?_
        refine s_idiv dX0_wins_46 (by decide) ?_
        refine s_iload_n dX0_wins_47 1 rfl ?_
        refine s_bipush (100 : Int32) dX0_wins_48 (by decide) ?_
        refine s_irem dX0_wins_50 (by decide) ?_
        refine s_chk (fun hk15 => ?_)
        refine s_callV_I 0 (kX0_isBeaten G n K hK p0 (p2 / (100 : Int32)) (p2 - p2 / (100 : Int32) * (100 : Int32)) (p1 / (100 : Int32)) (p1 - p1 / (100 : Int32) * (100 : Int32)) h11) (by decide) (by decide) dX0_wins_51 hk15 rfl rfl q863 q865 qs22 q103 q866 hyX0_isBeaten rfl rfl (Nat.le_of_ble_eq_true rfl) (fun r13 h14 => ?_)
        refine s_chk (fun hb16 => ?_)
        exact s_zret dX0_wins_54 rfl (nb01 hb16) rfl
      · refine s_iconst (0 : Int32) dX0_wins_32 (by decide) ?_
        exact s_zret dX0_wins_33 rfl rfl rfl
theorem hyX0_common : yX0_common.cls ≠ "java/lang/invoke/MethodHandle" ∧ yX0_common.cls ≠ "java/lang/invoke/VarHandle" ∧ (parseMethodDescriptor yX0_common.desc).map (fun d => d.parameters.length) = some 2 := by decide +kernel
theorem sX0_common_L12 (G : Gl) (n : Nat) (K : Nat → Nat) (hK : K = G.ad) (h : AH) : ∀ (f : Nat) (x2 : Int64) (x3 : Int64), Sim G yX0_common.cls yX0_common.name cX0_common 10 (some .long) 1 cvL 12 [(1006, .long x2), (1004, .long x3)] [] h (F_X0_common_L12 n K h f x2 x3) := by
  intro f
  induction f with
  | zero =>
    intro x2 x3
    exact s_none
  | succ f ih =>
    intro x2 x3
    unfold F_X0_common_L12
    refine s_lload dX0_common_12 0 rfl ?_
    refine s_lconst (0 : Int64) dX0_common_14 (by decide) ?_
    refine s_lcmp dX0_common_15 ?_
    refine s_if_eq 37 dX0_common_16 (by decide) (fun c4 => ?_) (fun c4 => ?_)
    · refine s_lload dX0_common_37 1 rfl ?_
      exact s_lret dX0_common_39 rfl rfl
    · refine s_lload dX0_common_19 1 rfl ?_
      refine s_lload dX0_common_21 0 rfl ?_
      refine s_chk (fun hz5 => ?_)
      refine s_lrem dX0_common_23 hz5 ?_
      refine s_lstore [(1008, .long (x3 - x3 / x2 * x2)), (1006, .long x2), (1004, .long x3)] dX0_common_24 (by decide) (by decide) rfl ?_
      refine s_lload dX0_common_26 1 rfl ?_
      refine s_lstore [(1004, .long x2), (1008, .long (x3 - x3 / x2 * x2)), (1006, .long x2)] dX0_common_28 (by decide) (by decide) rfl ?_
      refine s_lload dX0_common_30 1 rfl ?_
      refine s_lstore [(1006, .long (x3 - x3 / x2 * x2)), (1004, .long x2), (1008, .long (x3 - x3 / x2 * x2))] dX0_common_32 (by decide) (by decide) rfl ?_
      refine s_goto 12 dX0_common_34 (by decide) ?_
      refine s_sub [0, 1] rfl ?_
      exact ih (x3 - x3 / x2 * x2) x2
theorem kX0_common (G : Gl) (n : Nat) (K : Nat → Nat) (hK : K = G.ad) (p0 : Int64) (p2 : Int64) (h : AH) : OkM G yX0_common cX0_common 10 (some .long) 1 cvL [.long p0, .long p2] h (F_X0_common n K p0 p2 h) := by
  refine ok_of_sim [(1000, .long p0), (1002, .long p2)] (by decide +kernel) (fun r => ⟨_, rfl⟩) (by simp [uns, lv_args, lg_sl, catI, catL, catA, va_rfc]) (by simp [uns, lv_args, lg_sl, catI, catL, catA, va_rfc]) (by simp [uns, lv_args, lg_sl, catI, catL, catA, va_rfc]) ?_
  unfold F_X0_common
  refine s_lload_n dX0_common_0 0 rfl ?_
  refine s_mabsL dX0_common_1 (by decide) q892 q893 q116 q894 (Nat.le_of_ble_eq_true rfl) ?_
  refine s_lstore [(1004, .long (if 0 < p0 then p0 else -p0)), (1000, .long p0), (1002, .long p2)] dX0_common_4 (by decide) (by decide) rfl ?_
  refine s_lload_n dX0_common_6 2 rfl ?_
  refine s_mabsL dX0_common_7 (by decide) q892 q893 q116 q894 (Nat.le_of_ble_eq_true rfl) ?_
  refine s_lstore [(1006, .long (if 0 < p2 then p2 else -p2)), (1004, .long (if 0 < p0 then p0 else -p0)), (1000, .long p0), (1002, .long p2)] dX0_common_10 (by decide) (by decide) rfl ?_
  refine s_sub [0, 1] rfl ?_
  exact sX0_common_L12 G n K hK h n (if 0 < p2 then p2 else -p2) (if 0 < p0 then p0 else -p0)
theorem hyX11_init : yX11_init.cls ≠ "java/lang/invoke/MethodHandle" ∧ yX11_init.cls ≠ "java/lang/invoke/VarHandle" ∧ (parseMethodDescriptor yX11_init.desc).map (fun d => d.parameters.length) = some 4 := by decide +kernel
theorem kX11_init (G : Gl) (n : Nat) (K : Nat → Nat) (hK : K = G.ad) (p0 : Nat) (p1 : Int32) (p2 : Int32) (p3 : Int32) (p4 : Int32) (h : AH) : OkM G yX11_init cX11_init 11 none 2 cvV [.ref p0, .int p1, .int p2, .int p3, .int p4] h (F_X11_init n K p0 p1 p2 p3 p4 h) := by
  refine ok_of_sim [(0, .ref p0), (1, .int p1), (2, .int p2), (3, .int p3), (4, .int p4)] (by decide +kernel) (fun r => ⟨_, rfl⟩) (by simp [uns, lv_args, lg_sl, catI, catL, catA, va_rfc]) (by simp [uns, lv_args, lg_sl, catI, catL, catA, va_rfc]) (by simp [uns, lv_args, lg_sl, catI, catL, catA, va_rfc]) ?_
  unfold F_X11_init
  refine s_aload_n dX11_init_0 0 rfl ?_
  refine s_objInit dX11_init_1 q888 q141 q142 (by decide) (Nat.le_of_ble_eq_true rfl) ?_
  refine s_iload dX11_init_4 4 rfl (by decide) ?_
  refine s_iload_n dX11_init_6 2 rfl ?_
  refine s_isub dX11_init_7 ?_
  refine s_i2l dX11_init_8 ?_
  refine s_lstore [(1005, .long ((p4 - p2).toInt64)), (0, .ref p0), (1, .int p1), (2, .int p2), (3, .int p3), (4, .int p4)] dX11_init_9 (by decide) (by decide) rfl ?_
  refine s_iload_n dX11_init_11 2 rfl ?_
  refine s_iload_n dX11_init_12 4 rfl ?_
  refine s_isub dX11_init_13 ?_
  refine s_i2l dX11_init_14 ?_
  refine s_lstore [(1007, .long ((p1 - p3).toInt64)), (1005, .long ((p4 - p2).toInt64)), (0, .ref p0), (1, .int p1), (2, .int p2), (3, .int p3), (4, .int p4)] dX11_init_15 (by decide) (by decide) rfl ?_
  refine s_lload dX11_init_17 1 rfl ?_
  refine s_lload dX11_init_19 0 rfl ?_
  refine s_callSN_L (kX0_common G n K hK ((p4 - p2).toInt64) ((p1 - p3).toInt64) h) (by decide) (by decide) dX11_init_21 q889 q890 q103 q891 hyX0_common rfl rfl (Nat.le_of_ble_eq_true rfl) (fun r1 h2 => ?_)
  refine s_lstore [(1009, .long r1), (1007, .long ((p1 - p3).toInt64)), (1005, .long ((p4 - p2).toInt64)), (0, .ref p0), (1, .int p1), (2, .int p2), (3, .int p3), (4, .int p4)] dX11_init_24 (by decide) (by decide) rfl ?_
  refine s_lload dX11_init_26 2 rfl ?_
  refine s_lconst (0 : Int64) dX11_init_28 (by decide) ?_
  refine s_lcmp dX11_init_29 ?_
  refine s_jn (fun j4 => ∀ (x3 : Int64), Sim G yX11_init.cls yX11_init.name cX11_init 11 none 2 cvV 52 [(1007, .long ((p1 - p3).toInt64)), (1005, .long ((p4 - p2).toInt64)), (0, .ref p0), (1, .int p1), (2, .int p2), (1009, .long x3)] [] h2 (j4 x3)) ?_ (fun j4 hj14 => ?_)
  · intro x3
    refine s_aload_n dX11_init_52 2 rfl ?_
    refine s_lload dX11_init_53 1 rfl ?_
    refine s_lload dX11_init_55 5 rfl ?_
    refine s_chk (fun hz5 => ?_)
    refine s_ldiv dX11_init_57 hz5 ?_
    refine s_chk (fun hk6 => ?_)
    refine s_putF (j := 0) 11 (v := .long (((p4 - p2).toInt64) / x3)) dX11_init_58 hk6 rfl (by decide) q895 (Or.inl rfl) rfl rfl rfl rfl rfl (Upd.l (fun _ => rfl)) ?_
    refine s_hl (fun h7 e8 => ?_)
    refine s_aload_n dX11_init_61 2 rfl ?_
    refine s_lload dX11_init_62 0 rfl ?_
    refine s_lload dX11_init_64 5 rfl ?_
    refine s_chk (fun hz9 => ?_)
    refine s_ldiv dX11_init_66 hz9 ?_
    refine s_putF (j := 1) 11 (v := .long (((p1 - p3).toInt64) / x3)) dX11_init_67 (show h7.kind p0 = 12 by rw [e8]; exact hk6) rfl (by decide) q898 (Or.inl rfl) rfl rfl rfl rfl rfl (Upd.l (fun _ => rfl)) ?_
    refine s_hl (fun h10 e11 => ?_)
    refine s_aload_n dX11_init_70 2 rfl ?_
    refine s_aload_n dX11_init_71 2 rfl ?_
    refine s_get (j := 0) 11 (.long (h10.L p0 0)) dX11_init_72 (show h10.kind p0 = 12 by rw [e11, e8]; exact hk6) rfl (by decide) q895 (Or.inl rfl) rfl ?_
    refine s_iload_n dX11_init_75 3 rfl ?_
    refine s_i2l dX11_init_76 ?_
    refine s_lmul dX11_init_77 ?_
    refine s_aload_n dX11_init_78 2 rfl ?_
    refine s_get (j := 1) 11 (.long (h10.L p0 1)) dX11_init_79 (show h10.kind p0 = 12 by rw [e11, e8]; exact hk6) rfl (by decide) q898 (Or.inl rfl) rfl ?_
    refine s_iload_n dX11_init_82 4 rfl ?_
    refine s_i2l dX11_init_83 ?_
    refine s_lmul dX11_init_84 ?_
    refine s_ladd dX11_init_85 ?_
    refine s_putF (j := 2) 11 (v := .long (((h10.L p0 0) * p1.toInt64) + ((h10.L p0 1) * p2.toInt64))) dX11_init_86 (show h10.kind p0 = 12 by rw [e11, e8]; exact hk6) rfl (by decide) q901 (Or.inl rfl) rfl rfl rfl rfl rfl (Upd.l (fun _ => rfl)) ?_
    refine s_hl (fun h12 e13 => ?_)
    exact s_vret dX11_init_89 rfl rfl
  refine s_if_lt 47 dX11_init_30 (by decide) (fun c15 => ?_) (fun c15 => ?_)
  · refine s_lload dX11_init_47 0 rfl ?_
    refine s_lneg dX11_init_49 ?_
    refine s_lstore [(1009, .long (-r1)), (1007, .long ((p1 - p3).toInt64)), (1005, .long ((p4 - p2).toInt64)), (0, .ref p0), (1, .int p1), (2, .int p2), (3, .int p3), (4, .int p4)] dX11_init_50 (by decide) (by decide) rfl ?_
    refine s_sub [1, 2, 3, 4, 5, 0] rfl ?_
    exact hj14 (-r1)
  · refine s_lload dX11_init_33 2 rfl ?_
    refine s_lconst (0 : Int64) dX11_init_35 (by decide) ?_
    refine s_lcmp dX11_init_36 ?_
    refine s_if_ne 52 dX11_init_37 (by decide) (fun c16 => ?_) (fun c16 => ?_)
    · refine s_sub [1, 2, 3, 4, 5, 0] rfl ?_
      exact hj14 r1
    · refine s_lload dX11_init_40 1 rfl ?_
      refine s_lconst (0 : Int64) dX11_init_42 (by decide) ?_
      refine s_lcmp dX11_init_43 ?_
      refine s_if_ge 52 dX11_init_44 (by decide) (fun c17 => ?_) (fun c17 => ?_)
      · refine s_sub [1, 2, 3, 4, 5, 0] rfl ?_
        exact hj14 r1
      · refine s_lload dX11_init_47 0 rfl ?_
        refine s_lneg dX11_init_49 ?_
        refine s_lstore [(1009, .long (-r1)), (1007, .long ((p1 - p3).toInt64)), (1005, .long ((p4 - p2).toInt64)), (0, .ref p0), (1, .int p1), (2, .int p2), (3, .int p3), (4, .int p4)] dX11_init_50 (by decide) (by decide) rfl ?_
        refine s_sub [1, 2, 3, 4, 5, 0] rfl ?_
        exact hj14 (-r1)
theorem hyX11_isAhead : yX11_isAhead.cls ≠ "java/lang/invoke/MethodHandle" ∧ yX11_isAhead.cls ≠ "java/lang/invoke/VarHandle" ∧ (parseMethodDescriptor yX11_isAhead.desc).map (fun d => d.parameters.length) = some 1 := by decide +kernel
theorem kX11_isAhead (G : Gl) (n : Nat) (K : Nat → Nat) (hK : K = G.ad) (p0 : Nat) (p1 : Option Nat) (h : AH) : OkM G yX11_isAhead cX11_isAhead 4 (some .boolean) 1 cvI [.ref p0, va_rf p1] h (F_X11_isAhead n K p0 p1 h) := by
  refine ok_of_sim [(0, .ref p0), (1, va_rf p1)] (by decide +kernel) (fun r => ⟨_, rfl⟩) (by simp [uns, lv_args, lg_sl, catI, catL, catA, va_rfc]) (by simp [uns, lv_args, lg_sl, catI, catL, catA, va_rfc]) (by simp [uns, lv_args, lg_sl, catI, catL, catA, va_rfc]) ?_
  unfold F_X11_isAhead
  refine s_aload_n dX11_isAhead_0 0 rfl ?_
  refine s_chk (fun hk1 => ?_)
  refine s_get (j := 0) 11 (.long (h.L p0 0)) dX11_isAhead_1 hk1 rfl (by decide) q895 (Or.inl rfl) rfl ?_
  refine s_lconst (0 : Int64) dX11_isAhead_4 (by decide) ?_
  refine s_lcmp dX11_isAhead_5 ?_
  refine s_jn (fun j2 => Sim G yX11_isAhead.cls yX11_isAhead.name cX11_isAhead 4 (some .boolean) 1 cvI 18 [(0, .ref p0), (1, va_rf p1)] [] h (j2 )) ?_ (fun j2 hj8 => ?_)
  · skip
    refine s_aload_n dX11_isAhead_18 0 rfl ?_
    refine s_get (j := 0) 11 (.long (h.L p0 0)) dX11_isAhead_19 hk1 rfl (by decide) q895 (Or.inl rfl) rfl ?_
    refine s_lconst (0 : Int64) dX11_isAhead_22 (by decide) ?_
    refine s_lcmp dX11_isAhead_23 ?_
    refine s_if_ne 48 dX11_isAhead_24 (by decide) (fun c3 => ?_) (fun c3 => ?_)
    · refine s_iconst (1 : Int32) dX11_isAhead_48 (by decide) ?_
      refine s_goto 53 dX11_isAhead_49 (by decide) ?_
      exact s_zret dX11_isAhead_53 rfl rfl rfl
    · refine s_oload_n dX11_isAhead_27 1 rfl ?_
      refine s_ob (r := p1) (fun z => [(0, .ref p0), (1, z)]) (fun z => [z]) (fun a4 => ?_)
      refine s_chk (fun hk5 => ?_)
      refine s_get (j := 0) 11 (.long (h.L a4 0)) dX11_isAhead_28 hk5 rfl (by decide) q895 (Or.inl rfl) rfl ?_
      refine s_lconst (0 : Int64) dX11_isAhead_31 (by decide) ?_
      refine s_lcmp dX11_isAhead_32 ?_
      refine s_if_ne 52 dX11_isAhead_33 (by decide) (fun c6 => ?_) (fun c6 => ?_)
      · refine s_iconst (0 : Int32) dX11_isAhead_52 (by decide) ?_
        exact s_zret dX11_isAhead_53 rfl rfl rfl
      · refine s_aload_n dX11_isAhead_36 0 rfl ?_
        refine s_get (j := 2) 11 (.long (h.L p0 2)) dX11_isAhead_37 hk1 rfl (by decide) q901 (Or.inl rfl) rfl ?_
        refine s_aload_n dX11_isAhead_40 1 rfl ?_
        refine s_get (j := 2) 11 (.long (h.L a4 2)) dX11_isAhead_41 hk5 rfl (by decide) q901 (Or.inl rfl) rfl ?_
        refine s_lcmp dX11_isAhead_44 ?_
        refine s_if_ge 52 dX11_isAhead_45 (by decide) (fun c7 => ?_) (fun c7 => ?_)
        · refine s_iconst (0 : Int32) dX11_isAhead_52 (by decide) ?_
          exact s_zret dX11_isAhead_53 rfl rfl rfl
        · refine s_iconst (1 : Int32) dX11_isAhead_48 (by decide) ?_
          refine s_goto 53 dX11_isAhead_49 (by decide) ?_
          exact s_zret dX11_isAhead_53 rfl rfl rfl
  refine s_if_eq 18 dX11_isAhead_6 (by decide) (fun c9 => ?_) (fun c9 => ?_)
  · exact hj8
  · refine s_oload_n dX11_isAhead_9 1 rfl ?_
    refine s_ob (r := p1) (fun z => [(0, .ref p0), (1, va_rf p1)]) (fun z => [z]) (fun a10 => ?_)
    refine s_chk (fun hk11 => ?_)
    refine s_get (j := 0) 11 (.long (h.L a10 0)) dX11_isAhead_10 hk11 rfl (by decide) q895 (Or.inl rfl) rfl ?_
    refine s_lconst (0 : Int64) dX11_isAhead_13 (by decide) ?_
    refine s_lcmp dX11_isAhead_14 ?_
    refine s_if_ne 54 dX11_isAhead_15 (by decide) (fun c12 => ?_) (fun c12 => ?_)
    · refine s_aload_n dX11_isAhead_54 0 rfl ?_
      refine s_get (j := 1) 11 (.long (h.L p0 1)) dX11_isAhead_55 hk1 rfl (by decide) q898 (Or.inl rfl) rfl ?_
      refine s_oload_n dX11_isAhead_58 1 rfl ?_
      refine s_ob (r := p1) (fun z => [(0, .ref p0), (1, va_rf p1)]) (fun z => [z, .long (h.L p0 1)]) (fun a13 => ?_)
      refine s_chk (fun hk14 => ?_)
      refine s_get (j := 0) 11 (.long (h.L a13 0)) dX11_isAhead_59 hk14 rfl (by decide) q895 (Or.inl rfl) rfl ?_
      refine s_lmul dX11_isAhead_62 ?_
      refine s_oload_n dX11_isAhead_63 1 rfl ?_
      refine s_ob (r := p1) (fun z => [(0, .ref p0), (1, va_rf p1)]) (fun z => [z, .long ((h.L p0 1) * (h.L a13 0))]) (fun a15 => ?_)
      refine s_chk (fun hk16 => ?_)
      refine s_get (j := 1) 11 (.long (h.L a15 1)) dX11_isAhead_64 hk16 rfl (by decide) q898 (Or.inl rfl) rfl ?_
      refine s_aload_n dX11_isAhead_67 0 rfl ?_
      refine s_get (j := 0) 11 (.long (h.L p0 0)) dX11_isAhead_68 hk1 rfl (by decide) q895 (Or.inl rfl) rfl ?_
      refine s_lmul dX11_isAhead_71 ?_
      refine s_lsub dX11_isAhead_72 ?_
      refine s_lstore_n [(1002, .long (((h.L p0 1) * (h.L a13 0)) - ((h.L a15 1) * (h.L p0 0)))), (0, .ref p0), (1, va_rf p1)] dX11_isAhead_73 (by decide) (by decide) rfl ?_
      refine s_lload_n dX11_isAhead_74 0 rfl ?_
      refine s_lconst (0 : Int64) dX11_isAhead_75 (by decide) ?_
      refine s_lcmp dX11_isAhead_76 ?_
      refine s_if_eq 94 dX11_isAhead_77 (by decide) (fun c17 => ?_) (fun c17 => ?_)
      · refine s_aload_n dX11_isAhead_94 1 rfl ?_
        refine s_get (j := 2) 11 (.long (h.L p0 2)) dX11_isAhead_95 hk1 rfl (by decide) q901 (Or.inl rfl) rfl ?_
        refine s_oload_n dX11_isAhead_98 2 rfl ?_
        refine s_ob (r := p1) (fun z => [(1002, .long (((h.L p0 1) * (h.L a13 0)) - ((h.L a15 1) * (h.L p0 0)))), (0, .ref p0), (1, va_rf p1)]) (fun z => [z, .long (h.L p0 2)]) (fun a18 => ?_)
        refine s_chk (fun hk19 => ?_)
        refine s_get (j := 2) 11 (.long (h.L a18 2)) dX11_isAhead_99 hk19 rfl (by decide) q901 (Or.inl rfl) rfl ?_
        refine s_lcmp dX11_isAhead_102 ?_
        refine s_if_ge 110 dX11_isAhead_103 (by decide) (fun c20 => ?_) (fun c20 => ?_)
        · refine s_iconst (0 : Int32) dX11_isAhead_110 (by decide) ?_
          exact s_zret dX11_isAhead_111 rfl rfl rfl
        · refine s_iconst (1 : Int32) dX11_isAhead_106 (by decide) ?_
          refine s_goto 111 dX11_isAhead_107 (by decide) ?_
          exact s_zret dX11_isAhead_111 rfl rfl rfl
      · refine s_lload_n dX11_isAhead_80 0 rfl ?_
        refine s_lconst (0 : Int64) dX11_isAhead_81 (by decide) ?_
        refine s_lcmp dX11_isAhead_82 ?_
        refine s_if_ge 90 dX11_isAhead_83 (by decide) (fun c21 => ?_) (fun c21 => ?_)
        · refine s_iconst (0 : Int32) dX11_isAhead_90 (by decide) ?_
          refine s_goto 111 dX11_isAhead_91 (by decide) ?_
          exact s_zret dX11_isAhead_111 rfl rfl rfl
        · refine s_iconst (1 : Int32) dX11_isAhead_86 (by decide) ?_
          refine s_goto 111 dX11_isAhead_87 (by decide) ?_
          exact s_zret dX11_isAhead_111 rfl rfl rfl
    · exact hj8
theorem hyX11_isSame : yX11_isSame.cls ≠ "java/lang/invoke/MethodHandle" ∧ yX11_isSame.cls ≠ "java/lang/invoke/VarHandle" ∧ (parseMethodDescriptor yX11_isSame.desc).map (fun d => d.parameters.length) = some 1 := by decide +kernel
theorem kX11_isSame (G : Gl) (n : Nat) (K : Nat → Nat) (hK : K = G.ad) (p0 : Nat) (p1 : Option Nat) (h : AH) : OkM G yX11_isSame cX11_isSame 2 (some .boolean) 1 cvI [.ref p0, va_rf p1] h (F_X11_isSame n K p0 p1 h) := by
  refine ok_of_sim [(0, .ref p0), (1, va_rf p1)] (by decide +kernel) (fun r => ⟨_, rfl⟩) (by simp [uns, lv_args, lg_sl, catI, catL, catA, va_rfc]) (by simp [uns, lv_args, lg_sl, catI, catL, catA, va_rfc]) (by simp [uns, lv_args, lg_sl, catI, catL, catA, va_rfc]) ?_
  unfold F_X11_isSame
  refine s_aload_n dX11_isSame_0 0 rfl ?_
  refine s_chk (fun hk1 => ?_)
  refine s_get (j := 0) 11 (.long (h.L p0 0)) dX11_isSame_1 hk1 rfl (by decide) q895 (Or.inl rfl) rfl ?_
  refine s_oload_n dX11_isSame_4 1 rfl ?_
  refine s_ob (r := p1) (fun z => [(0, .ref p0), (1, z)]) (fun z => [z, .long (h.L p0 0)]) (fun a2 => ?_)
  refine s_chk (fun hk3 => ?_)
  refine s_get (j := 0) 11 (.long (h.L a2 0)) dX11_isSame_5 hk3 rfl (by decide) q895 (Or.inl rfl) rfl ?_
  refine s_lcmp dX11_isSame_8 ?_
  refine s_if_ne 40 dX11_isSame_9 (by decide) (fun c4 => ?_) (fun c4 => ?_)
  · refine s_iconst (0 : Int32) dX11_isSame_40 (by decide) ?_
    exact s_zret dX11_isSame_41 rfl rfl rfl
  · refine s_aload_n dX11_isSame_12 0 rfl ?_
    refine s_get (j := 1) 11 (.long (h.L p0 1)) dX11_isSame_13 hk1 rfl (by decide) q898 (Or.inl rfl) rfl ?_
    refine s_aload_n dX11_isSame_16 1 rfl ?_
    refine s_get (j := 1) 11 (.long (h.L a2 1)) dX11_isSame_17 hk3 rfl (by decide) q898 (Or.inl rfl) rfl ?_
    refine s_lcmp dX11_isSame_20 ?_
    refine s_if_ne 40 dX11_isSame_21 (by decide) (fun c5 => ?_) (fun c5 => ?_)
    · refine s_iconst (0 : Int32) dX11_isSame_40 (by decide) ?_
      exact s_zret dX11_isSame_41 rfl rfl rfl
    · refine s_aload_n dX11_isSame_24 0 rfl ?_
      refine s_get (j := 2) 11 (.long (h.L p0 2)) dX11_isSame_25 hk1 rfl (by decide) q901 (Or.inl rfl) rfl ?_
      refine s_aload_n dX11_isSame_28 1 rfl ?_
      refine s_get (j := 2) 11 (.long (h.L a2 2)) dX11_isSame_29 hk3 rfl (by decide) q901 (Or.inl rfl) rfl ?_
      refine s_lcmp dX11_isSame_32 ?_
      refine s_if_ne 40 dX11_isSame_33 (by decide) (fun c6 => ?_) (fun c6 => ?_)
      · refine s_iconst (0 : Int32) dX11_isSame_40 (by decide) ?_
        exact s_zret dX11_isSame_41 rfl rfl rfl
      · refine s_iconst (1 : Int32) dX11_isSame_36 (by decide) ?_
        refine s_goto 41 dX11_isSame_37 (by decide) ?_
        exact s_zret dX11_isSame_41 rfl rfl rfl
theorem hyJ16_signum : yJ16_signum.cls ≠ "java/lang/invoke/MethodHandle" ∧ yJ16_signum.cls ≠ "java/lang/invoke/VarHandle" ∧ (parseMethodDescriptor yJ16_signum.desc).map (fun d => d.parameters.length) = some 1 := by decide +kernel
theorem kJ16_signum (G : Gl) (n : Nat) (K : Nat → Nat) (hK : K = G.ad) (p0 : Int64) (h : AH) : OkM G yJ16_signum cJ16_signum 2 (some .int) 1 cvI [.long p0] h (F_J16_signum n K p0 h) := by
  refine ok_of_sim [(1000, .long p0)] (by decide +kernel) (fun r => ⟨_, rfl⟩) (by simp [uns, lv_args, lg_sl, catI, catL, catA, va_rfc]) (by simp [uns, lv_args, lg_sl, catI, catL, catA, va_rfc]) (by simp [uns, lv_args, lg_sl, catI, catL, catA, va_rfc]) ?_
  unfold F_J16_signum
  refine s_lload_n dJ16_signum_0 0 rfl ?_
  refine s_bipush (63 : Int32) dJ16_signum_1 (by decide) ?_
  refine s_lshr dJ16_signum_3 ?_
  refine s_lload_n dJ16_signum_4 0 rfl ?_
  refine s_lneg dJ16_signum_5 ?_
  refine s_bipush (63 : Int32) dJ16_signum_6 (by decide) ?_
  refine s_lushr dJ16_signum_8 ?_
  refine s_lor dJ16_signum_9 ?_
  refine s_l2i dJ16_signum_10 ?_
  exact s_iret dJ16_signum_11 rfl rfl
theorem hyX11_side : yX11_side.cls ≠ "java/lang/invoke/MethodHandle" ∧ yX11_side.cls ≠ "java/lang/invoke/VarHandle" ∧ (parseMethodDescriptor yX11_side.desc).map (fun d => d.parameters.length) = some 2 := by decide +kernel
theorem kX11_side (G : Gl) (n : Nat) (K : Nat → Nat) (hK : K = G.ad) (p0 : Nat) (p1 : Int64) (p3 : Int64) (h : AH) : OkM G yX11_side cX11_side 5 (some .int) 2 cvI [.ref p0, .long p1, .long p3] h (F_X11_side n K p0 p1 p3 h) := by
  refine ok_of_sim [(0, .ref p0), (1001, .long p1), (1003, .long p3)] (by decide +kernel) (fun r => ⟨_, rfl⟩) (by simp [uns, lv_args, lg_sl, catI, catL, catA, va_rfc]) (by simp [uns, lv_args, lg_sl, catI, catL, catA, va_rfc]) (by simp [uns, lv_args, lg_sl, catI, catL, catA, va_rfc]) ?_
  unfold F_X11_side
  refine s_aload_n dX11_side_0 0 rfl ?_
  refine s_chk (fun hk1 => ?_)
  refine s_get (j := 0) 11 (.long (h.L p0 0)) dX11_side_1 hk1 rfl (by decide) q895 (Or.inl rfl) rfl ?_
  refine s_lload_n dX11_side_4 1 rfl ?_
  refine s_lmul dX11_side_5 ?_
  refine s_aload_n dX11_side_6 0 rfl ?_
  refine s_get (j := 1) 11 (.long (h.L p0 1)) dX11_side_7 hk1 rfl (by decide) q898 (Or.inl rfl) rfl ?_
  refine s_lload_n dX11_side_10 2 rfl ?_
  refine s_lmul dX11_side_11 ?_
  refine s_ladd dX11_side_12 ?_
  refine s_aload_n dX11_side_13 0 rfl ?_
  refine s_get (j := 2) 11 (.long (h.L p0 2)) dX11_side_14 hk1 rfl (by decide) q901 (Or.inl rfl) rfl ?_
  refine s_lsub dX11_side_17 ?_
  refine s_callS_I (kJ16_signum G n K hK ((((h.L p0 0) * p1) + ((h.L p0 1) * p3)) - (h.L p0 2)) h) (by decide) (by decide) dX11_side_18 q927 q928 q132 q929 hyJ16_signum rfl rfl (Nat.le_of_ble_eq_true rfl) (fun r2 h3 => ?_)
  exact s_iret dX11_side_21 rfl rfl
theorem hyX0_halves : yX0_halves.cls ≠ "java/lang/invoke/MethodHandle" ∧ yX0_halves.cls ≠ "java/lang/invoke/VarHandle" ∧ (parseMethodDescriptor yX0_halves.desc).map (fun d => d.parameters.length) = some 1 := by decide +kernel
theorem sX0_halves_L7 (G : Gl) (n : Nat) (K : Nat → Nat) (hK : K = G.ad) (y5 : Nat) (y6 : Option Nat) : ∀ (f : Nat) (x2 : Int32) (x3 : Int32) (x4 : Int32) (h : AH), Sim G yX0_halves.cls yX0_halves.name cX0_halves 7 (some .boolean) 4 cvI 7 [(4, .int x2), (3, .int x3), (2, .int x4), (0, .ref y5), (1, va_rf y6)] [] h (F_X0_halves_L7 n K y5 y6 f x2 x3 x4 h) := by
  intro f
  induction f with
  | zero =>
    intro x2 x3 x4 h
    exact s_none
  | succ f ih =>
    intro x2 x3 x4 h
    unfold F_X0_halves_L7
    refine s_iload dX0_halves_7 0 rfl (by decide) ?_
    refine s_aload_n dX0_halves_9 3 rfl ?_
    refine s_chk (fun hk7 => ?_)
    refine s_get (j := 2) 0 (va_rf (h.R y5 2)) dX0_halves_10 hk7 rfl (by decide) q235 (Or.inl rfl) rfl ?_
    refine s_ob (r := h.R y5 2) (fun z => [(4, .int x2), (3, .int x3), (2, .int x4), (0, .ref y5), (1, va_rf y6)]) (fun z => [z, .int x2]) (fun a8 => ?_)
    refine s_chk (fun hk11 => ?_)
    refine s_callV_I 2 (kJ2_size G n K hK a8 h) (by decide) (by decide) dX0_halves_13 hk11 rfl rfl q732 q552 q553 q107 q554 hyJ2_size rfl rfl (Nat.le_of_ble_eq_true rfl) (fun r9 h10 => ?_)
    refine s_icmp_ge 91 dX0_halves_16 (by decide) (fun c12 => ?_) (fun c12 => ?_)
    · refine s_iconst (2 : Int32) dX0_halves_91 (by decide) ?_
      refine s_iload_n dX0_halves_92 2 rfl ?_
      refine s_imul dX0_halves_93 ?_
      refine s_aload_n dX0_halves_94 3 rfl ?_
      refine s_chk (fun hk13 => ?_)
      refine s_get (j := 7) 0 (.int (h10.I y5 7)) dX0_halves_95 hk13 rfl (by decide) q240 (Or.inl rfl) rfl ?_
      refine s_icmp_gt 115 dX0_halves_98 (by decide) (fun c14 => ?_) (fun c14 => ?_)
      · refine s_iconst (0 : Int32) dX0_halves_115 (by decide) ?_
        exact s_zret dX0_halves_116 rfl rfl rfl
      · refine s_iconst (2 : Int32) dX0_halves_101 (by decide) ?_
        refine s_iload_n dX0_halves_102 1 rfl ?_
        refine s_imul dX0_halves_103 ?_
        refine s_aload_n dX0_halves_104 3 rfl ?_
        refine s_get (j := 7) 0 (.int (h10.I y5 7)) dX0_halves_105 hk13 rfl (by decide) q240 (Or.inl rfl) rfl ?_
        refine s_icmp_gt 115 dX0_halves_108 (by decide) (fun c15 => ?_) (fun c15 => ?_)
        · refine s_iconst (0 : Int32) dX0_halves_115 (by decide) ?_
          exact s_zret dX0_halves_116 rfl rfl rfl
        · refine s_iconst (1 : Int32) dX0_halves_111 (by decide) ?_
          refine s_goto 116 dX0_halves_112 (by decide) ?_
          exact s_zret dX0_halves_116 rfl rfl rfl
    · refine s_aload_n dX0_halves_19 3 rfl ?_
      refine s_chk (fun hk16 => ?_)
      refine s_get (j := 2) 0 (va_rf (h10.R y5 2)) dX0_halves_20 hk16 rfl (by decide) q235 (Or.inl rfl) rfl ?_
      refine s_iload dX0_halves_23 0 rfl (by decide) ?_
      refine s_ob (r := h10.R y5 2) (fun z => [(4, .int x2), (3, .int x3), (2, .int x4), (0, .ref y5), (1, va_rf y6)]) (fun z => [.int x2, z]) (fun a17 => ?_)
      refine s_chk (fun hk20 => ?_)
      refine s_callV_R 2 (kJ2_get G n K hK a17 x2 h10) (by decide) (by decide) dX0_halves_25 hk20 rfl rfl q733 q734 q735 q107 q736 hyJ2_get rfl rfl (Nat.le_of_ble_eq_true rfl) (fun r18 h19 => ?_)
      refine s_ob (r := r18) (fun z => [(4, .int x2), (3, .int x3), (2, .int x4), (0, .ref y5), (1, va_rf y6)]) (fun z => [z]) (fun a21 => ?_)
      refine s_chk (fun hk22 => ?_)
      refine s_castV dX0_halves_28 hk22 q745 ?_
      refine s_astore [(5, .ref a21), (4, .int x2), (3, .int x3), (2, .int x4), (0, .ref y5), (1, va_rf y6)] dX0_halves_31 (by decide) (by decide) rfl ?_
      refine s_oload_n dX0_halves_33 5 rfl ?_
      refine s_aload dX0_halves_34 0 rfl (by decide) ?_
      refine s_getV (j := 3) dX0_halves_36 hk22 (by decide) q591 ?_
      refine s_i2l dX0_halves_39 ?_
      refine s_aload dX0_halves_40 0 rfl (by decide) ?_
      refine s_getV (j := 4) dX0_halves_42 hk22 (by decide) q593 ?_
      refine s_i2l dX0_halves_45 ?_
      refine s_ob (r := y6) (fun z => [(5, .ref a21), (4, .int x2), (3, .int x3), (2, .int x4), (0, .ref y5), (1, va_rf y6)]) (fun z => [.long ((h19.I a21 4).toInt64), .long ((h19.I a21 3).toInt64), z]) (fun a23 => ?_)
      refine s_chk (fun hk26 => ?_)
      refine s_callV_I 11 (kX11_side G n K hK a23 ((h19.I a21 3).toInt64) ((h19.I a21 4).toInt64) h19) (by decide) (by decide) dX0_halves_46 hk26 rfl rfl q923 q924 q925 q131 q926 hyX11_side rfl rfl (Nat.le_of_ble_eq_true rfl) (fun r24 h25 => ?_)
      refine s_istore [(6, .int r24), (5, .ref a21), (4, .int x2), (3, .int x3), (2, .int x4), (0, .ref y5), (1, va_rf y6)] dX0_halves_49 (by decide) (by decide) rfl ?_
      refine s_iload_n dX0_halves_51 4 rfl ?_
      refine s_iload dX0_halves_52 0 rfl (by decide) ?_
      refine s_jn (fun j28 => ∀ (x27 : Int32), Sim G yX0_halves.cls yX0_halves.name cX0_halves 7 (some .boolean) 4 cvI 66 [(6, .int r24), (5, .ref a21), (4, .int x2), (3, .int x3), (0, .ref y5), (1, va_rf y6)] [.int x27, .int x4] h25 (j28 x27)) ?_ (fun j28 hj31 => ?_)
      · intro x27
        refine s_iadd dX0_halves_66 ?_
        refine s_istore_n [(2, .int (x4 + x27)), (6, .int r24), (5, .ref a21), (4, .int x2), (3, .int x3), (0, .ref y5), (1, va_rf y6)] dX0_halves_67 (by decide) (by decide) rfl ?_
        refine s_iload_n dX0_halves_68 4 rfl ?_
        refine s_iload dX0_halves_69 1 rfl (by decide) ?_
        refine s_if_le 82 dX0_halves_71 (by decide) (fun c29 => ?_) (fun c29 => ?_)
        · refine s_iconst (0 : Int32) dX0_halves_82 (by decide) ?_
          refine s_iadd dX0_halves_83 ?_
          refine s_istore_n [(3, .int (x3 + (0 : Int32))), (2, .int (x4 + x27)), (6, .int r24), (5, .ref a21), (4, .int x2), (0, .ref y5), (1, va_rf y6)] dX0_halves_84 (by decide) (by decide) rfl ?_
          refine s_iinc (1 : Int32) [(4, .int (x2 + (1 : Int32))), (3, .int (x3 + (0 : Int32))), (2, .int (x4 + x27)), (6, .int r24), (5, .ref a21), (0, .ref y5), (1, va_rf y6)] dX0_halves_85 4 rfl (by decide) (by decide) (by decide) rfl ?_
          refine s_goto 7 dX0_halves_88 (by decide) ?_
          refine s_sub [0, 1, 2, 5, 6] rfl ?_
          exact ih (x2 + (1 : Int32)) (x3 + (0 : Int32)) (x4 + x27) h25
        · refine s_aload dX0_halves_74 2 rfl (by decide) ?_
          refine s_chk (fun hk30 => ?_)
          refine s_getV (j := 0) dX0_halves_76 hk30 (by decide) q585 ?_
          refine s_goto 83 dX0_halves_79 (by decide) ?_
          refine s_iadd dX0_halves_83 ?_
          refine s_istore_n [(3, .int (x3 + (h25.I a21 0))), (2, .int (x4 + x27)), (6, .int r24), (5, .ref a21), (4, .int x2), (0, .ref y5), (1, va_rf y6)] dX0_halves_84 (by decide) (by decide) rfl ?_
          refine s_iinc (1 : Int32) [(4, .int (x2 + (1 : Int32))), (3, .int (x3 + (h25.I a21 0))), (2, .int (x4 + x27)), (6, .int r24), (5, .ref a21), (0, .ref y5), (1, va_rf y6)] dX0_halves_85 4 rfl (by decide) (by decide) (by decide) rfl ?_
          refine s_goto 7 dX0_halves_88 (by decide) ?_
          refine s_sub [0, 1, 2, 5, 6] rfl ?_
          exact ih (x2 + (1 : Int32)) (x3 + (h25.I a21 0)) (x4 + x27) h25
      refine s_if_ge 65 dX0_halves_54 (by decide) (fun c32 => ?_) (fun c32 => ?_)
      · refine s_iconst (0 : Int32) dX0_halves_65 (by decide) ?_
        refine s_sub [0, 1, 2, 3, 5, 6] rfl ?_
        exact hj31 (0 : Int32)
      · refine s_aload dX0_halves_57 1 rfl (by decide) ?_
        refine s_chk (fun hk33 => ?_)
        refine s_getV (j := 0) dX0_halves_59 hk33 (by decide) q585 ?_
        refine s_goto 66 dX0_halves_62 (by decide) ?_
        refine s_sub [0, 1, 2, 3, 5, 6] rfl ?_
        exact hj31 (h25.I a21 0)
theorem kX0_halves (G : Gl) (n : Nat) (K : Nat → Nat) (hK : K = G.ad) (p0 : Nat) (p1 : Option Nat) (h : AH) : OkM G yX0_halves cX0_halves 7 (some .boolean) 4 cvI [.ref p0, va_rf p1] h (F_X0_halves n K p0 p1 h) := by
  refine ok_of_sim [(0, .ref p0), (1, va_rf p1)] (by decide +kernel) (fun r => ⟨_, rfl⟩) (by simp [uns, lv_args, lg_sl, catI, catL, catA, va_rfc]) (by simp [uns, lv_args, lg_sl, catI, catL, catA, va_rfc]) (by simp [uns, lv_args, lg_sl, catI, catL, catA, va_rfc]) ?_
  unfold F_X0_halves
  refine s_iconst (0 : Int32) dX0_halves_0 (by decide) ?_
  refine s_istore_n [(2, .int (0 : Int32)), (0, .ref p0), (1, va_rf p1)] dX0_halves_1 (by decide) (by decide) rfl ?_
  refine s_iconst (0 : Int32) dX0_halves_2 (by decide) ?_
  refine s_istore_n [(3, .int (0 : Int32)), (2, .int (0 : Int32)), (0, .ref p0), (1, va_rf p1)] dX0_halves_3 (by decide) (by decide) rfl ?_
  refine s_iconst (0 : Int32) dX0_halves_4 (by decide) ?_
  refine s_istore [(4, .int (0 : Int32)), (3, .int (0 : Int32)), (2, .int (0 : Int32)), (0, .ref p0), (1, va_rf p1)] dX0_halves_5 (by decide) (by decide) rfl ?_
  exact sX0_halves_L7 G n K hK p0 p1 n (0 : Int32) (0 : Int32) (0 : Int32) h
theorem hyJ2_rangeCheckForAdd : yJ2_rangeCheckForAdd.cls ≠ "java/lang/invoke/MethodHandle" ∧ yJ2_rangeCheckForAdd.cls ≠ "java/lang/invoke/VarHandle" ∧ (parseMethodDescriptor yJ2_rangeCheckForAdd.desc).map (fun d => d.parameters.length) = some 1 := by decide +kernel
theorem kJ2_rangeCheckForAdd (G : Gl) (n : Nat) (K : Nat → Nat) (hK : K = G.ad) (p0 : Nat) (p1 : Int32) (h : AH) : OkM G yJ2_rangeCheckForAdd cJ2_rangeCheckForAdd 2 none 1 cvV [.ref p0, .int p1] h (F_J2_rangeCheckForAdd n K p0 p1 h) := by
  refine ok_of_sim [(0, .ref p0), (1, .int p1)] (by decide +kernel) (fun r => ⟨_, rfl⟩) (by simp [uns, lv_args, lg_sl, catI, catL, catA, va_rfc]) (by simp [uns, lv_args, lg_sl, catI, catL, catA, va_rfc]) (by simp [uns, lv_args, lg_sl, catI, catL, catA, va_rfc]) ?_
  unfold F_J2_rangeCheckForAdd
  refine s_iload_n dJ2_rangeCheckForAdd_0 1 rfl ?_
  refine s_aload_n dJ2_rangeCheckForAdd_1 0 rfl ?_
  refine s_chk (fun hk1 => ?_)
  refine s_get (j := 2) 2 (.int (h.I p0 2)) dJ2_rangeCheckForAdd_2 hk1 rfl (by decide) q164 (Or.inl rfl) rfl ?_
  refine s_jn (fun j2 => Sim G yJ2_rangeCheckForAdd.cls yJ2_rangeCheckForAdd.name cJ2_rangeCheckForAdd 2 none 1 cvV 12 [(0, .ref p0), (1, .int p1)] [] h (j2 )) ?_ (fun j2 hj3 => ?_)
  · skip
    exact s_none
  refine s_icmp_gt 12 dJ2_rangeCheckForAdd_5 (by decide) (fun c4 => ?_) (fun c4 => ?_)
  · exact hj3
  · refine s_iload_n dJ2_rangeCheckForAdd_8 1 rfl ?_
    refine s_if_ge 25 dJ2_rangeCheckForAdd_9 (by decide) (fun c5 => ?_) (fun c5 => ?_)
    · exact s_vret dJ2_rangeCheckForAdd_25 rfl rfl
    · exact hj3
theorem hyJ2_add_3 : yJ2_add_3.cls ≠ "java/lang/invoke/MethodHandle" ∧ yJ2_add_3.cls ≠ "java/lang/invoke/VarHandle" ∧ (parseMethodDescriptor yJ2_add_3.desc).map (fun d => d.parameters.length) = some 2 := by decide +kernel
theorem kJ2_add_3 (G : Gl) (n : Nat) (K : Nat → Nat) (hK : K = G.ad) (p0 : Nat) (p1 : Int32) (p2 : Option Nat) (h : AH) : OkM G yJ2_add_3 cJ2_add_3 5 none 5 cvV [.ref p0, .int p1, va_rf p2] h (F_J2_add_3 n K p0 p1 p2 h) := by
  refine ok_of_sim [(0, .ref p0), (1, .int p1), (2, va_rf p2)] (by decide +kernel) (fun r => ⟨_, rfl⟩) (by simp [uns, lv_args, lg_sl, catI, catL, catA, va_rfc]) (by simp [uns, lv_args, lg_sl, catI, catL, catA, va_rfc]) (by simp [uns, lv_args, lg_sl, catI, catL, catA, va_rfc]) ?_
  unfold F_J2_add_3
  refine s_aload_n dJ2_add_3_0 0 rfl ?_
  refine s_iload_n dJ2_add_3_1 1 rfl ?_
  refine s_chk (fun hk3 => ?_)
  refine s_callV_V 2 (kJ2_rangeCheckForAdd G n K hK p0 p1 h) (by decide) (by decide) dJ2_add_3_2 hk3 rfl rfl q934 q936 qs25 q107 q937 hyJ2_rangeCheckForAdd rfl rfl (Nat.le_of_ble_eq_true rfl) (fun r1 h2 => ?_)
  refine s_aload_n dJ2_add_3_5 0 rfl ?_
  refine s_dup dJ2_add_3_6 rfl ?_
  refine s_chk (fun hk4 => ?_)
  refine s_get (j := 0) 2 (.int (h2.I p0 0)) dJ2_add_3_7 hk4 rfl (by decide) q166 (Or.inr q167) rfl ?_
  refine s_iconst (1 : Int32) dJ2_add_3_10 (by decide) ?_
  refine s_iadd dJ2_add_3_11 ?_
  refine s_put (j := 0) 2 (v := .int ((h2.I p0 0) + (1 : Int32))) dJ2_add_3_12 hk4 rfl (by decide) q166 (Or.inr q167) rfl rfl rfl (Upd.i (fun _ => rfl)) ?_
  refine s_hl (fun h5 e6 => ?_)
  refine s_aload_n dJ2_add_3_15 0 rfl ?_
  refine s_get (j := 2) 2 (.int (h5.I p0 2)) dJ2_add_3_16 (show h5.kind p0 = 3 by rw [e6]; exact hk4) rfl (by decide) q164 (Or.inl rfl) rfl ?_
  refine s_dup dJ2_add_3_19 rfl ?_
  refine s_istore_n [(3, .int (h5.I p0 2)), (0, .ref p0), (1, .int p1), (2, va_rf p2)] dJ2_add_3_20 (by decide) (by decide) rfl ?_
  refine s_aload_n dJ2_add_3_21 1 rfl ?_
  refine s_get (j := 1) 2 (va_rf (h5.R p0 1)) dJ2_add_3_22 (show h5.kind p0 = 3 by rw [e6]; exact hk4) rfl (by decide) q163 (Or.inl rfl) rfl ?_
  refine s_dup dJ2_add_3_25 (va_rfc _) ?_
  refine s_ostore [(4, va_rf (h5.R p0 1)), (3, .int (h5.I p0 2)), (0, .ref p0), (1, .int p1), (2, va_rf p2)] dJ2_add_3_26 (by decide) (by decide) rfl ?_
  refine s_ob (r := h5.R p0 1) (fun z => [(4, z), (3, .int (h5.I p0 2)), (0, .ref p0), (1, .int p1), (2, va_rf p2)]) (fun z => [z, .int (h5.I p0 2)]) (fun a7 => ?_)
  refine s_chk (fun hk8 => ?_)
  refine s_alenO dJ2_add_3_28 hk8 ?_
  refine s_jn (fun j11 => ∀ (x9 : Option Nat) (h10 : AH), Sim G yJ2_add_3.cls yJ2_add_3.name cJ2_add_3 5 none 5 cvV 38 [(3, .int (h5.I p0 2)), (0, .ref p0), (1, .int p1), (2, va_rf p2), (4, va_rf x9)] [] h10 (j11 x9 h10)) ?_ (fun j11 hj26 => ?_)
  · intro x9 h10
    refine s_oload dJ2_add_3_38 4 rfl (by decide) ?_
    refine s_iload_n dJ2_add_3_40 2 rfl ?_
    refine s_oload dJ2_add_3_41 4 rfl (by decide) ?_
    refine s_iload_n dJ2_add_3_43 2 rfl ?_
    refine s_iconst (1 : Int32) dJ2_add_3_44 (by decide) ?_
    refine s_iadd dJ2_add_3_45 ?_
    refine s_iload_n dJ2_add_3_46 0 rfl ?_
    refine s_iload_n dJ2_add_3_47 2 rfl ?_
    refine s_isub dJ2_add_3_48 ?_
    refine s_ob (r := x9) (fun z => [(3, .int (h5.I p0 2)), (0, .ref p0), (1, .int p1), (2, va_rf p2), (4, z)]) (fun z => [.int ((h5.I p0 2) - p1), .int (p1 + (1 : Int32)), z, .int p1, z]) (fun a12 => ?_)
    refine s_chk (fun hk13 => ?_)
    refine s_chk (fun hc14 => ?_)
    refine s_chk (fun he15 => ?_)
    refine s_acopy dJ2_add_3_49 (by decide) q938 q695 q694 q127 hk13 hk13 hc14 he15 (Nat.le_of_ble_eq_true rfl) ?_
    refine s_hl (fun h16 e17 => ?_)
    refine s_aload dJ2_add_3_52 4 rfl (by decide) ?_
    refine s_iload_n dJ2_add_3_54 2 rfl ?_
    refine s_oload_n dJ2_add_3_55 3 rfl ?_
    refine s_chk (fun hi18 => ?_)
    refine s_ob (r := p2) (fun z => [(3, .int (h5.I p0 2)), (0, .ref p0), (1, .int p1), (2, z), (4, .ref a12)]) (fun z => [z, .int p1, .ref a12]) (fun a19 => ?_)
    refine s_chk (fun hs20 => ?_)
    refine s_aast dJ2_add_3_56 (show h16.kind a12 = 34 by rw [e17]; exact hk13) hi18 hs20 ?_
    refine s_hl (fun h21 e22 => ?_)
    refine s_aload_n dJ2_add_3_57 1 rfl ?_
    refine s_iload_n dJ2_add_3_58 0 rfl ?_
    refine s_iconst (1 : Int32) dJ2_add_3_59 (by decide) ?_
    refine s_iadd dJ2_add_3_60 ?_
    refine s_chk (fun hk23 => ?_)
    refine s_put (j := 2) 2 (v := .int ((h5.I p0 2) + (1 : Int32))) dJ2_add_3_61 hk23 rfl (by decide) q164 (Or.inl rfl) rfl rfl rfl (Upd.i (fun _ => rfl)) ?_
    refine s_hl (fun h24 e25 => ?_)
    exact s_vret dJ2_add_3_64 rfl rfl
  refine s_icmp_ne 38 dJ2_add_3_29 (by decide) (fun c27 => ?_) (fun c27 => ?_)
  · refine s_sub [1, 2, 3, 4, 0] rfl ?_
    exact hj26 (some a7) h5
  · refine s_aload_n dJ2_add_3_32 2 rfl ?_
    refine s_callV_R 2 (kJ2_grow G n K hK p0 h5) (by decide) (by decide) dJ2_add_3_33 (show h5.kind p0 = 3 by rw [e6]; exact hk4) rfl rfl q649 q651 qs12 q107 q652 hyJ2_grow rfl rfl (Nat.le_of_ble_eq_true rfl) (fun r28 h29 => ?_)
    refine s_ostore [(4, va_rf r28), (3, .int (h5.I p0 2)), (0, .ref p0), (1, .int p1), (2, va_rf p2)] dJ2_add_3_36 (by decide) (by decide) rfl ?_
    refine s_sub [1, 2, 3, 4, 0] rfl ?_
    exact hj26 r28 h29
theorem hyX0_findLines : yX0_findLines.cls ≠ "java/lang/invoke/MethodHandle" ∧ yX0_findLines.cls ≠ "java/lang/invoke/VarHandle" ∧ (parseMethodDescriptor yX0_findLines.desc).map (fun d => d.parameters.length) = some 0 := by decide +kernel
theorem sX0_findLines_L122 (G : Gl) (n : Nat) (K : Nat → Nat) (hK : K = G.ad) (y47 : Nat) (y48 : Int32) (y49 : Int32) (y50 : Nat) : ∀ (f : Nat) (x46 : Int32) (h : AH) (k : Int32 → AH → Option (Unit × AH)) (hk : ∀ (x46 : Int32) (h : AH), Sim G yX0_findLines.cls yX0_findLines.name cX0_findLines 7 none 6 cvV 160 [(6, .int x46), (5, .ref y47), (2, .int y48), (1, .int y49), (0, .ref y50)] [] h (k x46 h)), Sim G yX0_findLines.cls yX0_findLines.name cX0_findLines 7 none 6 cvV 122 [(6, .int x46), (5, .ref y47), (2, .int y48), (1, .int y49), (0, .ref y50)] [] h (F_X0_findLines_L122 n K y47 y48 y49 y50 f x46 h k) := by
  intro f
  induction f with
  | zero =>
    intro x46 h k hk
    exact s_none
  | succ f ih =>
    intro x46 h k hk
    unfold F_X0_findLines_L122
    refine s_iload dX0_findLines_122 0 rfl (by decide) ?_
    refine s_aload_n dX0_findLines_124 4 rfl ?_
    refine s_chk (fun hk51 => ?_)
    refine s_get (j := 8) 0 (va_rf (h.R y50 8)) dX0_findLines_125 hk51 rfl (by decide) q241 (Or.inl rfl) rfl ?_
    refine s_ob (r := h.R y50 8) (fun z => [(6, .int x46), (5, .ref y47), (2, .int y48), (1, .int y49), (0, .ref y50)]) (fun z => [z, .int x46]) (fun a52 => ?_)
    refine s_chk (fun hk55 => ?_)
    refine s_callV_I 2 (kJ2_size G n K hK a52 h) (by decide) (by decide) dX0_findLines_128 hk55 rfl rfl q732 q552 q553 q107 q554 hyJ2_size rfl rfl (Nat.le_of_ble_eq_true rfl) (fun r53 h54 => ?_)
    refine s_icmp_ge 160 dX0_findLines_131 (by decide) (fun c56 => ?_) (fun c56 => ?_)
    · exact hk x46 h54
    · refine s_aload_n dX0_findLines_134 4 rfl ?_
      refine s_chk (fun hk57 => ?_)
      refine s_get (j := 8) 0 (va_rf (h54.R y50 8)) dX0_findLines_135 hk57 rfl (by decide) q241 (Or.inl rfl) rfl ?_
      refine s_iload dX0_findLines_138 0 rfl (by decide) ?_
      refine s_ob (r := h54.R y50 8) (fun z => [(6, .int x46), (5, .ref y47), (2, .int y48), (1, .int y49), (0, .ref y50)]) (fun z => [.int x46, z]) (fun a58 => ?_)
      refine s_chk (fun hk61 => ?_)
      refine s_callV_R 2 (kJ2_get G n K hK a58 x46 h54) (by decide) (by decide) dX0_findLines_140 hk61 rfl rfl q733 q734 q735 q107 q736 hyJ2_get rfl rfl (Nat.le_of_ble_eq_true rfl) (fun r59 h60 => ?_)
      refine s_ob (r := r59) (fun z => [(6, .int x46), (5, .ref y47), (2, .int y48), (1, .int y49), (0, .ref y50)]) (fun z => [z]) (fun a62 => ?_)
      refine s_chk (fun hk63 => ?_)
      refine s_cast 11 dX0_findLines_143 hk63 rfl q883 ?_
      refine s_aload dX0_findLines_146 1 rfl (by decide) ?_
      refine s_callV_I 11 (kX11_isAhead G n K hK a62 (some y47) h60) (by decide) (by decide) dX0_findLines_148 hk63 rfl rfl q911 q912 q913 q131 q914 hyX11_isAhead rfl rfl (Nat.le_of_ble_eq_true rfl) (fun r64 h65 => ?_)
      refine s_if_eq 160 dX0_findLines_151 (by decide) (fun c66 => ?_) (fun c66 => ?_)
      · exact hk x46 h65
      · refine s_iinc (1 : Int32) [(6, .int (x46 + (1 : Int32))), (5, .ref y47), (2, .int y48), (1, .int y49), (0, .ref y50)] dX0_findLines_154 0 rfl (by decide) (by decide) (by decide) rfl ?_
        refine s_goto 122 dX0_findLines_157 (by decide) ?_
        exact ih (x46 + (1 : Int32)) h65 k hk
theorem sX0_findLines_L35 (G : Gl) (n : Nat) (K : Nat → Nat) (hK : K = G.ad) (y20 : Int32) (y21 : Nat) : ∀ (f : Nat) (x19 : Int32) (h : AH) (k : AH → Option (Unit × AH)) (hk : ∀ (h : AH), Sim G yX0_findLines.cls yX0_findLines.name cX0_findLines 7 none 6 cvV 221 [(1, .int y20), (0, .ref y21)] [] h (k h)), Sim G yX0_findLines.cls yX0_findLines.name cX0_findLines 7 none 6 cvV 35 [(2, .int x19), (1, .int y20), (0, .ref y21)] [] h (F_X0_findLines_L35 n K y20 y21 f x19 h k) := by
  intro f
  induction f with
  | zero =>
    intro x19 h k hk
    exact s_none
  | succ f ih =>
    intro x19 h k hk
    unfold F_X0_findLines_L35
    refine s_iload_n dX0_findLines_35 0 rfl ?_
    refine s_iload_n dX0_findLines_36 1 rfl ?_
    refine s_icmp_ge 221 dX0_findLines_37 (by decide) (fun c22 => ?_) (fun c22 => ?_)
    · refine s_sub [1, 2] rfl ?_
      exact hk h
    · refine s_aload_n dX0_findLines_40 2 rfl ?_
      refine s_chk (fun hk23 => ?_)
      refine s_get (j := 2) 0 (va_rf (h.R y21 2)) dX0_findLines_41 hk23 rfl (by decide) q235 (Or.inl rfl) rfl ?_
      refine s_iload_n dX0_findLines_44 1 rfl ?_
      refine s_ob (r := h.R y21 2) (fun z => [(2, .int x19), (1, .int y20), (0, .ref y21)]) (fun z => [.int y20, z]) (fun a24 => ?_)
      refine s_chk (fun hk27 => ?_)
      refine s_callV_R 2 (kJ2_get G n K hK a24 y20 h) (by decide) (by decide) dX0_findLines_45 hk27 rfl rfl q733 q734 q735 q107 q736 hyJ2_get rfl rfl (Nat.le_of_ble_eq_true rfl) (fun r25 h26 => ?_)
      refine s_ob (r := r25) (fun z => [(2, .int x19), (1, .int y20), (0, .ref y21)]) (fun z => [z]) (fun a28 => ?_)
      refine s_chk (fun hk29 => ?_)
      refine s_castV dX0_findLines_48 hk29 q745 ?_
      refine s_astore_n [(3, .ref a28), (2, .int x19), (1, .int y20), (0, .ref y21)] dX0_findLines_51 (by decide) (by decide) rfl ?_
      refine s_aload_n dX0_findLines_52 3 rfl ?_
      refine s_chk (fun hk30 => ?_)
      refine s_get (j := 2) 0 (va_rf (h26.R y21 2)) dX0_findLines_53 hk30 rfl (by decide) q235 (Or.inl rfl) rfl ?_
      refine s_iload_n dX0_findLines_56 1 rfl ?_
      refine s_ob (r := h26.R y21 2) (fun z => [(3, .ref a28), (2, .int x19), (1, .int y20), (0, .ref y21)]) (fun z => [.int x19, z]) (fun a31 => ?_)
      refine s_chk (fun hk34 => ?_)
      refine s_callV_R 2 (kJ2_get G n K hK a31 x19 h26) (by decide) (by decide) dX0_findLines_57 hk34 rfl rfl q733 q734 q735 q107 q736 hyJ2_get rfl rfl (Nat.le_of_ble_eq_true rfl) (fun r32 h33 => ?_)
      refine s_ob (r := r32) (fun z => [(3, .ref a28), (2, .int x19), (1, .int y20), (0, .ref y21)]) (fun z => [z]) (fun a35 => ?_)
      refine s_chk (fun hk36 => ?_)
      refine s_castV dX0_findLines_60 hk36 q745 ?_
      refine s_astore [(4, .ref a35), (3, .ref a28), (2, .int x19), (1, .int y20), (0, .ref y21)] dX0_findLines_63 (by decide) (by decide) rfl ?_
      refine s_aload_n dX0_findLines_65 1 rfl ?_
      refine s_chk (fun hk37 => ?_)
      refine s_getV (j := 3) dX0_findLines_66 hk37 (by decide) q591 ?_
      refine s_aload dX0_findLines_69 0 rfl (by decide) ?_
      refine s_getV (j := 3) dX0_findLines_71 hk36 (by decide) q591 ?_
      refine s_jn (fun j38 => Sim G yX0_findLines.cls yX0_findLines.name cX0_findLines 7 none 6 cvV 92 [(4, .ref a35), (3, .ref a28), (2, .int x19), (1, .int y20), (0, .ref y21)] [] h33 (j38 )) ?_ (fun j38 hj97 => ?_)
      · skip
        refine s_new 11 dX0_findLines_92 rfl q883 q884 q131 ?_
        refine s_hl (fun h39 e40 => ?_)
        refine s_dup dX0_findLines_95 rfl ?_
        refine s_aload_n dX0_findLines_96 1 rfl ?_
        refine s_chk (fun hk41 => ?_)
        refine s_getV (j := 3) dX0_findLines_97 hk41 (by decide) q591 ?_
        refine s_aload_n dX0_findLines_100 1 rfl ?_
        refine s_getV (j := 4) dX0_findLines_101 hk41 (by decide) q593 ?_
        refine s_aload dX0_findLines_104 0 rfl (by decide) ?_
        refine s_chk (fun hk42 => ?_)
        refine s_getV (j := 3) dX0_findLines_106 hk42 (by decide) q591 ?_
        refine s_aload dX0_findLines_109 0 rfl (by decide) ?_
        refine s_getV (j := 4) dX0_findLines_111 hk42 (by decide) q593 ?_
        refine s_callI_V (kX11_init G n K hK h33.n (h39.I a28 3) (h39.I a28 4) (h39.I a35 3) (h39.I a35 4) h39) (by decide) (by decide) dX0_findLines_114 q885 q886 q131 q887 rfl hyX11_init rfl rfl (Nat.le_of_ble_eq_true rfl) (fun r43 h44 => ?_)
        refine s_astore [(5, .ref h33.n), (4, .ref a35), (3, .ref a28), (2, .int x19), (1, .int y20), (0, .ref y21)] dX0_findLines_117 (by decide) (by decide) rfl ?_
        refine s_iconst (0 : Int32) dX0_findLines_119 (by decide) ?_
        refine s_istore [(6, .int (0 : Int32)), (5, .ref h33.n), (4, .ref a35), (3, .ref a28), (2, .int x19), (1, .int y20), (0, .ref y21)] dX0_findLines_120 (by decide) (by decide) rfl ?_
        refine s_sub [0, 1, 4, 5, 6] rfl ?_
        refine sX0_findLines_L122 G n K hK h33.n x19 y20 y21 n (0 : Int32) h44 _ ?_
        intro x67 h68
        refine s_iload dX0_findLines_160 0 rfl (by decide) ?_
        refine s_aload_n dX0_findLines_162 4 rfl ?_
        refine s_chk (fun hk69 => ?_)
        refine s_get (j := 8) 0 (va_rf (h68.R y21 8)) dX0_findLines_163 hk69 rfl (by decide) q241 (Or.inl rfl) rfl ?_
        refine s_ob (r := h68.R y21 8) (fun z => [(6, .int x67), (5, .ref h33.n), (2, .int x19), (1, .int y20), (0, .ref y21)]) (fun z => [z, .int x67]) (fun a70 => ?_)
        refine s_chk (fun hk73 => ?_)
        refine s_callV_I 2 (kJ2_size G n K hK a70 h68) (by decide) (by decide) dX0_findLines_166 hk73 rfl rfl q732 q552 q553 q107 q554 hyJ2_size rfl rfl (Nat.le_of_ble_eq_true rfl) (fun r71 h72 => ?_)
        refine s_jn (fun j75 => ∀ (h74 : AH), Sim G yX0_findLines.cls yX0_findLines.name cX0_findLines 7 none 6 cvV 192 [(6, .int x67), (5, .ref h33.n), (2, .int x19), (1, .int y20), (0, .ref y21)] [] h74 (j75 h74)) ?_ (fun j75 hj85 => ?_)
        · intro h74
          refine s_aload_n dX0_findLines_192 4 rfl ?_
          refine s_aload dX0_findLines_193 1 rfl (by decide) ?_
          refine s_chk (fun hk78 => ?_)
          refine s_callV_I 0 (kX0_halves G n K hK y21 (some h33.n) h74) (by decide) (by decide) dX0_findLines_195 hk78 rfl rfl q919 q921 qs24 q103 q922 hyX0_halves rfl rfl (Nat.le_of_ble_eq_true rfl) (fun r76 h77 => ?_)
          refine s_if_ne 204 dX0_findLines_198 (by decide) (fun c79 => ?_) (fun c79 => ?_)
          · refine s_aload_n dX0_findLines_204 4 rfl ?_
            refine s_chk (fun hk80 => ?_)
            refine s_get (j := 8) 0 (va_rf (h77.R y21 8)) dX0_findLines_205 hk80 rfl (by decide) q241 (Or.inl rfl) rfl ?_
            refine s_iload dX0_findLines_208 0 rfl (by decide) ?_
            refine s_aload dX0_findLines_210 1 rfl (by decide) ?_
            refine s_ob (r := h77.R y21 8) (fun z => [(6, .int x67), (5, .ref h33.n), (2, .int x19), (1, .int y20), (0, .ref y21)]) (fun z => [.ref h33.n, .int x67, z]) (fun a81 => ?_)
            refine s_chk (fun hk84 => ?_)
            refine s_callV_V 2 (kJ2_add_3 G n K hK a81 x67 (some h33.n) h77) (by decide) (by decide) dX0_findLines_212 hk84 rfl rfl q930 q931 q932 q107 q933 hyJ2_add_3 rfl rfl (Nat.le_of_ble_eq_true rfl) (fun r82 h83 => ?_)
            refine s_iinc (1 : Int32) [(2, .int (x19 + (1 : Int32))), (6, .int x67), (5, .ref h33.n), (1, .int y20), (0, .ref y21)] dX0_findLines_215 2 rfl (by decide) (by decide) (by decide) rfl ?_
            refine s_goto 35 dX0_findLines_218 (by decide) ?_
            refine s_sub [0, 3, 4] rfl ?_
            exact ih (x19 + (1 : Int32)) h83 k hk
          · refine s_goto 215 dX0_findLines_201 (by decide) ?_
            refine s_iinc (1 : Int32) [(2, .int (x19 + (1 : Int32))), (6, .int x67), (5, .ref h33.n), (1, .int y20), (0, .ref y21)] dX0_findLines_215 2 rfl (by decide) (by decide) (by decide) rfl ?_
            refine s_goto 35 dX0_findLines_218 (by decide) ?_
            refine s_sub [0, 3, 4] rfl ?_
            exact ih (x19 + (1 : Int32)) h77 k hk
        refine s_icmp_ge 192 dX0_findLines_169 (by decide) (fun c86 => ?_) (fun c86 => ?_)
        · exact hj85 h72
        · refine s_aload_n dX0_findLines_172 4 rfl ?_
          refine s_chk (fun hk87 => ?_)
          refine s_get (j := 8) 0 (va_rf (h72.R y21 8)) dX0_findLines_173 hk87 rfl (by decide) q241 (Or.inl rfl) rfl ?_
          refine s_iload dX0_findLines_176 0 rfl (by decide) ?_
          refine s_ob (r := h72.R y21 8) (fun z => [(6, .int x67), (5, .ref h33.n), (2, .int x19), (1, .int y20), (0, .ref y21)]) (fun z => [.int x67, z]) (fun a88 => ?_)
          refine s_chk (fun hk91 => ?_)
          refine s_callV_R 2 (kJ2_get G n K hK a88 x67 h72) (by decide) (by decide) dX0_findLines_178 hk91 rfl rfl q733 q734 q735 q107 q736 hyJ2_get rfl rfl (Nat.le_of_ble_eq_true rfl) (fun r89 h90 => ?_)
          refine s_ob (r := r89) (fun z => [(6, .int x67), (5, .ref h33.n), (2, .int x19), (1, .int y20), (0, .ref y21)]) (fun z => [z]) (fun a92 => ?_)
          refine s_chk (fun hk93 => ?_)
          refine s_cast 11 dX0_findLines_181 hk93 rfl q883 ?_
          refine s_aload dX0_findLines_184 1 rfl (by decide) ?_
          refine s_callV_I 11 (kX11_isSame G n K hK a92 (some h33.n) h90) (by decide) (by decide) dX0_findLines_186 hk93 rfl rfl q915 q916 q917 q131 q918 hyX11_isSame rfl rfl (Nat.le_of_ble_eq_true rfl) (fun r94 h95 => ?_)
          refine s_if_ne 215 dX0_findLines_189 (by decide) (fun c96 => ?_) (fun c96 => ?_)
          · refine s_iinc (1 : Int32) [(2, .int (x19 + (1 : Int32))), (6, .int x67), (5, .ref h33.n), (1, .int y20), (0, .ref y21)] dX0_findLines_215 2 rfl (by decide) (by decide) (by decide) rfl ?_
            refine s_goto 35 dX0_findLines_218 (by decide) ?_
            refine s_sub [0, 3, 4] rfl ?_
            exact ih (x19 + (1 : Int32)) h95 k hk
          · exact hj85 h95
      refine s_icmp_ne 92 dX0_findLines_74 (by decide) (fun c98 => ?_) (fun c98 => ?_)
      · exact hj97
      · refine s_aload_n dX0_findLines_77 1 rfl ?_
        refine s_getV (j := 4) dX0_findLines_78 hk37 (by decide) q593 ?_
        refine s_aload dX0_findLines_81 0 rfl (by decide) ?_
        refine s_getV (j := 4) dX0_findLines_83 hk36 (by decide) q593 ?_
        refine s_icmp_ne 92 dX0_findLines_86 (by decide) (fun c99 => ?_) (fun c99 => ?_)
        · exact hj97
        · refine s_goto 215 dX0_findLines_89 (by decide) ?_
          refine s_iinc (1 : Int32) [(2, .int (x19 + (1 : Int32))), (4, .ref a35), (3, .ref a28), (1, .int y20), (0, .ref y21)] dX0_findLines_215 2 rfl (by decide) (by decide) (by decide) rfl ?_
          refine s_goto 35 dX0_findLines_218 (by decide) ?_
          refine s_sub [0, 3, 4] rfl ?_
          exact ih (x19 + (1 : Int32)) h33 k hk
theorem sX0_findLines_L22 (G : Gl) (n : Nat) (K : Nat → Nat) (hK : K = G.ad) (y11 : Nat) : ∀ (f : Nat) (x10 : Int32) (h : AH), Sim G yX0_findLines.cls yX0_findLines.name cX0_findLines 7 none 6 cvV 22 [(1, .int x10), (0, .ref y11)] [] h (F_X0_findLines_L22 n K y11 f x10 h) := by
  intro f
  induction f with
  | zero =>
    intro x10 h
    exact s_none
  | succ f ih =>
    intro x10 h
    unfold F_X0_findLines_L22
    refine s_iload_n dX0_findLines_22 0 rfl ?_
    refine s_aload_n dX0_findLines_23 1 rfl ?_
    refine s_chk (fun hk12 => ?_)
    refine s_get (j := 2) 0 (va_rf (h.R y11 2)) dX0_findLines_24 hk12 rfl (by decide) q235 (Or.inl rfl) rfl ?_
    refine s_ob (r := h.R y11 2) (fun z => [(1, .int x10), (0, .ref y11)]) (fun z => [z, .int x10]) (fun a13 => ?_)
    refine s_chk (fun hk16 => ?_)
    refine s_callV_I 2 (kJ2_size G n K hK a13 h) (by decide) (by decide) dX0_findLines_27 hk16 rfl rfl q732 q552 q553 q107 q554 hyJ2_size rfl rfl (Nat.le_of_ble_eq_true rfl) (fun r14 h15 => ?_)
    refine s_icmp_ge 227 dX0_findLines_30 (by decide) (fun c17 => ?_) (fun c17 => ?_)
    · exact s_vret dX0_findLines_227 rfl rfl
    · refine s_iconst (0 : Int32) dX0_findLines_33 (by decide) ?_
      refine s_istore_n [(2, .int (0 : Int32)), (1, .int x10), (0, .ref y11)] dX0_findLines_34 (by decide) (by decide) rfl ?_
      refine sX0_findLines_L35 G n K hK x10 y11 n (0 : Int32) h15 _ ?_
      intro h100
      refine s_iinc (1 : Int32) [(1, .int (x10 + (1 : Int32))), (0, .ref y11)] dX0_findLines_221 0 rfl (by decide) (by decide) (by decide) rfl ?_
      refine s_goto 22 dX0_findLines_224 (by decide) ?_
      exact ih (x10 + (1 : Int32)) h100
theorem kX0_findLines (G : Gl) (n : Nat) (K : Nat → Nat) (hK : K = G.ad) (p0 : Nat) (h : AH) : OkM G yX0_findLines cX0_findLines 7 none 6 cvV [.ref p0] h (F_X0_findLines n K p0 h) := by
  refine ok_of_sim [(0, .ref p0)] (by decide +kernel) (fun r => ⟨_, rfl⟩) (by simp [uns, lv_args, lg_sl, catI, catL, catA, va_rfc]) (by simp [uns, lv_args, lg_sl, catI, catL, catA, va_rfc]) (by simp [uns, lv_args, lg_sl, catI, catL, catA, va_rfc]) ?_
  unfold F_X0_findLines
  refine s_aload_n dX0_findLines_0 0 rfl ?_
  refine s_chk (fun hk1 => ?_)
  refine s_get (j := 11) 0 (.int (h.I p0 11)) dX0_findLines_1 hk1 rfl (by decide) q244 (Or.inl rfl) rfl ?_
  refine s_if_eq 8 dX0_findLines_4 (by decide) (fun c2 => ?_) (fun c2 => ?_)
  · refine s_aload_n dX0_findLines_8 0 rfl ?_
    refine s_iconst (1 : Int32) dX0_findLines_9 (by decide) ?_
    refine s_put (j := 11) 0 (v := .int (1 : Int32)) dX0_findLines_10 hk1 rfl (by decide) q244 (Or.inl rfl) rfl rfl rfl (Upd.i (fun _ => rfl)) ?_
    refine s_hl (fun h3 e4 => ?_)
    refine s_aload_n dX0_findLines_13 0 rfl ?_
    refine s_get (j := 8) 0 (va_rf (h3.R p0 8)) dX0_findLines_14 (show h3.kind p0 = 1 by rw [e4]; exact hk1) rfl (by decide) q241 (Or.inl rfl) rfl ?_
    refine s_ob (r := h3.R p0 8) (fun z => [(0, .ref p0)]) (fun z => [z]) (fun a5 => ?_)
    refine s_chk (fun hk8 => ?_)
    refine s_callV_V 2 (kJ2_clear G n K hK a5 h3) (by decide) (by decide) dX0_findLines_17 hk8 rfl rfl q731 q348 q349 q107 q350 hyJ2_clear rfl rfl (Nat.le_of_ble_eq_true rfl) (fun r6 h7 => ?_)
    refine s_iconst (0 : Int32) dX0_findLines_20 (by decide) ?_
    refine s_istore_n [(1, .int (0 : Int32)), (0, .ref p0)] dX0_findLines_21 (by decide) (by decide) rfl ?_
    exact sX0_findLines_L22 G n K hK p0 n (0 : Int32) h7
  · exact s_vret dX0_findLines_7 rfl rfl
