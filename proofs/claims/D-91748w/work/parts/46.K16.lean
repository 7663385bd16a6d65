set_option maxRecDepth 100000
theorem hyX3_between : yX3_between.cls ≠ "java/lang/invoke/MethodHandle" ∧ yX3_between.cls ≠ "java/lang/invoke/VarHandle" ∧ (parseMethodDescriptor yX3_between.desc).map (fun d => d.parameters.length) = some 2 := by decide +kernel
theorem sX3_between_L20 (G : Gl) (n : Nat) (K : Nat → Nat) (hK : K = G.ad) (y11 : Nat) (y12 : Int32) (y13 : Int32) : ∀ (f : Nat) (x10 : Int32) (h : AH), Sim G yX3_between.cls yX3_between.name cX3_between 6 (some .int) 5 cvI 20 [(3, .int x10), (0, .ref y11), (1, .int y12), (2, .int y13)] [] h (F_X3_between_L20 n K y11 y12 y13 f x10 h) := by
  intro f
  induction f with
  | zero =>
    intro x10 h
    exact s_none
  | succ f ih =>
    intro x10 h
    unfold F_X3_between_L20
    refine s_iload_n dX3_between_20 0 rfl ?_
    refine s_sipush (10000 : Int32) dX3_between_21 (by decide) ?_
    refine s_icmp_ge 101 dX3_between_24 (by decide) (fun c14 => ?_) (fun c14 => ?_)
    · refine s_iconst (-1 : Int32) dX3_between_101 (by decide) ?_
      exact s_iret dX3_between_102 rfl rfl
    · refine s_iload_n dX3_between_27 0 rfl ?_
      refine s_bipush (100 : Int32) dX3_between_28 (by decide) ?_
      refine s_idiv dX3_between_30 (by decide) ?_
      refine s_istore [(4, .int (x10 / (100 : Int32))), (3, .int x10), (0, .ref y11), (1, .int y12), (2, .int y13)] dX3_between_31 (by decide) (by decide) rfl ?_
      refine s_iload_n dX3_between_33 1 rfl ?_
      refine s_bipush (100 : Int32) dX3_between_34 (by decide) ?_
      refine s_irem dX3_between_36 (by decide) ?_
      refine s_istore [(5, .int (x10 - x10 / (100 : Int32) * (100 : Int32))), (4, .int (x10 / (100 : Int32))), (3, .int x10), (0, .ref y11), (1, .int y12), (2, .int y13)] dX3_between_37 (by decide) (by decide) rfl ?_
      refine s_aload_n dX3_between_39 3 rfl ?_
      refine s_iload dX3_between_40 1 rfl (by decide) ?_
      refine s_iload dX3_between_42 0 rfl (by decide) ?_
      refine s_aload_n dX3_between_44 3 rfl ?_
      refine s_chk (fun hk15 => ?_)
      refine s_get (j := 12) 4 (va_rf (h.R y11 12)) dX3_between_45 hk15 rfl (by decide) q1249 (Or.inl rfl) rfl ?_
      refine s_iconst (0 : Int32) dX3_between_48 (by decide) ?_
      refine s_ob (r := h.R y11 12) (fun z => [(5, .int (x10 - x10 / (100 : Int32) * (100 : Int32))), (4, .int (x10 / (100 : Int32))), (3, .int x10), (0, .ref y11), (1, .int y12), (2, .int y13)]) (fun z => [.int (0 : Int32), z, .int (x10 - x10 / (100 : Int32) * (100 : Int32)), .int (x10 / (100 : Int32)), .ref y11]) (fun a16 => ?_)
      refine s_chk (fun hk17 => ?_)
      refine s_chk (fun hi18 => ?_)
      refine s_aald dX3_between_49 hk17 rfl rfl rfl hi18 ?_
      refine s_iload_n dX3_between_50 4 rfl ?_
      refine s_ob (r := h.R a16 (ix (0 : Int32))) (fun z => [(5, .int (x10 - x10 / (100 : Int32) * (100 : Int32))), (4, .int (x10 / (100 : Int32))), (3, .int x10), (0, .ref y11), (1, .int y12), (2, .int y13)]) (fun z => [.int y12, z, .int (x10 - x10 / (100 : Int32) * (100 : Int32)), .int (x10 / (100 : Int32)), .ref y11]) (fun a19 => ?_)
      refine s_chk (fun hk20 => ?_)
      refine s_chk (fun hi21 => ?_)
      refine s_iald dX3_between_51 hk20 rfl hi21 ?_
      refine s_aload_n dX3_between_52 3 rfl ?_
      refine s_get (j := 13) 4 (va_rf (h.R y11 13)) dX3_between_53 hk15 rfl (by decide) q1250 (Or.inl rfl) rfl ?_
      refine s_iconst (0 : Int32) dX3_between_56 (by decide) ?_
      refine s_ob (r := h.R y11 13) (fun z => [(5, .int (x10 - x10 / (100 : Int32) * (100 : Int32))), (4, .int (x10 / (100 : Int32))), (3, .int x10), (0, .ref y11), (1, .int y12), (2, .int y13)]) (fun z => [.int (0 : Int32), z, .int (h.I a19 (ix y12)), .int (x10 - x10 / (100 : Int32) * (100 : Int32)), .int (x10 / (100 : Int32)), .ref y11]) (fun a22 => ?_)
      refine s_chk (fun hk23 => ?_)
      refine s_chk (fun hi24 => ?_)
      refine s_aald dX3_between_57 hk23 rfl rfl rfl hi24 ?_
      refine s_iload_n dX3_between_58 4 rfl ?_
      refine s_ob (r := h.R a22 (ix (0 : Int32))) (fun z => [(5, .int (x10 - x10 / (100 : Int32) * (100 : Int32))), (4, .int (x10 / (100 : Int32))), (3, .int x10), (0, .ref y11), (1, .int y12), (2, .int y13)]) (fun z => [.int y12, z, .int (h.I a19 (ix y12)), .int (x10 - x10 / (100 : Int32) * (100 : Int32)), .int (x10 / (100 : Int32)), .ref y11]) (fun a25 => ?_)
      refine s_chk (fun hk26 => ?_)
      refine s_chk (fun hi27 => ?_)
      refine s_iald dX3_between_59 hk26 rfl hi27 ?_
      refine s_callV_I 4 (kX3_beatsAt G n K hK y11 (x10 / (100 : Int32)) (x10 - x10 / (100 : Int32) * (100 : Int32)) (h.I a19 (ix y12)) (h.I a25 (ix y12)) h) (by decide) (by decide) dX3_between_60 hk15 rfl rfl q1540 q1542 qs71 q109 q1543 hyX3_beatsAt rfl rfl (Nat.le_of_ble_eq_true rfl) (fun r28 h29 => ?_)
      refine s_if_eq 95 dX3_between_63 (by decide) (fun c30 => ?_) (fun c30 => ?_)
      · refine s_iinc (1 : Int32) [(3, .int (x10 + (1 : Int32))), (5, .int (x10 - x10 / (100 : Int32) * (100 : Int32))), (4, .int (x10 / (100 : Int32))), (0, .ref y11), (1, .int y12), (2, .int y13)] dX3_between_95 2 rfl (by decide) (by decide) (by decide) rfl ?_
        refine s_goto 20 dX3_between_98 (by decide) ?_
        refine s_sub [0, 3, 4, 5] rfl ?_
        exact ih (x10 + (1 : Int32)) h29
      · refine s_aload_n dX3_between_66 3 rfl ?_
        refine s_aload_n dX3_between_67 3 rfl ?_
        refine s_chk (fun hk31 => ?_)
        refine s_get (j := 12) 4 (va_rf (h29.R y11 12)) dX3_between_68 hk31 rfl (by decide) q1249 (Or.inl rfl) rfl ?_
        refine s_iconst (0 : Int32) dX3_between_71 (by decide) ?_
        refine s_ob (r := h29.R y11 12) (fun z => [(5, .int (x10 - x10 / (100 : Int32) * (100 : Int32))), (4, .int (x10 / (100 : Int32))), (3, .int x10), (0, .ref y11), (1, .int y12), (2, .int y13)]) (fun z => [.int (0 : Int32), z, .ref y11]) (fun a32 => ?_)
        refine s_chk (fun hk33 => ?_)
        refine s_chk (fun hi34 => ?_)
        refine s_aald dX3_between_72 hk33 rfl rfl rfl hi34 ?_
        refine s_iload_n dX3_between_73 5 rfl ?_
        refine s_ob (r := h29.R a32 (ix (0 : Int32))) (fun z => [(5, .int (x10 - x10 / (100 : Int32) * (100 : Int32))), (4, .int (x10 / (100 : Int32))), (3, .int x10), (0, .ref y11), (1, .int y12), (2, .int y13)]) (fun z => [.int y13, z, .ref y11]) (fun a35 => ?_)
        refine s_chk (fun hk36 => ?_)
        refine s_chk (fun hi37 => ?_)
        refine s_iald dX3_between_74 hk36 rfl hi37 ?_
        refine s_aload_n dX3_between_75 3 rfl ?_
        refine s_get (j := 13) 4 (va_rf (h29.R y11 13)) dX3_between_76 hk31 rfl (by decide) q1250 (Or.inl rfl) rfl ?_
        refine s_iconst (0 : Int32) dX3_between_79 (by decide) ?_
        refine s_ob (r := h29.R y11 13) (fun z => [(5, .int (x10 - x10 / (100 : Int32) * (100 : Int32))), (4, .int (x10 / (100 : Int32))), (3, .int x10), (0, .ref y11), (1, .int y12), (2, .int y13)]) (fun z => [.int (0 : Int32), z, .int (h29.I a35 (ix y13)), .ref y11]) (fun a38 => ?_)
        refine s_chk (fun hk39 => ?_)
        refine s_chk (fun hi40 => ?_)
        refine s_aald dX3_between_80 hk39 rfl rfl rfl hi40 ?_
        refine s_iload_n dX3_between_81 5 rfl ?_
        refine s_ob (r := h29.R a38 (ix (0 : Int32))) (fun z => [(5, .int (x10 - x10 / (100 : Int32) * (100 : Int32))), (4, .int (x10 / (100 : Int32))), (3, .int x10), (0, .ref y11), (1, .int y12), (2, .int y13)]) (fun z => [.int y13, z, .int (h29.I a35 (ix y13)), .ref y11]) (fun a41 => ?_)
        refine s_chk (fun hk42 => ?_)
        refine s_chk (fun hi43 => ?_)
        refine s_iald dX3_between_82 hk42 rfl hi43 ?_
        refine s_iload dX3_between_83 1 rfl (by decide) ?_
        refine s_iload dX3_between_85 0 rfl (by decide) ?_
        refine s_callV_I 4 (kX3_beatsAt G n K hK y11 (h29.I a35 (ix y13)) (h29.I a41 (ix y13)) (x10 / (100 : Int32)) (x10 - x10 / (100 : Int32) * (100 : Int32)) h29) (by decide) (by decide) dX3_between_87 hk31 rfl rfl q1540 q1542 qs71 q109 q1543 hyX3_beatsAt rfl rfl (Nat.le_of_ble_eq_true rfl) (fun r44 h45 => ?_)
        refine s_if_eq 95 dX3_between_90 (by decide) (fun c46 => ?_) (fun c46 => ?_)
        · refine s_iinc (1 : Int32) [(3, .int (x10 + (1 : Int32))), (5, .int (x10 - x10 / (100 : Int32) * (100 : Int32))), (4, .int (x10 / (100 : Int32))), (0, .ref y11), (1, .int y12), (2, .int y13)] dX3_between_95 2 rfl (by decide) (by decide) (by decide) rfl ?_
          refine s_goto 20 dX3_between_98 (by decide) ?_
          refine s_sub [0, 3, 4, 5] rfl ?_
          exact ih (x10 + (1 : Int32)) h45
        · refine s_iload_n dX3_between_93 2 rfl ?_
          exact s_iret dX3_between_94 rfl rfl
theorem kX3_between (G : Gl) (n : Nat) (K : Nat → Nat) (hK : K = G.ad) (p0 : Nat) (p1 : Int32) (p2 : Int32) (h : AH) : OkM G yX3_between cX3_between 6 (some .int) 5 cvI [.ref p0, .int p1, .int p2] h (F_X3_between n K p0 p1 p2 h) := by
  refine ok_of_sim [(0, .ref p0), (1, .int p1), (2, .int p2)] (by decide +kernel) (fun r => ⟨_, rfl⟩) (by simp [uns, lv_args, lg_sl, catI, catL, catA, va_rfc]) (by simp [uns, lv_args, lg_sl, catI, catL, catA, va_rfc]) (by simp [uns, lv_args, lg_sl, catI, catL, catA, va_rfc]) ?_
  unfold F_X3_between
  refine s_aload_n dX3_between_0 0 rfl ?_
  refine s_iload_n dX3_between_1 1 rfl ?_
  refine s_chk (fun hk3 => ?_)
  refine s_callV_I 4 (kX3_isPlace G n K hK p0 p1 h) (by decide) (by decide) dX3_between_2 hk3 rfl rfl q1491 q1493 qs64 q109 q1494 hyX3_isPlace rfl rfl (Nat.le_of_ble_eq_true rfl) (fun r1 h2 => ?_)
  refine s_if_eq 16 dX3_between_5 (by decide) (fun c4 => ?_) (fun c4 => ?_)
  · refine s_iconst (-1 : Int32) dX3_between_16 (by decide) ?_
    exact s_iret dX3_between_17 rfl rfl
  · refine s_aload_n dX3_between_8 0 rfl ?_
    refine s_iload_n dX3_between_9 2 rfl ?_
    refine s_chk (fun hk7 => ?_)
    refine s_callV_I 4 (kX3_isPlace G n K hK p0 p2 h2) (by decide) (by decide) dX3_between_10 hk7 rfl rfl q1491 q1493 qs64 q109 q1494 hyX3_isPlace rfl rfl (Nat.le_of_ble_eq_true rfl) (fun r5 h6 => ?_)
    refine s_if_ne 18 dX3_between_13 (by decide) (fun c8 => ?_) (fun c8 => ?_)
    · refine s_iconst (0 : Int32) dX3_between_18 (by decide) ?_
      refine s_istore_n [(3, .int (0 : Int32)), (0, .ref p0), (1, .int p1), (2, .int p2)] dX3_between_19 (by decide) (by decide) rfl ?_
      exact sX3_between_L20 G n K hK p0 p1 p2 n (0 : Int32) h6
    · refine s_iconst (-1 : Int32) dX3_between_16 (by decide) ?_
      exact s_iret dX3_between_17 rfl rfl
theorem hyX3_chosen : yX3_chosen.cls ≠ "java/lang/invoke/MethodHandle" ∧ yX3_chosen.cls ≠ "java/lang/invoke/VarHandle" ∧ (parseMethodDescriptor yX3_chosen.desc).map (fun d => d.parameters.length) = some 0 := by decide +kernel
theorem kX3_chosen (G : Gl) (n : Nat) (K : Nat → Nat) (hK : K = G.ad) (p0 : Nat) (h : AH) : OkM G yX3_chosen cX3_chosen 1 (some .int) 2 cvI [.ref p0] h (F_X3_chosen n K p0 h) := by
  refine ok_of_sim [(0, .ref p0)] (by decide +kernel) (fun r => ⟨_, rfl⟩) (by simp [uns, lv_args, lg_sl, catI, catL, catA, va_rfc]) (by simp [uns, lv_args, lg_sl, catI, catL, catA, va_rfc]) (by simp [uns, lv_args, lg_sl, catI, catL, catA, va_rfc]) ?_
  unfold F_X3_chosen
  refine s_bipush (8 : Int32) dX3_chosen_0 (by decide) ?_
  refine s_aload_n dX3_chosen_2 0 rfl ?_
  refine s_chk (fun hk3 => ?_)
  refine s_callV_I 4 (kX3_places G n K hK p0 h) (by decide) (by decide) dX3_chosen_3 hk3 rfl rfl q1495 q1497 qs65 q109 q1498 hyX3_places rfl rfl (Nat.le_of_ble_eq_true rfl) (fun r1 h2 => ?_)
  refine s_mmin dX3_chosen_6 (by decide) q1470 q477 q116 q478 (Nat.le_of_ble_eq_true rfl) ?_
  exact s_iret dX3_chosen_9 rfl rfl
theorem hyX3_gain : yX3_gain.cls ≠ "java/lang/invoke/MethodHandle" ∧ yX3_gain.cls ≠ "java/lang/invoke/VarHandle" ∧ (parseMethodDescriptor yX3_gain.desc).map (fun d => d.parameters.length) = some 2 := by decide +kernel
theorem kX3_gain (G : Gl) (n : Nat) (K : Nat → Nat) (hK : K = G.ad) (p0 : Nat) (p1 : Int32) (p2 : Int32) (h : AH) : OkM G yX3_gain cX3_gain 3 (some .int) 5 cvI [.ref p0, .int p1, .int p2] h (F_X3_gain n K p0 p1 p2 h) := by
  refine ok_of_sim [(0, .ref p0), (1, .int p1), (2, .int p2)] (by decide +kernel) (fun r => ⟨_, rfl⟩) (by simp [uns, lv_args, lg_sl, catI, catL, catA, va_rfc]) (by simp [uns, lv_args, lg_sl, catI, catL, catA, va_rfc]) (by simp [uns, lv_args, lg_sl, catI, catL, catA, va_rfc]) ?_
  unfold F_X3_gain
  refine s_aload_n dX3_gain_0 0 rfl ?_
  refine s_iload_n dX3_gain_1 1 rfl ?_
  refine s_iload_n dX3_gain_2 2 rfl ?_
  refine s_chk (fun hk3 => ?_)
  refine s_callV_I 4 (kX3_votesOf G n K hK p0 p1 p2 h) (by decide) (by decide) dX3_gain_3 hk3 rfl rfl q1524 q1526 qs68 q109 q1527 hyX3_votesOf rfl rfl (Nat.le_of_ble_eq_true rfl) (fun r1 h2 => ?_)
  refine s_aload_n dX3_gain_6 0 rfl ?_
  refine s_iload_n dX3_gain_7 2 rfl ?_
  refine s_iload_n dX3_gain_8 1 rfl ?_
  refine s_chk (fun hk6 => ?_)
  refine s_callV_I 4 (kX3_votesOf G n K hK p0 p2 p1 h2) (by decide) (by decide) dX3_gain_9 hk6 rfl rfl q1524 q1526 qs68 q109 q1527 hyX3_votesOf rfl rfl (Nat.le_of_ble_eq_true rfl) (fun r4 h5 => ?_)
  refine s_isub dX3_gain_12 ?_
  exact s_iret dX3_gain_13 rfl rfl
theorem hyX3_rest : yX3_rest.cls ≠ "java/lang/invoke/MethodHandle" ∧ yX3_rest.cls ≠ "java/lang/invoke/VarHandle" ∧ (parseMethodDescriptor yX3_rest.desc).map (fun d => d.parameters.length) = some 0 := by decide +kernel
theorem sX3_rest_L14 (G : Gl) (n : Nat) (K : Nat → Nat) (hK : K = G.ad) (y11 : Int32) (y12 : Nat) : ∀ (f : Nat) (x9 : Int32) (x10 : Int32) (h : AH) (k : Int32 → AH → Option (Int32 × AH)) (hk : ∀ (x10 : Int32) (h : AH), Sim G yX3_rest.cls yX3_rest.name cX3_rest 4 (some .int) 6 cvI 47 [(2, .int x10), (1, .int y11), (0, .ref y12)] [] h (k x10 h)), Sim G yX3_rest.cls yX3_rest.name cX3_rest 4 (some .int) 6 cvI 14 [(3, .int x9), (2, .int x10), (1, .int y11), (0, .ref y12)] [] h (F_X3_rest_L14 n K y11 y12 f x9 x10 h k) := by
  intro f
  induction f with
  | zero =>
    intro x9 x10 h k hk
    exact s_none
  | succ f ih =>
    intro x9 x10 h k hk
    unfold F_X3_rest_L14
    refine s_iload_n dX3_rest_14 0 rfl ?_
    refine s_aload_n dX3_rest_15 3 rfl ?_
    refine s_chk (fun hk15 => ?_)
    refine s_callV_I 4 (kX3_chosen G n K hK y12 h) (by decide) (by decide) dX3_rest_16 hk15 rfl rfl q1671 q1673 qs91 q109 q1674 hyX3_chosen rfl rfl (Nat.le_of_ble_eq_true rfl) (fun r13 h14 => ?_)
    refine s_icmp_ge 47 dX3_rest_19 (by decide) (fun c16 => ?_) (fun c16 => ?_)
    · refine s_sub [1, 2, 3] rfl ?_
      exact hk x10 h14
    · refine s_iload_n dX3_rest_22 1 rfl ?_
      refine s_if_eq 39 dX3_rest_23 (by decide) (fun c17 => ?_) (fun c17 => ?_)
      · refine s_iconst (0 : Int32) dX3_rest_39 (by decide) ?_
        refine s_istore_n [(2, .int (0 : Int32)), (3, .int x9), (1, .int y11), (0, .ref y12)] dX3_rest_40 (by decide) (by decide) rfl ?_
        refine s_iinc (1 : Int32) [(3, .int (x9 + (1 : Int32))), (2, .int (0 : Int32)), (1, .int y11), (0, .ref y12)] dX3_rest_41 1 rfl (by decide) (by decide) (by decide) rfl ?_
        refine s_goto 14 dX3_rest_44 (by decide) ?_
        exact ih (x9 + (1 : Int32)) (0 : Int32) h14 k hk
      · refine s_aload_n dX3_rest_26 3 rfl ?_
        refine s_iload_n dX3_rest_27 0 rfl ?_
        refine s_iload_n dX3_rest_28 2 rfl ?_
        refine s_chk (fun hk20 => ?_)
        refine s_callV_I 4 (kX3_gain G n K hK y12 x9 y11 h14) (by decide) (by decide) dX3_rest_29 hk20 rfl rfl q1675 q1677 qs92 q109 q1678 hyX3_gain rfl rfl (Nat.le_of_ble_eq_true rfl) (fun r18 h19 => ?_)
        refine s_if_gt 39 dX3_rest_32 (by decide) (fun c21 => ?_) (fun c21 => ?_)
        · refine s_iconst (0 : Int32) dX3_rest_39 (by decide) ?_
          refine s_istore_n [(2, .int (0 : Int32)), (3, .int x9), (1, .int y11), (0, .ref y12)] dX3_rest_40 (by decide) (by decide) rfl ?_
          refine s_iinc (1 : Int32) [(3, .int (x9 + (1 : Int32))), (2, .int (0 : Int32)), (1, .int y11), (0, .ref y12)] dX3_rest_41 1 rfl (by decide) (by decide) (by decide) rfl ?_
          refine s_goto 14 dX3_rest_44 (by decide) ?_
          exact ih (x9 + (1 : Int32)) (0 : Int32) h19 k hk
        · refine s_iconst (1 : Int32) dX3_rest_35 (by decide) ?_
          refine s_goto 40 dX3_rest_36 (by decide) ?_
          refine s_istore_n [(2, .int (1 : Int32)), (3, .int x9), (1, .int y11), (0, .ref y12)] dX3_rest_40 (by decide) (by decide) rfl ?_
          refine s_iinc (1 : Int32) [(3, .int (x9 + (1 : Int32))), (2, .int (1 : Int32)), (1, .int y11), (0, .ref y12)] dX3_rest_41 1 rfl (by decide) (by decide) (by decide) rfl ?_
          refine s_goto 14 dX3_rest_44 (by decide) ?_
          exact ih (x9 + (1 : Int32)) (1 : Int32) h19 k hk
theorem sX3_rest_L2 (G : Gl) (n : Nat) (K : Nat → Nat) (hK : K = G.ad) (y3 : Nat) : ∀ (f : Nat) (x2 : Int32) (h : AH), Sim G yX3_rest.cls yX3_rest.name cX3_rest 4 (some .int) 6 cvI 2 [(1, .int x2), (0, .ref y3)] [] h (F_X3_rest_L2 n K y3 f x2 h) := by
  intro f
  induction f with
  | zero =>
    intro x2 h
    exact s_none
  | succ f ih =>
    intro x2 h
    unfold F_X3_rest_L2
    refine s_iload_n dX3_rest_2 0 rfl ?_
    refine s_aload_n dX3_rest_3 1 rfl ?_
    refine s_chk (fun hk6 => ?_)
    refine s_callV_I 4 (kX3_chosen G n K hK y3 h) (by decide) (by decide) dX3_rest_4 hk6 rfl rfl q1671 q1673 qs91 q109 q1674 hyX3_chosen rfl rfl (Nat.le_of_ble_eq_true rfl) (fun r4 h5 => ?_)
    refine s_icmp_ge 59 dX3_rest_7 (by decide) (fun c7 => ?_) (fun c7 => ?_)
    · refine s_iconst (-1 : Int32) dX3_rest_59 (by decide) ?_
      exact s_iret dX3_rest_60 rfl rfl
    · refine s_iconst (1 : Int32) dX3_rest_10 (by decide) ?_
      refine s_istore_n [(2, .int (1 : Int32)), (1, .int x2), (0, .ref y3)] dX3_rest_11 (by decide) (by decide) rfl ?_
      refine s_iconst (0 : Int32) dX3_rest_12 (by decide) ?_
      refine s_istore_n [(3, .int (0 : Int32)), (2, .int (1 : Int32)), (1, .int x2), (0, .ref y3)] dX3_rest_13 (by decide) (by decide) rfl ?_
      refine sX3_rest_L14 G n K hK x2 y3 n (0 : Int32) (1 : Int32) h5 _ ?_
      intro x22 h23
      refine s_iload_n dX3_rest_47 0 rfl ?_
      refine s_if_eq 53 dX3_rest_48 (by decide) (fun c24 => ?_) (fun c24 => ?_)
      · refine s_iinc (1 : Int32) [(1, .int (x2 + (1 : Int32))), (2, .int x22), (0, .ref y3)] dX3_rest_53 1 rfl (by decide) (by decide) (by decide) rfl ?_
        refine s_goto 2 dX3_rest_56 (by decide) ?_
        refine s_sub [0, 2] rfl ?_
        exact ih (x2 + (1 : Int32)) h23
      · refine s_iload_n dX3_rest_51 1 rfl ?_
        exact s_iret dX3_rest_52 rfl rfl
theorem kX3_rest (G : Gl) (n : Nat) (K : Nat → Nat) (hK : K = G.ad) (p0 : Nat) (h : AH) : OkM G yX3_rest cX3_rest 4 (some .int) 6 cvI [.ref p0] h (F_X3_rest n K p0 h) := by
  refine ok_of_sim [(0, .ref p0)] (by decide +kernel) (fun r => ⟨_, rfl⟩) (by simp [uns, lv_args, lg_sl, catI, catL, catA, va_rfc]) (by simp [uns, lv_args, lg_sl, catI, catL, catA, va_rfc]) (by simp [uns, lv_args, lg_sl, catI, catL, catA, va_rfc]) ?_
  unfold F_X3_rest
  refine s_iconst (0 : Int32) dX3_rest_0 (by decide) ?_
  refine s_istore_n [(1, .int (0 : Int32)), (0, .ref p0)] dX3_rest_1 (by decide) (by decide) rfl ?_
  exact sX3_rest_L2 G n K hK p0 n (0 : Int32) h
theorem hyX3_coupled : yX3_coupled.cls ≠ "java/lang/invoke/MethodHandle" ∧ yX3_coupled.cls ≠ "java/lang/invoke/VarHandle" ∧ (parseMethodDescriptor yX3_coupled.desc).map (fun d => d.parameters.length) = some 1 := by decide +kernel
theorem sX3_coupled_L30 (G : Gl) (n : Nat) (K : Nat → Nat) (hK : K = G.ad) (dd : Nat) (rec : Nat → Int32 → AH → Option (Int64 × AH)) (hrec : ∀ (p0 : Nat) (p1 : Int32) (h : AH), OkM G yX3_coupled cX3_coupled 8 (some .long) (dd + 4) cvL [.ref p0, .int p1] h (rec p0 p1 h)) (y8 : Int32) (y9 : Int32) (y10 : Nat) : ∀ (f : Nat) (x5 : Int32) (x6 : Int32) (x7 : Int64) (h : AH), Sim G yX3_coupled.cls yX3_coupled.name cX3_coupled 8 (some .long) (dd + 5) cvL 30 [(7, .int x5), (6, .int x6), (1004, .long x7), (3, .int y8), (2, .int y9), (0, .ref y10)] [] h (F_X3_coupled_L30 n K rec y8 y9 y10 f x5 x6 x7 h) := by
  intro f
  induction f with
  | zero =>
    intro x5 x6 x7 h
    exact s_none
  | succ f ih =>
    intro x5 x6 x7 h
    unfold F_X3_coupled_L30
    refine s_iload dX3_coupled_30 0 rfl (by decide) ?_
    refine s_bipush (8 : Int32) dX3_coupled_32 (by decide) ?_
    refine s_icmp_ge 105 dX3_coupled_34 (by decide) (fun c11 => ?_) (fun c11 => ?_)
    · refine s_lload dX3_coupled_105 2 rfl ?_
      exact s_lret dX3_coupled_107 rfl rfl
    · refine s_iload_n dX3_coupled_37 3 rfl ?_
      refine s_iload dX3_coupled_38 0 rfl (by decide) ?_
      refine s_ishr dX3_coupled_40 ?_
      refine s_iconst (1 : Int32) dX3_coupled_41 (by decide) ?_
      refine s_iand dX3_coupled_42 ?_
      refine s_if_ne 49 dX3_coupled_43 (by decide) (fun c12 => ?_) (fun c12 => ?_)
      · refine s_aload_n dX3_coupled_49 5 rfl ?_
        refine s_chk (fun hk13 => ?_)
        refine s_get (j := 40) 4 (va_rf (h.R y10 40)) dX3_coupled_50 hk13 rfl (by decide) q1277 (Or.inl rfl) rfl ?_
        refine s_iload_n dX3_coupled_53 4 rfl ?_
        refine s_ob (r := h.R y10 40) (fun z => [(7, .int x5), (6, .int x6), (1004, .long x7), (3, .int y8), (2, .int y9), (0, .ref y10)]) (fun z => [.int y9, z]) (fun a14 => ?_)
        refine s_chk (fun hk15 => ?_)
        refine s_chk (fun hi16 => ?_)
        refine s_aald dX3_coupled_54 hk15 rfl rfl rfl hi16 ?_
        refine s_iload dX3_coupled_55 0 rfl (by decide) ?_
        refine s_ob (r := h.R a14 (ix y9)) (fun z => [(7, .int x5), (6, .int x6), (1004, .long x7), (3, .int y8), (2, .int y9), (0, .ref y10)]) (fun z => [.int x5, z]) (fun a17 => ?_)
        refine s_chk (fun hk18 => ?_)
        refine s_chk (fun hi19 => ?_)
        refine s_lald dX3_coupled_57 hk18 rfl hi19 ?_
        refine s_lconst (0 : Int64) dX3_coupled_58 (by decide) ?_
        refine s_lcmp dX3_coupled_59 ?_
        refine s_if_eq 94 dX3_coupled_60 (by decide) (fun c20 => ?_) (fun c20 => ?_)
        · refine s_iload dX3_coupled_94 1 rfl (by decide) ?_
          refine s_ineg dX3_coupled_96 ?_
          refine s_istore [(6, .int (-x6)), (7, .int x5), (1004, .long x7), (3, .int y8), (2, .int y9), (0, .ref y10)] dX3_coupled_97 (by decide) (by decide) rfl ?_
          refine s_iinc (1 : Int32) [(7, .int (x5 + (1 : Int32))), (6, .int (-x6)), (1004, .long x7), (3, .int y8), (2, .int y9), (0, .ref y10)] dX3_coupled_99 1 rfl (by decide) (by decide) (by decide) rfl ?_
          refine s_goto 30 dX3_coupled_102 (by decide) ?_
          exact ih (x5 + (1 : Int32)) (-x6) x7 h
        · refine s_lload dX3_coupled_63 2 rfl ?_
          refine s_iload dX3_coupled_65 1 rfl (by decide) ?_
          refine s_i2l dX3_coupled_67 ?_
          refine s_aload_n dX3_coupled_68 5 rfl ?_
          refine s_get (j := 40) 4 (va_rf (h.R y10 40)) dX3_coupled_69 hk13 rfl (by decide) q1277 (Or.inl rfl) rfl ?_
          refine s_iload_n dX3_coupled_72 4 rfl ?_
          refine s_ob (r := h.R y10 40) (fun z => [(7, .int x5), (6, .int x6), (1004, .long x7), (3, .int y8), (2, .int y9), (0, .ref y10)]) (fun z => [.int y9, z, .long x6.toInt64, .long x7]) (fun a21 => ?_)
          refine s_chk (fun hk22 => ?_)
          refine s_chk (fun hi23 => ?_)
          refine s_aald dX3_coupled_73 hk22 rfl rfl rfl hi23 ?_
          refine s_iload dX3_coupled_74 0 rfl (by decide) ?_
          refine s_ob (r := h.R a21 (ix y9)) (fun z => [(7, .int x5), (6, .int x6), (1004, .long x7), (3, .int y8), (2, .int y9), (0, .ref y10)]) (fun z => [.int x5, z, .long x6.toInt64, .long x7]) (fun a24 => ?_)
          refine s_chk (fun hk25 => ?_)
          refine s_chk (fun hi26 => ?_)
          refine s_lald dX3_coupled_76 hk25 rfl hi26 ?_
          refine s_lmul dX3_coupled_77 ?_
          refine s_aload_n dX3_coupled_78 5 rfl ?_
          refine s_iload_n dX3_coupled_79 3 rfl ?_
          refine s_iconst (1 : Int32) dX3_coupled_80 (by decide) ?_
          refine s_iload dX3_coupled_81 0 rfl (by decide) ?_
          refine s_ishl dX3_coupled_83 ?_
          refine s_iconst (-1 : Int32) dX3_coupled_84 (by decide) ?_
          refine s_ixor dX3_coupled_85 ?_
          refine s_iand dX3_coupled_86 ?_
          refine s_callV_L 4 (hrec y10 (y8 &&& (((1 : Int32) <<< (x5 &&& 31)) ^^^ (-1 : Int32))) h) (by omega) (by decide) dX3_coupled_87 hk13 rfl rfl q1693 q1695 qs95 q109 q1696 hyX3_coupled rfl rfl (Nat.le_of_ble_eq_true rfl) (fun r27 h28 => ?_)
          refine s_lmul dX3_coupled_90 ?_
          refine s_ladd dX3_coupled_91 ?_
          refine s_lstore [(1004, .long (x7 + ((x6.toInt64 * (h.L a24 (ix x5))) * r27))), (7, .int x5), (6, .int x6), (3, .int y8), (2, .int y9), (0, .ref y10)] dX3_coupled_92 (by decide) (by decide) rfl ?_
          refine s_iload dX3_coupled_94 2 rfl (by decide) ?_
          refine s_ineg dX3_coupled_96 ?_
          refine s_istore [(6, .int (-x6)), (1004, .long (x7 + ((x6.toInt64 * (h.L a24 (ix x5))) * r27))), (7, .int x5), (3, .int y8), (2, .int y9), (0, .ref y10)] dX3_coupled_97 (by decide) (by decide) rfl ?_
          refine s_iinc (1 : Int32) [(7, .int (x5 + (1 : Int32))), (6, .int (-x6)), (1004, .long (x7 + ((x6.toInt64 * (h.L a24 (ix x5))) * r27))), (3, .int y8), (2, .int y9), (0, .ref y10)] dX3_coupled_99 2 rfl (by decide) (by decide) (by decide) rfl ?_
          refine s_goto 30 dX3_coupled_102 (by decide) ?_
          exact ih (x5 + (1 : Int32)) (-x6) (x7 + ((x6.toInt64 * (h.L a24 (ix x5))) * r27)) h28
      · refine s_goto 99 dX3_coupled_46 (by decide) ?_
        refine s_iinc (1 : Int32) [(7, .int (x5 + (1 : Int32))), (6, .int x6), (1004, .long x7), (3, .int y8), (2, .int y9), (0, .ref y10)] dX3_coupled_99 0 rfl (by decide) (by decide) (by decide) rfl ?_
        refine s_goto 30 dX3_coupled_102 (by decide) ?_
        exact ih (x5 + (1 : Int32)) x6 x7 h
theorem kX3_coupled_B (G : Gl) (n : Nat) (K : Nat → Nat) (hK : K = G.ad) (dd : Nat) (rec : Nat → Int32 → AH → Option (Int64 × AH)) (hrec : ∀ (p0 : Nat) (p1 : Int32) (h : AH), OkM G yX3_coupled cX3_coupled 8 (some .long) (dd + 4) cvL [.ref p0, .int p1] h (rec p0 p1 h)) (p0 : Nat) (p1 : Int32) (h : AH) : OkM G yX3_coupled cX3_coupled 8 (some .long) (dd + 5) cvL [.ref p0, .int p1] h (F_X3_coupled_B n K rec p0 p1 h) := by
  refine ok_of_sim [(0, .ref p0), (1, .int p1)] (by decide +kernel) (fun r => ⟨_, rfl⟩) (by simp [uns, lv_args, lg_sl, catI, catL, catA, va_rfc]) (by simp [uns, lv_args, lg_sl, catI, catL, catA, va_rfc]) (by simp [uns, lv_args, lg_sl, catI, catL, catA, va_rfc]) ?_
  unfold F_X3_coupled_B
  refine s_iload_n dX3_coupled_0 1 rfl ?_
  refine s_if_ne 6 dX3_coupled_1 (by decide) (fun c1 => ?_) (fun c1 => ?_)
  · refine s_iload_n dX3_coupled_6 1 rfl ?_
    refine s_callS_I (kJ15_numberOfTrailingZeros G n K hK p1 h) (by omega) (by decide) dX3_coupled_7 q1697 q1100 q130 q1101 hyJ15_numberOfTrailingZeros rfl rfl (Nat.le_of_ble_eq_true rfl) (fun r2 h3 => ?_)
    refine s_istore_n [(2, .int r2), (0, .ref p0), (1, .int p1)] dX3_coupled_10 (by decide) (by decide) rfl ?_
    refine s_iload_n dX3_coupled_11 2 rfl ?_
    refine s_iconst (1 : Int32) dX3_coupled_12 (by decide) ?_
    refine s_iload_n dX3_coupled_13 0 rfl ?_
    refine s_ishl dX3_coupled_14 ?_
    refine s_iconst (-1 : Int32) dX3_coupled_15 (by decide) ?_
    refine s_ixor dX3_coupled_16 ?_
    refine s_iand dX3_coupled_17 ?_
    refine s_istore_n [(3, .int (p1 &&& (((1 : Int32) <<< (r2 &&& 31)) ^^^ (-1 : Int32)))), (2, .int r2), (0, .ref p0), (1, .int p1)] dX3_coupled_18 (by decide) (by decide) rfl ?_
    refine s_lconst (0 : Int64) dX3_coupled_19 (by decide) ?_
    refine s_lstore [(1004, .long (0 : Int64)), (3, .int (p1 &&& (((1 : Int32) <<< (r2 &&& 31)) ^^^ (-1 : Int32)))), (2, .int r2), (0, .ref p0), (1, .int p1)] dX3_coupled_20 (by decide) (by decide) rfl ?_
    refine s_iconst (1 : Int32) dX3_coupled_22 (by decide) ?_
    refine s_istore [(6, .int (1 : Int32)), (1004, .long (0 : Int64)), (3, .int (p1 &&& (((1 : Int32) <<< (r2 &&& 31)) ^^^ (-1 : Int32)))), (2, .int r2), (0, .ref p0), (1, .int p1)] dX3_coupled_23 (by decide) (by decide) rfl ?_
    refine s_iload_n dX3_coupled_25 3 rfl ?_
    refine s_iconst (1 : Int32) dX3_coupled_26 (by decide) ?_
    refine s_iadd dX3_coupled_27 ?_
    refine s_istore [(7, .int (r2 + (1 : Int32))), (6, .int (1 : Int32)), (1004, .long (0 : Int64)), (3, .int (p1 &&& (((1 : Int32) <<< (r2 &&& 31)) ^^^ (-1 : Int32)))), (2, .int r2), (0, .ref p0), (1, .int p1)] dX3_coupled_28 (by decide) (by decide) rfl ?_
    refine s_sub [0, 1, 2, 3, 4, 5] rfl ?_
    exact sX3_coupled_L30 G n K hK dd rec hrec (p1 &&& (((1 : Int32) <<< (r2 &&& 31)) ^^^ (-1 : Int32))) r2 p0 n (r2 + (1 : Int32)) (1 : Int32) (0 : Int64) h3
  · refine s_lconst (1 : Int64) dX3_coupled_4 (by decide) ?_
    exact s_lret dX3_coupled_5 rfl rfl
theorem kX3_coupled (G : Gl) (n : Nat) (K : Nat → Nat) (hK : K = G.ad) : ∀ (dd : Nat) (p0 : Nat) (p1 : Int32) (h : AH), OkM G yX3_coupled cX3_coupled 8 (some .long) (dd + 4) cvL [.ref p0, .int p1] h (F_X3_coupled n K dd p0 p1 h) := by
  intro dd
  induction dd with
  | zero =>
    intro p0 p1 h r h' hf
    cases hf
  | succ dd ih =>
    intro p0 p1 h
    exact (show (dd + 5) = (dd + 1 + 4) by omega) ▸ kX3_coupled_B G n K hK dd (F_X3_coupled n K dd) ih p0 p1 h
theorem hyX3_isLot : yX3_isLot.cls ≠ "java/lang/invoke/MethodHandle" ∧ yX3_isLot.cls ≠ "java/lang/invoke/VarHandle" ∧ (parseMethodDescriptor yX3_isLot.desc).map (fun d => d.parameters.length) = some 1 := by decide +kernel
theorem sX3_isLot_L13 (G : Gl) (n : Nat) (K : Nat → Nat) (hK : K = G.ad) (y7 : Nat) (y8 : Int32) : ∀ (f : Nat) (x2 : Int32) (x3 : Int32) (x4 : Int32) (x5 : Int64) (x6 : Int32) (h : AH) (k : Int32 → Int32 → Int64 → AH → Option (Int32 × AH)) (hk : ∀ (x3 : Int32) (x4 : Int32) (x5 : Int64) (h : AH), Sim G yX3_isLot.cls yX3_isLot.name cX3_isLot 12 (some .boolean) 13 cvI 127 [(6, .int x3), (5, .int x4), (1003, .long x5), (0, .ref y7), (1, .int y8)] [] h (k x3 x4 x5 h)), Sim G yX3_isLot.cls yX3_isLot.name cX3_isLot 12 (some .boolean) 13 cvI 13 [(7, .int x2), (6, .int x3), (5, .int x4), (1003, .long x5), (2, .int x6), (0, .ref y7), (1, .int y8)] [] h (F_X3_isLot_L13 n K y7 y8 f x2 x3 x4 x5 x6 h k) := by
  intro f
  induction f with
  | zero =>
    intro x2 x3 x4 x5 x6 h k hk
    exact s_none
  | succ f ih =>
    intro x2 x3 x4 x5 x6 h k hk
    unfold F_X3_isLot_L13
    refine s_iload dX3_isLot_13 0 rfl (by decide) ?_
    refine s_bipush (8 : Int32) dX3_isLot_15 (by decide) ?_
    refine s_icmp_ge 127 dX3_isLot_17 (by decide) (fun c9 => ?_) (fun c9 => ?_)
    · refine s_sub [1, 2, 3, 5, 6] rfl ?_
      exact hk x3 x4 x5 h
    · refine s_aload_n dX3_isLot_20 5 rfl ?_
      refine s_chk (fun hk10 => ?_)
      refine s_get (j := 41) 4 (va_rf (h.R y7 41)) dX3_isLot_21 hk10 rfl (by decide) q1278 (Or.inl rfl) rfl ?_
      refine s_iload dX3_isLot_24 0 rfl (by decide) ?_
      refine s_lconst (0 : Int64) dX3_isLot_26 (by decide) ?_
      refine s_ob (r := h.R y7 41) (fun z => [(7, .int x2), (6, .int x3), (5, .int x4), (1003, .long x5), (2, .int x6), (0, .ref y7), (1, .int y8)]) (fun z => [.long (0 : Int64), .int x2, z]) (fun a11 => ?_)
      refine s_chk (fun hk12 => ?_)
      refine s_chk (fun hi13 => ?_)
      refine s_last dX3_isLot_27 hk12 rfl (by decide) hi13 ?_
      refine s_hl (fun h14 e15 => ?_)
      refine s_iload_n dX3_isLot_28 6 rfl ?_
      refine s_iload dX3_isLot_29 0 rfl (by decide) ?_
      refine s_ishr dX3_isLot_31 ?_
      refine s_iconst (1 : Int32) dX3_isLot_32 (by decide) ?_
      refine s_iand dX3_isLot_33 ?_
      refine s_if_ne 40 dX3_isLot_34 (by decide) (fun c16 => ?_) (fun c16 => ?_)
      · refine s_aload_n dX3_isLot_40 5 rfl ?_
        refine s_get (j := 41) 4 (va_rf (h14.R y7 41)) dX3_isLot_41 (show h14.kind y7 = 5 by rw [e15]; exact hk10) rfl (by decide) q1278 (Or.inl rfl) rfl ?_
        refine s_iload dX3_isLot_44 0 rfl (by decide) ?_
        refine s_iload_n dX3_isLot_46 4 rfl ?_
        refine s_i2l dX3_isLot_47 ?_
        refine s_aload_n dX3_isLot_48 5 rfl ?_
        refine s_iload_n dX3_isLot_49 6 rfl ?_
        refine s_iconst (1 : Int32) dX3_isLot_50 (by decide) ?_
        refine s_iload dX3_isLot_51 0 rfl (by decide) ?_
        refine s_ishl dX3_isLot_53 ?_
        refine s_iconst (-1 : Int32) dX3_isLot_54 (by decide) ?_
        refine s_ixor dX3_isLot_55 ?_
        refine s_iand dX3_isLot_56 ?_
        refine s_callV_L 4 (kX3_coupled G n K hK 8 y7 (y8 &&& (((1 : Int32) <<< (x2 &&& 31)) ^^^ (-1 : Int32))) h14) (by decide) (by decide) dX3_isLot_57 (show h14.kind y7 = 5 by rw [e15]; exact hk10) rfl rfl q1693 q1695 qs95 q109 q1696 hyX3_coupled rfl rfl (by simp [catI, catL, catA, va_rfc]) (fun r17 h18 => ?_)
        refine s_lmul dX3_isLot_60 ?_
        refine s_ob (r := h14.R y7 41) (fun z => [(7, .int x2), (6, .int x3), (5, .int x4), (1003, .long x5), (2, .int x6), (0, .ref y7), (1, .int y8)]) (fun z => [.long (x6.toInt64 * r17), .int x2, z]) (fun a19 => ?_)
        refine s_chk (fun hk20 => ?_)
        refine s_chk (fun hi21 => ?_)
        refine s_last dX3_isLot_61 hk20 rfl (by decide) hi21 ?_
        refine s_hl (fun h22 e23 => ?_)
        refine s_iload_n dX3_isLot_62 4 rfl ?_
        refine s_ineg dX3_isLot_63 ?_
        refine s_istore_n [(2, .int (-x6)), (7, .int x2), (6, .int x3), (5, .int x4), (1003, .long x5), (0, .ref y7), (1, .int y8)] dX3_isLot_64 (by decide) (by decide) rfl ?_
        refine s_iload dX3_isLot_65 2 rfl (by decide) ?_
        refine s_aload_n dX3_isLot_67 5 rfl ?_
        refine s_chk (fun hk24 => ?_)
        refine s_get (j := 41) 4 (va_rf (h22.R y7 41)) dX3_isLot_68 hk24 rfl (by decide) q1278 (Or.inl rfl) rfl ?_
        refine s_iload dX3_isLot_71 1 rfl (by decide) ?_
        refine s_ob (r := h22.R y7 41) (fun z => [(2, .int (-x6)), (7, .int x2), (6, .int x3), (5, .int x4), (1003, .long x5), (0, .ref y7), (1, .int y8)]) (fun z => [.int x2, z, .int x3]) (fun a25 => ?_)
        refine s_chk (fun hk26 => ?_)
        refine s_chk (fun hi27 => ?_)
        refine s_lald dX3_isLot_73 hk26 rfl hi27 ?_
        refine s_lconst (0 : Int64) dX3_isLot_74 (by decide) ?_
        refine s_lcmp dX3_isLot_75 ?_
        refine s_jn (fun j29 => ∀ (x28 : Int32), Sim G yX3_isLot.cls yX3_isLot.name cX3_isLot 12 (some .boolean) 13 cvI 84 [(2, .int (-x6)), (7, .int x2), (5, .int x4), (1003, .long x5), (0, .ref y7), (1, .int y8)] [.int x28, .int x3] h22 (j29 x28)) ?_ (fun j29 hj42 => ?_)
        · intro x28
          refine s_iadd dX3_isLot_84 ?_
          refine s_istore [(6, .int (x3 + x28)), (2, .int (-x6)), (7, .int x2), (5, .int x4), (1003, .long x5), (0, .ref y7), (1, .int y8)] dX3_isLot_85 (by decide) (by decide) rfl ?_
          refine s_iload dX3_isLot_87 3 rfl (by decide) ?_
          refine s_aload_n dX3_isLot_89 5 rfl ?_
          refine s_get (j := 41) 4 (va_rf (h22.R y7 41)) dX3_isLot_90 hk24 rfl (by decide) q1278 (Or.inl rfl) rfl ?_
          refine s_iload dX3_isLot_93 2 rfl (by decide) ?_
          refine s_ob (r := h22.R y7 41) (fun z => [(6, .int (x3 + x28)), (2, .int (-x6)), (7, .int x2), (5, .int x4), (1003, .long x5), (0, .ref y7), (1, .int y8)]) (fun z => [.int x2, z, .int x4]) (fun a30 => ?_)
          refine s_chk (fun hk31 => ?_)
          refine s_chk (fun hi32 => ?_)
          refine s_lald dX3_isLot_95 hk31 rfl hi32 ?_
          refine s_lconst (0 : Int64) dX3_isLot_96 (by decide) ?_
          refine s_lcmp dX3_isLot_97 ?_
          refine s_jn (fun j34 => ∀ (x33 : Int32), Sim G yX3_isLot.cls yX3_isLot.name cX3_isLot 12 (some .boolean) 13 cvI 106 [(6, .int (x3 + x28)), (2, .int (-x6)), (7, .int x2), (1003, .long x5), (0, .ref y7), (1, .int y8)] [.int x33, .int x4] h22 (j34 x33)) ?_ (fun j34 hj40 => ?_)
          · intro x33
            refine s_iadd dX3_isLot_106 ?_
            refine s_istore [(5, .int (x4 + x33)), (6, .int (x3 + x28)), (2, .int (-x6)), (7, .int x2), (1003, .long x5), (0, .ref y7), (1, .int y8)] dX3_isLot_107 (by decide) (by decide) rfl ?_
            refine s_lload_n dX3_isLot_109 4 rfl ?_
            refine s_aload_n dX3_isLot_110 5 rfl ?_
            refine s_get (j := 41) 4 (va_rf (h22.R y7 41)) dX3_isLot_111 hk24 rfl (by decide) q1278 (Or.inl rfl) rfl ?_
            refine s_iload dX3_isLot_114 3 rfl (by decide) ?_
            refine s_ob (r := h22.R y7 41) (fun z => [(5, .int (x4 + x33)), (6, .int (x3 + x28)), (2, .int (-x6)), (7, .int x2), (1003, .long x5), (0, .ref y7), (1, .int y8)]) (fun z => [.int x2, z, .long x5]) (fun a35 => ?_)
            refine s_chk (fun hk36 => ?_)
            refine s_chk (fun hi37 => ?_)
            refine s_lald dX3_isLot_116 hk36 rfl hi37 ?_
            refine s_callS_L (kX3_gcd G n K hK x5 (h22.L a35 (ix x2)) h22) (by decide) (by decide) dX3_isLot_117 q1569 q1570 q109 q1571 hyX3_gcd rfl rfl (Nat.le_of_ble_eq_true rfl) (fun r38 h39 => ?_)
            refine s_lstore_n [(1003, .long r38), (5, .int (x4 + x33)), (6, .int (x3 + x28)), (2, .int (-x6)), (7, .int x2), (0, .ref y7), (1, .int y8)] dX3_isLot_120 (by decide) (by decide) rfl ?_
            refine s_iinc (1 : Int32) [(7, .int (x2 + (1 : Int32))), (1003, .long r38), (5, .int (x4 + x33)), (6, .int (x3 + x28)), (2, .int (-x6)), (0, .ref y7), (1, .int y8)] dX3_isLot_121 4 rfl (by decide) (by decide) (by decide) rfl ?_
            refine s_goto 13 dX3_isLot_124 (by decide) ?_
            refine s_sub [0, 3, 2, 1, 4, 5, 6] rfl ?_
            exact ih (x2 + (1 : Int32)) (x3 + x28) (x4 + x33) r38 (-x6) h39 k hk
          refine s_if_ge 105 dX3_isLot_98 (by decide) (fun c41 => ?_) (fun c41 => ?_)
          · refine s_iconst (0 : Int32) dX3_isLot_105 (by decide) ?_
            refine s_sub [0, 1, 2, 4, 5, 6] rfl ?_
            exact hj40 (0 : Int32)
          · refine s_iconst (1 : Int32) dX3_isLot_101 (by decide) ?_
            refine s_goto 106 dX3_isLot_102 (by decide) ?_
            refine s_sub [0, 1, 2, 4, 5, 6] rfl ?_
            exact hj40 (1 : Int32)
        refine s_if_le 83 dX3_isLot_76 (by decide) (fun c43 => ?_) (fun c43 => ?_)
        · refine s_iconst (0 : Int32) dX3_isLot_83 (by decide) ?_
          refine s_sub [0, 1, 3, 4, 5, 6] rfl ?_
          exact hj42 (0 : Int32)
        · refine s_iconst (1 : Int32) dX3_isLot_79 (by decide) ?_
          refine s_goto 84 dX3_isLot_80 (by decide) ?_
          refine s_sub [0, 1, 3, 4, 5, 6] rfl ?_
          exact hj42 (1 : Int32)
      · refine s_goto 121 dX3_isLot_37 (by decide) ?_
        refine s_iinc (1 : Int32) [(7, .int (x2 + (1 : Int32))), (6, .int x3), (5, .int x4), (1003, .long x5), (2, .int x6), (0, .ref y7), (1, .int y8)] dX3_isLot_121 0 rfl (by decide) (by decide) (by decide) rfl ?_
        refine s_goto 13 dX3_isLot_124 (by decide) ?_
        exact ih (x2 + (1 : Int32)) x3 x4 x5 x6 h14 k hk
theorem sX3_isLot_L152 (G : Gl) (n : Nat) (K : Nat → Nat) (hK : K = G.ad) (y53 : Int32) (y54 : Int64) (y55 : Nat) : ∀ (f : Nat) (x52 : Int32) (h : AH) (k : AH → Option (Int32 × AH)) (hk : ∀ (h : AH), Sim G yX3_isLot.cls yX3_isLot.name cX3_isLot 12 (some .boolean) 13 cvI 197 [(0, .ref y55)] [] h (k h)), Sim G yX3_isLot.cls yX3_isLot.name cX3_isLot 12 (some .boolean) 13 cvI 152 [(8, .int x52), (5, .int y53), (1003, .long y54), (0, .ref y55)] [] h (F_X3_isLot_L152 n K y53 y54 y55 f x52 h k) := by
  intro f
  induction f with
  | zero =>
    intro x52 h k hk
    exact s_none
  | succ f ih =>
    intro x52 h k hk
    unfold F_X3_isLot_L152
    refine s_iload dX3_isLot_152 0 rfl (by decide) ?_
    refine s_bipush (8 : Int32) dX3_isLot_154 (by decide) ?_
    refine s_icmp_ge 197 dX3_isLot_156 (by decide) (fun c56 => ?_) (fun c56 => ?_)
    · refine s_sub [3] rfl ?_
      exact hk h
    · refine s_aload_n dX3_isLot_159 3 rfl ?_
      refine s_chk (fun hk57 => ?_)
      refine s_get (j := 41) 4 (va_rf (h.R y55 41)) dX3_isLot_160 hk57 rfl (by decide) q1278 (Or.inl rfl) rfl ?_
      refine s_iload dX3_isLot_163 0 rfl (by decide) ?_
      refine s_iload dX3_isLot_165 1 rfl (by decide) ?_
      refine s_jn (fun j59 => ∀ (x58 : Int64), Sim G yX3_isLot.cls yX3_isLot.name cX3_isLot 12 (some .boolean) 13 cvI 188 [(8, .int x52), (5, .int y53), (1003, .long y54), (0, .ref y55)] [.long x58, .int x52, va_rf (h.R y55 41)] h (j59 x58)) ?_ (fun j59 hj66 => ?_)
      · intro x58
        refine s_lload_n dX3_isLot_188 2 rfl ?_
        refine s_chk (fun hz60 => ?_)
        refine s_ldiv dX3_isLot_189 hz60 ?_
        refine s_ob (r := h.R y55 41) (fun z => [(8, .int x52), (5, .int y53), (1003, .long y54), (0, .ref y55)]) (fun z => [.long (x58 / y54), .int x52, z]) (fun a61 => ?_)
        refine s_chk (fun hk62 => ?_)
        refine s_chk (fun hi63 => ?_)
        refine s_last dX3_isLot_190 hk62 rfl (by decide) hi63 ?_
        refine s_hl (fun h64 e65 => ?_)
        refine s_iinc (1 : Int32) [(8, .int (x52 + (1 : Int32))), (5, .int y53), (1003, .long y54), (0, .ref y55)] dX3_isLot_191 0 rfl (by decide) (by decide) (by decide) rfl ?_
        refine s_goto 152 dX3_isLot_194 (by decide) ?_
        exact ih (x52 + (1 : Int32)) h64 k hk
      refine s_if_le 181 dX3_isLot_167 (by decide) (fun c67 => ?_) (fun c67 => ?_)
      · refine s_aload_n dX3_isLot_181 3 rfl ?_
        refine s_get (j := 41) 4 (va_rf (h.R y55 41)) dX3_isLot_182 hk57 rfl (by decide) q1278 (Or.inl rfl) rfl ?_
        refine s_iload dX3_isLot_185 0 rfl (by decide) ?_
        refine s_ob (r := h.R y55 41) (fun z => [(8, .int x52), (5, .int y53), (1003, .long y54), (0, .ref y55)]) (fun z => [.int x52, z, .int x52, va_rf (h.R y55 41)]) (fun a68 => ?_)
        refine s_chk (fun hk69 => ?_)
        refine s_chk (fun hi70 => ?_)
        refine s_lald dX3_isLot_187 hk69 rfl hi70 ?_
        exact hj66 (h.L a68 (ix x52))
      · refine s_aload_n dX3_isLot_170 3 rfl ?_
        refine s_get (j := 41) 4 (va_rf (h.R y55 41)) dX3_isLot_171 hk57 rfl (by decide) q1278 (Or.inl rfl) rfl ?_
        refine s_iload dX3_isLot_174 0 rfl (by decide) ?_
        refine s_ob (r := h.R y55 41) (fun z => [(8, .int x52), (5, .int y53), (1003, .long y54), (0, .ref y55)]) (fun z => [.int x52, z, .int x52, va_rf (h.R y55 41)]) (fun a71 => ?_)
        refine s_chk (fun hk72 => ?_)
        refine s_chk (fun hi73 => ?_)
        refine s_lald dX3_isLot_176 hk72 rfl hi73 ?_
        refine s_lneg dX3_isLot_177 ?_
        refine s_goto 188 dX3_isLot_178 (by decide) ?_
        exact hj66 (-(h.L a71 (ix x52)))
theorem sX3_isLot_L215 (G : Gl) (n : Nat) (K : Nat → Nat) (hK : K = G.ad) (y85 : Int32) (y86 : Nat) : ∀ (f : Nat) (x83 : Int32) (x84 : Int64) (h : AH) (k : Int64 → AH → Option (Int32 × AH)) (hk : ∀ (x84 : Int64) (h : AH), Sim G yX3_isLot.cls yX3_isLot.name cX3_isLot 12 (some .boolean) 13 cvI 253 [(1009, .long x84), (8, .int y85), (0, .ref y86)] [] h (k x84 h)), Sim G yX3_isLot.cls yX3_isLot.name cX3_isLot 12 (some .boolean) 13 cvI 215 [(11, .int x83), (1009, .long x84), (8, .int y85), (0, .ref y86)] [] h (F_X3_isLot_L215 n K y85 y86 f x83 x84 h k) := by
  intro f
  induction f with
  | zero =>
    intro x83 x84 h k hk
    exact s_none
  | succ f ih =>
    intro x83 x84 h k hk
    unfold F_X3_isLot_L215
    refine s_iload dX3_isLot_215 0 rfl (by decide) ?_
    refine s_aload_n dX3_isLot_217 3 rfl ?_
    refine s_chk (fun hk89 => ?_)
    refine s_callV_I 4 (kX3_chosen G n K hK y86 h) (by decide) (by decide) dX3_isLot_218 hk89 rfl rfl q1671 q1673 qs91 q109 q1674 hyX3_chosen rfl rfl (Nat.le_of_ble_eq_true rfl) (fun r87 h88 => ?_)
    refine s_icmp_ge 253 dX3_isLot_221 (by decide) (fun c90 => ?_) (fun c90 => ?_)
    · refine s_sub [1, 2, 3] rfl ?_
      exact hk x84 h88
    · refine s_lload dX3_isLot_224 1 rfl ?_
      refine s_aload_n dX3_isLot_226 3 rfl ?_
      refine s_chk (fun hk91 => ?_)
      refine s_get (j := 40) 4 (va_rf (h88.R y86 40)) dX3_isLot_227 hk91 rfl (by decide) q1277 (Or.inl rfl) rfl ?_
      refine s_iload dX3_isLot_230 2 rfl (by decide) ?_
      refine s_ob (r := h88.R y86 40) (fun z => [(11, .int x83), (1009, .long x84), (8, .int y85), (0, .ref y86)]) (fun z => [.int y85, z, .long x84]) (fun a92 => ?_)
      refine s_chk (fun hk93 => ?_)
      refine s_chk (fun hi94 => ?_)
      refine s_aald dX3_isLot_232 hk93 rfl rfl rfl hi94 ?_
      refine s_iload dX3_isLot_233 0 rfl (by decide) ?_
      refine s_ob (r := h88.R a92 (ix y85)) (fun z => [(11, .int x83), (1009, .long x84), (8, .int y85), (0, .ref y86)]) (fun z => [.int x83, z, .long x84]) (fun a95 => ?_)
      refine s_chk (fun hk96 => ?_)
      refine s_chk (fun hi97 => ?_)
      refine s_lald dX3_isLot_235 hk96 rfl hi97 ?_
      refine s_aload_n dX3_isLot_236 3 rfl ?_
      refine s_get (j := 41) 4 (va_rf (h88.R y86 41)) dX3_isLot_237 hk91 rfl (by decide) q1278 (Or.inl rfl) rfl ?_
      refine s_iload dX3_isLot_240 0 rfl (by decide) ?_
      refine s_ob (r := h88.R y86 41) (fun z => [(11, .int x83), (1009, .long x84), (8, .int y85), (0, .ref y86)]) (fun z => [.int x83, z, .long (h88.L a95 (ix x83)), .long x84]) (fun a98 => ?_)
      refine s_chk (fun hk99 => ?_)
      refine s_chk (fun hi100 => ?_)
      refine s_lald dX3_isLot_242 hk99 rfl hi100 ?_
      refine s_lmul dX3_isLot_243 ?_
      refine s_ladd dX3_isLot_244 ?_
      refine s_lstore [(1009, .long (x84 + ((h88.L a95 (ix x83)) * (h88.L a98 (ix x83))))), (11, .int x83), (8, .int y85), (0, .ref y86)] dX3_isLot_245 (by decide) (by decide) rfl ?_
      refine s_iinc (1 : Int32) [(11, .int (x83 + (1 : Int32))), (1009, .long (x84 + ((h88.L a95 (ix x83)) * (h88.L a98 (ix x83))))), (8, .int y85), (0, .ref y86)] dX3_isLot_247 1 rfl (by decide) (by decide) (by decide) rfl ?_
      refine s_goto 215 dX3_isLot_250 (by decide) ?_
      exact ih (x83 + (1 : Int32)) (x84 + ((h88.L a95 (ix x83)) * (h88.L a98 (ix x83)))) h88 k hk
theorem sX3_isLot_L200 (G : Gl) (n : Nat) (K : Nat → Nat) (hK : K = G.ad) (y77 : Nat) : ∀ (f : Nat) (x76 : Int32) (h : AH), Sim G yX3_isLot.cls yX3_isLot.name cX3_isLot 12 (some .boolean) 13 cvI 200 [(8, .int x76), (0, .ref y77)] [] h (F_X3_isLot_L200 n K y77 f x76 h) := by
  intro f
  induction f with
  | zero =>
    intro x76 h
    exact s_none
  | succ f ih =>
    intro x76 h
    unfold F_X3_isLot_L200
    refine s_iload dX3_isLot_200 0 rfl (by decide) ?_
    refine s_aload_n dX3_isLot_202 1 rfl ?_
    refine s_chk (fun hk80 => ?_)
    refine s_callV_I 4 (kX3_chosen G n K hK y77 h) (by decide) (by decide) dX3_isLot_203 hk80 rfl rfl q1671 q1673 qs91 q109 q1674 hyX3_chosen rfl rfl (Nat.le_of_ble_eq_true rfl) (fun r78 h79 => ?_)
    refine s_icmp_ge 268 dX3_isLot_206 (by decide) (fun c81 => ?_) (fun c81 => ?_)
    · refine s_iconst (1 : Int32) dX3_isLot_268 (by decide) ?_
      exact s_zret dX3_isLot_269 rfl rfl rfl
    · refine s_lconst (0 : Int64) dX3_isLot_209 (by decide) ?_
      refine s_lstore [(1009, .long (0 : Int64)), (8, .int x76), (0, .ref y77)] dX3_isLot_210 (by decide) (by decide) rfl ?_
      refine s_iconst (0 : Int32) dX3_isLot_212 (by decide) ?_
      refine s_istore [(11, .int (0 : Int32)), (1009, .long (0 : Int64)), (8, .int x76), (0, .ref y77)] dX3_isLot_213 (by decide) (by decide) rfl ?_
      refine sX3_isLot_L215 G n K hK x76 y77 n (0 : Int32) (0 : Int64) h79 _ ?_
      intro x101 h102
      refine s_lload dX3_isLot_253 0 rfl ?_
      refine s_lconst (0 : Int64) dX3_isLot_255 (by decide) ?_
      refine s_lcmp dX3_isLot_256 ?_
      refine s_if_le 262 dX3_isLot_257 (by decide) (fun c103 => ?_) (fun c103 => ?_)
      · refine s_iinc (1 : Int32) [(8, .int (x76 + (1 : Int32))), (1009, .long x101), (0, .ref y77)] dX3_isLot_262 1 rfl (by decide) (by decide) (by decide) rfl ?_
        refine s_goto 200 dX3_isLot_265 (by decide) ?_
        refine s_sub [0, 2] rfl ?_
        exact ih (x76 + (1 : Int32)) h102
      · refine s_iconst (0 : Int32) dX3_isLot_260 (by decide) ?_
        exact s_zret dX3_isLot_261 rfl rfl rfl
theorem kX3_isLot (G : Gl) (n : Nat) (K : Nat → Nat) (hK : K = G.ad) (p0 : Nat) (p1 : Int32) (h : AH) : OkM G yX3_isLot cX3_isLot 12 (some .boolean) 13 cvI [.ref p0, .int p1] h (F_X3_isLot n K p0 p1 h) := by
  refine ok_of_sim [(0, .ref p0), (1, .int p1)] (by decide +kernel) (fun r => ⟨_, rfl⟩) (by simp [uns, lv_args, lg_sl, catI, catL, catA, va_rfc]) (by simp [uns, lv_args, lg_sl, catI, catL, catA, va_rfc]) (by simp [uns, lv_args, lg_sl, catI, catL, catA, va_rfc]) ?_
  unfold F_X3_isLot
  refine s_iconst (1 : Int32) dX3_isLot_0 (by decide) ?_
  refine s_istore_n [(2, .int (1 : Int32)), (0, .ref p0), (1, .int p1)] dX3_isLot_1 (by decide) (by decide) rfl ?_
  refine s_lconst (0 : Int64) dX3_isLot_2 (by decide) ?_
  refine s_lstore_n [(1003, .long (0 : Int64)), (2, .int (1 : Int32)), (0, .ref p0), (1, .int p1)] dX3_isLot_3 (by decide) (by decide) rfl ?_
  refine s_iconst (0 : Int32) dX3_isLot_4 (by decide) ?_
  refine s_istore [(5, .int (0 : Int32)), (1003, .long (0 : Int64)), (2, .int (1 : Int32)), (0, .ref p0), (1, .int p1)] dX3_isLot_5 (by decide) (by decide) rfl ?_
  refine s_iconst (0 : Int32) dX3_isLot_7 (by decide) ?_
  refine s_istore [(6, .int (0 : Int32)), (5, .int (0 : Int32)), (1003, .long (0 : Int64)), (2, .int (1 : Int32)), (0, .ref p0), (1, .int p1)] dX3_isLot_8 (by decide) (by decide) rfl ?_
  refine s_iconst (0 : Int32) dX3_isLot_10 (by decide) ?_
  refine s_istore [(7, .int (0 : Int32)), (6, .int (0 : Int32)), (5, .int (0 : Int32)), (1003, .long (0 : Int64)), (2, .int (1 : Int32)), (0, .ref p0), (1, .int p1)] dX3_isLot_11 (by decide) (by decide) rfl ?_
  refine sX3_isLot_L13 G n K hK p0 p1 n (0 : Int32) (0 : Int32) (0 : Int32) (0 : Int64) (1 : Int32) h _ ?_
  intro x44 x45 x46 h47
  refine s_iload_n dX3_isLot_127 4 rfl ?_
  refine s_callS_I (kJ15_bitCount G n K hK p1 h47) (by decide) (by decide) dX3_isLot_128 q1688 q1082 q130 q1083 hyJ15_bitCount rfl rfl (Nat.le_of_ble_eq_true rfl) (fun r48 h49 => ?_)
  refine s_istore [(7, .int r48), (6, .int x44), (5, .int x45), (1003, .long x46), (0, .ref p0), (1, .int p1)] dX3_isLot_131 (by decide) (by decide) rfl ?_
  refine s_iload dX3_isLot_133 1 rfl (by decide) ?_
  refine s_iload dX3_isLot_135 0 rfl (by decide) ?_
  refine s_jn (fun j50 => Sim G yX3_isLot.cls yX3_isLot.name cX3_isLot 12 (some .boolean) 13 cvI 149 [(5, .int x45), (1003, .long x46), (0, .ref p0)] [] h49 (j50 )) ?_ (fun j50 hj104 => ?_)
  · skip
    refine s_iconst (0 : Int32) dX3_isLot_149 (by decide) ?_
    refine s_istore [(8, .int (0 : Int32)), (5, .int x45), (1003, .long x46), (0, .ref p0)] dX3_isLot_150 (by decide) (by decide) rfl ?_
    refine sX3_isLot_L152 G n K hK x45 x46 p0 n (0 : Int32) h49 _ ?_
    intro h74
    refine s_iconst (0 : Int32) dX3_isLot_197 (by decide) ?_
    refine s_istore [(8, .int (0 : Int32)), (0, .ref p0)] dX3_isLot_198 (by decide) (by decide) rfl ?_
    exact sX3_isLot_L200 G n K hK p0 n (0 : Int32) h74
  refine s_icmp_eq 149 dX3_isLot_137 (by decide) (fun c105 => ?_) (fun c105 => ?_)
  · refine s_sub [2, 3, 4] rfl ?_
    exact hj104
  · refine s_iload dX3_isLot_140 2 rfl (by decide) ?_
    refine s_iload dX3_isLot_142 0 rfl (by decide) ?_
    refine s_icmp_eq 149 dX3_isLot_144 (by decide) (fun c106 => ?_) (fun c106 => ?_)
    · refine s_sub [2, 3, 4] rfl ?_
      exact hj104
    · refine s_iconst (0 : Int32) dX3_isLot_147 (by decide) ?_
      exact s_zret dX3_isLot_148 rfl rfl rfl
theorem hyX3_findsLots : yX3_findsLots.cls ≠ "java/lang/invoke/MethodHandle" ∧ yX3_findsLots.cls ≠ "java/lang/invoke/VarHandle" ∧ (parseMethodDescriptor yX3_findsLots.desc).map (fun d => d.parameters.length) = some 0 := by decide +kernel
theorem sX3_findsLots_L12 (G : Gl) (n : Nat) (K : Nat → Nat) (hK : K = G.ad) (y10 : Int32) (y11 : Nat) : ∀ (f : Nat) (x9 : Int32) (h : AH) (k : AH → Option (Int32 × AH)) (hk : ∀ (h : AH), Sim G yX3_findsLots.cls yX3_findsLots.name cX3_findsLots 3 (some .boolean) 14 cvI 41 [(1, .int y10), (0, .ref y11)] [] h (k h)), Sim G yX3_findsLots.cls yX3_findsLots.name cX3_findsLots 3 (some .boolean) 14 cvI 12 [(2, .int x9), (1, .int y10), (0, .ref y11)] [] h (F_X3_findsLots_L12 n K y10 y11 f x9 h k) := by
  intro f
  induction f with
  | zero =>
    intro x9 h k hk
    exact s_none
  | succ f ih =>
    intro x9 h k hk
    unfold F_X3_findsLots_L12
    refine s_iload_n dX3_findsLots_12 0 rfl ?_
    refine s_aload_n dX3_findsLots_13 2 rfl ?_
    refine s_chk (fun hk14 => ?_)
    refine s_callV_I 4 (kX3_chosen G n K hK y11 h) (by decide) (by decide) dX3_findsLots_14 hk14 rfl rfl q1671 q1673 qs91 q109 q1674 hyX3_chosen rfl rfl (Nat.le_of_ble_eq_true rfl) (fun r12 h13 => ?_)
    refine s_icmp_ge 41 dX3_findsLots_17 (by decide) (fun c15 => ?_) (fun c15 => ?_)
    · refine s_sub [1, 2] rfl ?_
      exact hk h13
    · refine s_aload_n dX3_findsLots_20 2 rfl ?_
      refine s_chk (fun hk16 => ?_)
      refine s_get (j := 40) 4 (va_rf (h13.R y11 40)) dX3_findsLots_21 hk16 rfl (by decide) q1277 (Or.inl rfl) rfl ?_
      refine s_iload_n dX3_findsLots_24 1 rfl ?_
      refine s_ob (r := h13.R y11 40) (fun z => [(2, .int x9), (1, .int y10), (0, .ref y11)]) (fun z => [.int y10, z]) (fun a17 => ?_)
      refine s_chk (fun hk18 => ?_)
      refine s_chk (fun hi19 => ?_)
      refine s_aald dX3_findsLots_25 hk18 rfl rfl rfl hi19 ?_
      refine s_iload_n dX3_findsLots_26 0 rfl ?_
      refine s_aload_n dX3_findsLots_27 2 rfl ?_
      refine s_iload_n dX3_findsLots_28 1 rfl ?_
      refine s_iload_n dX3_findsLots_29 0 rfl ?_
      refine s_callV_I 4 (kX3_gain G n K hK y11 y10 x9 h13) (by decide) (by decide) dX3_findsLots_30 hk16 rfl rfl q1675 q1677 qs92 q109 q1678 hyX3_gain rfl rfl (by simp [catI, catL, catA, va_rfc]) (fun r20 h21 => ?_)
      refine s_i2l dX3_findsLots_33 ?_
      refine s_ob (r := h13.R a17 (ix y10)) (fun z => [(2, .int x9), (1, .int y10), (0, .ref y11)]) (fun z => [.long r20.toInt64, .int x9, z]) (fun a22 => ?_)
      refine s_chk (fun hk23 => ?_)
      refine s_chk (fun hi24 => ?_)
      refine s_last dX3_findsLots_34 hk23 rfl (by decide) hi24 ?_
      refine s_hl (fun h25 e26 => ?_)
      refine s_iinc (1 : Int32) [(2, .int (x9 + (1 : Int32))), (1, .int y10), (0, .ref y11)] dX3_findsLots_35 0 rfl (by decide) (by decide) (by decide) rfl ?_
      refine s_goto 12 dX3_findsLots_38 (by decide) ?_
      exact ih (x9 + (1 : Int32)) h25 k hk
theorem sX3_findsLots_L2 (G : Gl) (n : Nat) (K : Nat → Nat) (hK : K = G.ad) (y3 : Nat) : ∀ (f : Nat) (x2 : Int32) (h : AH) (k : AH → Option (Int32 × AH)) (hk : ∀ (h : AH), Sim G yX3_findsLots.cls yX3_findsLots.name cX3_findsLots 3 (some .boolean) 14 cvI 47 [(0, .ref y3)] [] h (k h)), Sim G yX3_findsLots.cls yX3_findsLots.name cX3_findsLots 3 (some .boolean) 14 cvI 2 [(1, .int x2), (0, .ref y3)] [] h (F_X3_findsLots_L2 n K y3 f x2 h k) := by
  intro f
  induction f with
  | zero =>
    intro x2 h k hk
    exact s_none
  | succ f ih =>
    intro x2 h k hk
    unfold F_X3_findsLots_L2
    refine s_iload_n dX3_findsLots_2 0 rfl ?_
    refine s_aload_n dX3_findsLots_3 1 rfl ?_
    refine s_chk (fun hk6 => ?_)
    refine s_callV_I 4 (kX3_chosen G n K hK y3 h) (by decide) (by decide) dX3_findsLots_4 hk6 rfl rfl q1671 q1673 qs91 q109 q1674 hyX3_chosen rfl rfl (Nat.le_of_ble_eq_true rfl) (fun r4 h5 => ?_)
    refine s_icmp_ge 47 dX3_findsLots_7 (by decide) (fun c7 => ?_) (fun c7 => ?_)
    · refine s_sub [1] rfl ?_
      exact hk h5
    · refine s_iconst (0 : Int32) dX3_findsLots_10 (by decide) ?_
      refine s_istore_n [(2, .int (0 : Int32)), (1, .int x2), (0, .ref y3)] dX3_findsLots_11 (by decide) (by decide) rfl ?_
      refine sX3_findsLots_L12 G n K hK x2 y3 n (0 : Int32) h5 _ ?_
      intro h27
      refine s_iinc (1 : Int32) [(1, .int (x2 + (1 : Int32))), (0, .ref y3)] dX3_findsLots_41 0 rfl (by decide) (by decide) (by decide) rfl ?_
      refine s_goto 2 dX3_findsLots_44 (by decide) ?_
      exact ih (x2 + (1 : Int32)) h27 k hk
theorem sX3_findsLots_L59 (G : Gl) (n : Nat) (K : Nat → Nat) (hK : K = G.ad) (y38 : Int32) (y39 : Nat) : ∀ (f : Nat) (x37 : Int32) (h : AH) (k : AH → Option (Int32 × AH)) (hk : ∀ (h : AH), Sim G yX3_findsLots.cls yX3_findsLots.name cX3_findsLots 3 (some .boolean) 14 cvI 93 [(1, .int y38), (0, .ref y39)] [] h (k h)), Sim G yX3_findsLots.cls yX3_findsLots.name cX3_findsLots 3 (some .boolean) 14 cvI 59 [(2, .int x37), (1, .int y38), (0, .ref y39)] [] h (F_X3_findsLots_L59 n K y38 y39 f x37 h k) := by
  intro f
  induction f with
  | zero =>
    intro x37 h k hk
    exact s_none
  | succ f ih =>
    intro x37 h k hk
    unfold F_X3_findsLots_L59
    refine s_iload_n dX3_findsLots_59 0 rfl ?_
    refine s_iconst (1 : Int32) dX3_findsLots_60 (by decide) ?_
    refine s_aload_n dX3_findsLots_61 2 rfl ?_
    refine s_chk (fun hk42 => ?_)
    refine s_callV_I 4 (kX3_chosen G n K hK y39 h) (by decide) (by decide) dX3_findsLots_62 hk42 rfl rfl q1671 q1673 qs91 q109 q1674 hyX3_chosen rfl rfl (Nat.le_of_ble_eq_true rfl) (fun r40 h41 => ?_)
    refine s_ishl dX3_findsLots_65 ?_
    refine s_icmp_ge 93 dX3_findsLots_66 (by decide) (fun c43 => ?_) (fun c43 => ?_)
    · refine s_sub [1, 2] rfl ?_
      exact hk h41
    · refine s_iload_n dX3_findsLots_69 0 rfl ?_
      refine s_callS_I (kJ15_bitCount G n K hK x37 h41) (by decide) (by decide) dX3_findsLots_70 q1688 q1082 q130 q1083 hyJ15_bitCount rfl rfl (Nat.le_of_ble_eq_true rfl) (fun r44 h45 => ?_)
      refine s_iload_n dX3_findsLots_73 1 rfl ?_
      refine s_icmp_ne 87 dX3_findsLots_74 (by decide) (fun c46 => ?_) (fun c46 => ?_)
      · refine s_iinc (1 : Int32) [(2, .int (x37 + (1 : Int32))), (1, .int y38), (0, .ref y39)] dX3_findsLots_87 0 rfl (by decide) (by decide) (by decide) rfl ?_
        refine s_goto 59 dX3_findsLots_90 (by decide) ?_
        exact ih (x37 + (1 : Int32)) h45 k hk
      · refine s_aload_n dX3_findsLots_77 2 rfl ?_
        refine s_iload_n dX3_findsLots_78 0 rfl ?_
        refine s_chk (fun hk49 => ?_)
        refine s_callV_I 4 (kX3_isLot G n K hK y39 x37 h45) (by decide) (by decide) dX3_findsLots_79 hk49 rfl rfl q1689 q1691 qs94 q109 q1692 hyX3_isLot rfl rfl (Nat.le_of_ble_eq_true rfl) (fun r47 h48 => ?_)
        refine s_if_eq 87 dX3_findsLots_82 (by decide) (fun c50 => ?_) (fun c50 => ?_)
        · refine s_iinc (1 : Int32) [(2, .int (x37 + (1 : Int32))), (1, .int y38), (0, .ref y39)] dX3_findsLots_87 0 rfl (by decide) (by decide) (by decide) rfl ?_
          refine s_goto 59 dX3_findsLots_90 (by decide) ?_
          exact ih (x37 + (1 : Int32)) h48 k hk
        · refine s_iconst (1 : Int32) dX3_findsLots_85 (by decide) ?_
          exact s_zret dX3_findsLots_86 rfl rfl rfl
theorem sX3_findsLots_L49 (G : Gl) (n : Nat) (K : Nat → Nat) (hK : K = G.ad) (y31 : Nat) : ∀ (f : Nat) (x30 : Int32) (h : AH), Sim G yX3_findsLots.cls yX3_findsLots.name cX3_findsLots 3 (some .boolean) 14 cvI 49 [(1, .int x30), (0, .ref y31)] [] h (F_X3_findsLots_L49 n K y31 f x30 h) := by
  intro f
  induction f with
  | zero =>
    intro x30 h
    exact s_none
  | succ f ih =>
    intro x30 h
    unfold F_X3_findsLots_L49
    refine s_iload_n dX3_findsLots_49 0 rfl ?_
    refine s_aload_n dX3_findsLots_50 1 rfl ?_
    refine s_chk (fun hk34 => ?_)
    refine s_callV_I 4 (kX3_chosen G n K hK y31 h) (by decide) (by decide) dX3_findsLots_51 hk34 rfl rfl q1671 q1673 qs91 q109 q1674 hyX3_chosen rfl rfl (Nat.le_of_ble_eq_true rfl) (fun r32 h33 => ?_)
    refine s_icmp_gt 99 dX3_findsLots_54 (by decide) (fun c35 => ?_) (fun c35 => ?_)
    · refine s_iconst (0 : Int32) dX3_findsLots_99 (by decide) ?_
      exact s_zret dX3_findsLots_100 rfl rfl rfl
    · refine s_iconst (1 : Int32) dX3_findsLots_57 (by decide) ?_
      refine s_istore_n [(2, .int (1 : Int32)), (1, .int x30), (0, .ref y31)] dX3_findsLots_58 (by decide) (by decide) rfl ?_
      refine sX3_findsLots_L59 G n K hK x30 y31 n (1 : Int32) h33 _ ?_
      intro h51
      refine s_iinc (2 : Int32) [(1, .int (x30 + (2 : Int32))), (0, .ref y31)] dX3_findsLots_93 0 rfl (by decide) (by decide) (by decide) rfl ?_
      refine s_goto 49 dX3_findsLots_96 (by decide) ?_
      exact ih (x30 + (2 : Int32)) h51
theorem kX3_findsLots (G : Gl) (n : Nat) (K : Nat → Nat) (hK : K = G.ad) (p0 : Nat) (h : AH) : OkM G yX3_findsLots cX3_findsLots 3 (some .boolean) 14 cvI [.ref p0] h (F_X3_findsLots n K p0 h) := by
  refine ok_of_sim [(0, .ref p0)] (by decide +kernel) (fun r => ⟨_, rfl⟩) (by simp [uns, lv_args, lg_sl, catI, catL, catA, va_rfc]) (by simp [uns, lv_args, lg_sl, catI, catL, catA, va_rfc]) (by simp [uns, lv_args, lg_sl, catI, catL, catA, va_rfc]) ?_
  unfold F_X3_findsLots
  refine s_iconst (0 : Int32) dX3_findsLots_0 (by decide) ?_
  refine s_istore_n [(1, .int (0 : Int32)), (0, .ref p0)] dX3_findsLots_1 (by decide) (by decide) rfl ?_
  refine sX3_findsLots_L2 G n K hK p0 n (0 : Int32) h _ ?_
  intro h28
  refine s_iconst (1 : Int32) dX3_findsLots_47 (by decide) ?_
  refine s_istore_n [(1, .int (1 : Int32)), (0, .ref p0)] dX3_findsLots_48 (by decide) (by decide) rfl ?_
  exact sX3_findsLots_L49 G n K hK p0 n (1 : Int32) h28
theorem hyX3_lot : yX3_lot.cls ≠ "java/lang/invoke/MethodHandle" ∧ yX3_lot.cls ≠ "java/lang/invoke/VarHandle" ∧ (parseMethodDescriptor yX3_lot.desc).map (fun d => d.parameters.length) = some 1 := by decide +kernel
theorem sX3_lot_L32 (G : Gl) (n : Nat) (K : Nat → Nat) (hK : K = G.ad) (y14 : Nat) (y15 : Int32) (h : AH) : ∀ (f : Nat) (x12 : Int32) (x13 : Int64), Sim G yX3_lot.cls yX3_lot.name cX3_lot 5 (some .int) 15 cvI 32 [(4, .int x12), (1002, .long x13), (0, .ref y14), (1, .int y15)] [] h (F_X3_lot_L32 n K y14 y15 h f x12 x13) := by
  intro f
  induction f with
  | zero =>
    intro x12 x13
    exact s_none
  | succ f ih =>
    intro x12 x13
    unfold F_X3_lot_L32
    refine s_iload dX3_lot_32 0 rfl (by decide) ?_
    refine s_bipush (8 : Int32) dX3_lot_34 (by decide) ?_
    refine s_icmp_ge 55 dX3_lot_36 (by decide) (fun c16 => ?_) (fun c16 => ?_)
    · refine s_iload_n dX3_lot_55 3 rfl ?_
      refine s_iconst (-1 : Int32) dX3_lot_56 (by decide) ?_
      refine s_icmp_ne 64 dX3_lot_57 (by decide) (fun c17 => ?_) (fun c17 => ?_)
      · refine s_aload_n dX3_lot_64 2 rfl ?_
        refine s_chk (fun hk18 => ?_)
        refine s_get (j := 41) 4 (va_rf (h.R y14 41)) dX3_lot_65 hk18 rfl (by decide) q1278 (Or.inl rfl) rfl ?_
        refine s_iload_n dX3_lot_68 3 rfl ?_
        refine s_ob (r := h.R y14 41) (fun z => [(4, .int x12), (1002, .long x13), (0, .ref y14), (1, .int y15)]) (fun z => [.int y15, z]) (fun a19 => ?_)
        refine s_chk (fun hk20 => ?_)
        refine s_chk (fun hi21 => ?_)
        refine s_lald dX3_lot_69 hk20 rfl hi21 ?_
        refine s_l2i dX3_lot_70 ?_
        exact s_iret dX3_lot_71 rfl rfl
      · refine s_lload_n dX3_lot_60 1 rfl ?_
        refine s_goto 70 dX3_lot_61 (by decide) ?_
        refine s_l2i dX3_lot_70 ?_
        exact s_iret dX3_lot_71 rfl rfl
    · refine s_lload_n dX3_lot_39 1 rfl ?_
      refine s_aload_n dX3_lot_40 2 rfl ?_
      refine s_chk (fun hk22 => ?_)
      refine s_get (j := 41) 4 (va_rf (h.R y14 41)) dX3_lot_41 hk22 rfl (by decide) q1278 (Or.inl rfl) rfl ?_
      refine s_iload dX3_lot_44 0 rfl (by decide) ?_
      refine s_ob (r := h.R y14 41) (fun z => [(4, .int x12), (1002, .long x13), (0, .ref y14), (1, .int y15)]) (fun z => [.int x12, z, .long x13]) (fun a23 => ?_)
      refine s_chk (fun hk24 => ?_)
      refine s_chk (fun hi25 => ?_)
      refine s_lald dX3_lot_46 hk24 rfl hi25 ?_
      refine s_ladd dX3_lot_47 ?_
      refine s_lstore_n [(1002, .long (x13 + (h.L a23 (ix x12)))), (4, .int x12), (0, .ref y14), (1, .int y15)] dX3_lot_48 (by decide) (by decide) rfl ?_
      refine s_iinc (1 : Int32) [(4, .int (x12 + (1 : Int32))), (1002, .long (x13 + (h.L a23 (ix x12)))), (0, .ref y14), (1, .int y15)] dX3_lot_49 1 rfl (by decide) (by decide) (by decide) rfl ?_
      refine s_goto 32 dX3_lot_52 (by decide) ?_
      exact ih (x12 + (1 : Int32)) (x13 + (h.L a23 (ix x12)))
theorem kX3_lot (G : Gl) (n : Nat) (K : Nat → Nat) (hK : K = G.ad) (p0 : Nat) (p1 : Int32) (h : AH) : OkM G yX3_lot cX3_lot 5 (some .int) 15 cvI [.ref p0, .int p1] h (F_X3_lot n K p0 p1 h) := by
  refine ok_of_sim [(0, .ref p0), (1, .int p1)] (by decide +kernel) (fun r => ⟨_, rfl⟩) (by simp [uns, lv_args, lg_sl, catI, catL, catA, va_rfc]) (by simp [uns, lv_args, lg_sl, catI, catL, catA, va_rfc]) (by simp [uns, lv_args, lg_sl, catI, catL, catA, va_rfc]) ?_
  unfold F_X3_lot
  refine s_iload_n dX3_lot_0 1 rfl ?_
  refine s_i2l dX3_lot_1 ?_
  refine s_ldc2 (v := (-1 : Int64)) dX3_lot_2 q1683 ?_
  refine s_aload_n dX3_lot_5 0 rfl ?_
  refine s_chk (fun hk3 => ?_)
  refine s_callV_I 4 (kX3_chosen G n K hK p0 h) (by decide) (by decide) dX3_lot_6 hk3 rfl rfl q1671 q1673 qs91 q109 q1674 hyX3_chosen rfl rfl (Nat.le_of_ble_eq_true rfl) (fun r1 h2 => ?_)
  refine s_iconst (1 : Int32) dX3_lot_9 (by decide) ?_
  refine s_isub dX3_lot_10 ?_
  refine s_i2l dX3_lot_11 ?_
  refine s_callS_I (kX3_in G n K hK p1.toInt64 (-1 : Int64) ((r1 - (1 : Int32)).toInt64) h2) (by decide) (by decide) dX3_lot_12 q1397 q1398 q109 q1399 hyX3_in rfl rfl (Nat.le_of_ble_eq_true rfl) (fun r4 h5 => ?_)
  refine s_if_eq 25 dX3_lot_15 (by decide) (fun c6 => ?_) (fun c6 => ?_)
  · refine s_iconst (-1 : Int32) dX3_lot_25 (by decide) ?_
    exact s_iret dX3_lot_26 rfl rfl
  · refine s_aload_n dX3_lot_18 0 rfl ?_
    refine s_chk (fun hk9 => ?_)
    refine s_callV_I 4 (kX3_findsLots G n K hK p0 h5) (by decide) (by decide) dX3_lot_19 hk9 rfl rfl q1684 q1686 qs93 q109 q1687 hyX3_findsLots rfl rfl (Nat.le_of_ble_eq_true rfl) (fun r7 h8 => ?_)
    refine s_if_ne 27 dX3_lot_22 (by decide) (fun c10 => ?_) (fun c10 => ?_)
    · refine s_lconst (0 : Int64) dX3_lot_27 (by decide) ?_
      refine s_lstore_n [(1002, .long (0 : Int64)), (0, .ref p0), (1, .int p1)] dX3_lot_28 (by decide) (by decide) rfl ?_
      refine s_iconst (0 : Int32) dX3_lot_29 (by decide) ?_
      refine s_istore [(4, .int (0 : Int32)), (1002, .long (0 : Int64)), (0, .ref p0), (1, .int p1)] dX3_lot_30 (by decide) (by decide) rfl ?_
      exact sX3_lot_L32 G n K hK p0 p1 h8 n (0 : Int32) (0 : Int64)
    · refine s_iconst (-1 : Int32) dX3_lot_25 (by decide) ?_
      exact s_iret dX3_lot_26 rfl rfl
theorem hyX3_needOf : yX3_needOf.cls ≠ "java/lang/invoke/MethodHandle" ∧ yX3_needOf.cls ≠ "java/lang/invoke/VarHandle" ∧ (parseMethodDescriptor yX3_needOf.desc).map (fun d => d.parameters.length) = some 1 := by decide +kernel
theorem sX3_needOf_L4 (G : Gl) (n : Nat) (K : Nat → Nat) (hK : K = G.ad) (y4 : Nat) (y5 : Int32) : ∀ (f : Nat) (x2 : Int32) (x3 : Int32) (h : AH), Sim G yX3_needOf.cls yX3_needOf.name cX3_needOf 4 (some .int) 5 cvI 4 [(3, .int x2), (2, .int x3), (0, .ref y4), (1, .int y5)] [] h (F_X3_needOf_L4 n K y4 y5 f x2 x3 h) := by
  intro f
  induction f with
  | zero =>
    intro x2 x3 h
    exact s_none
  | succ f ih =>
    intro x2 x3 h
    unfold F_X3_needOf_L4
    refine s_iload_n dX3_needOf_4 0 rfl ?_
    refine s_aload_n dX3_needOf_5 2 rfl ?_
    refine s_chk (fun hk8 => ?_)
    refine s_callV_I 4 (kX3_places G n K hK y4 h) (by decide) (by decide) dX3_needOf_6 hk8 rfl rfl q1495 q1497 qs65 q109 q1498 hyX3_places rfl rfl (Nat.le_of_ble_eq_true rfl) (fun r6 h7 => ?_)
    refine s_icmp_ge 34 dX3_needOf_9 (by decide) (fun c9 => ?_) (fun c9 => ?_)
    · refine s_iload_n dX3_needOf_34 1 rfl ?_
      exact s_iret dX3_needOf_35 rfl rfl
    · refine s_iload_n dX3_needOf_12 0 rfl ?_
      refine s_iload_n dX3_needOf_13 3 rfl ?_
      refine s_icmp_eq 28 dX3_needOf_14 (by decide) (fun c10 => ?_) (fun c10 => ?_)
      · refine s_iinc (1 : Int32) [(3, .int (x2 + (1 : Int32))), (2, .int x3), (0, .ref y4), (1, .int y5)] dX3_needOf_28 0 rfl (by decide) (by decide) (by decide) rfl ?_
        refine s_goto 4 dX3_needOf_31 (by decide) ?_
        exact ih (x2 + (1 : Int32)) x3 h7
      · refine s_iload_n dX3_needOf_17 1 rfl ?_
        refine s_aload_n dX3_needOf_18 2 rfl ?_
        refine s_iload_n dX3_needOf_19 0 rfl ?_
        refine s_iload_n dX3_needOf_20 3 rfl ?_
        refine s_chk (fun hk13 => ?_)
        refine s_callV_I 4 (kX3_votesOf G n K hK y4 x2 y5 h7) (by decide) (by decide) dX3_needOf_21 hk13 rfl rfl q1524 q1526 qs68 q109 q1527 hyX3_votesOf rfl rfl (Nat.le_of_ble_eq_true rfl) (fun r11 h12 => ?_)
        refine s_mmax dX3_needOf_24 (by decide) q1469 q474 q116 q475 (Nat.le_of_ble_eq_true rfl) ?_
        refine s_istore_n [(2, .int (if x3 < r11 then r11 else x3)), (3, .int x2), (0, .ref y4), (1, .int y5)] dX3_needOf_27 (by decide) (by decide) rfl ?_
        refine s_iinc (1 : Int32) [(3, .int (x2 + (1 : Int32))), (2, .int (if x3 < r11 then r11 else x3)), (0, .ref y4), (1, .int y5)] dX3_needOf_28 1 rfl (by decide) (by decide) (by decide) rfl ?_
        refine s_goto 4 dX3_needOf_31 (by decide) ?_
        exact ih (x2 + (1 : Int32)) (if x3 < r11 then r11 else x3) h12
theorem kX3_needOf (G : Gl) (n : Nat) (K : Nat → Nat) (hK : K = G.ad) (p0 : Nat) (p1 : Int32) (h : AH) : OkM G yX3_needOf cX3_needOf 4 (some .int) 5 cvI [.ref p0, .int p1] h (F_X3_needOf n K p0 p1 h) := by
  refine ok_of_sim [(0, .ref p0), (1, .int p1)] (by decide +kernel) (fun r => ⟨_, rfl⟩) (by simp [uns, lv_args, lg_sl, catI, catL, catA, va_rfc]) (by simp [uns, lv_args, lg_sl, catI, catL, catA, va_rfc]) (by simp [uns, lv_args, lg_sl, catI, catL, catA, va_rfc]) ?_
  unfold F_X3_needOf
  refine s_iconst (0 : Int32) dX3_needOf_0 (by decide) ?_
  refine s_istore_n [(2, .int (0 : Int32)), (0, .ref p0), (1, .int p1)] dX3_needOf_1 (by decide) (by decide) rfl ?_
  refine s_iconst (0 : Int32) dX3_needOf_2 (by decide) ?_
  refine s_istore_n [(3, .int (0 : Int32)), (2, .int (0 : Int32)), (0, .ref p0), (1, .int p1)] dX3_needOf_3 (by decide) (by decide) rfl ?_
  exact sX3_needOf_L4 G n K hK p0 p1 n (0 : Int32) (0 : Int32) h
theorem hyX3_need : yX3_need.cls ≠ "java/lang/invoke/MethodHandle" ∧ yX3_need.cls ≠ "java/lang/invoke/VarHandle" ∧ (parseMethodDescriptor yX3_need.desc).map (fun d => d.parameters.length) = some 1 := by decide +kernel
theorem sX3_need_L38 (G : Gl) (n : Nat) (K : Nat → Nat) (hK : K = G.ad) (y11 : Nat) : ∀ (f : Nat) (x9 : Int32) (x10 : Int32) (h : AH), Sim G yX3_need.cls yX3_need.name cX3_need 4 (some .int) 6 cvI 38 [(3, .int x9), (2, .int x10), (0, .ref y11)] [] h (F_X3_need_L38 n K y11 f x9 x10 h) := by
  intro f
  induction f with
  | zero =>
    intro x9 x10 h
    exact s_none
  | succ f ih =>
    intro x9 x10 h
    unfold F_X3_need_L38
    refine s_iload_n dX3_need_38 0 rfl ?_
    refine s_aload_n dX3_need_39 2 rfl ?_
    refine s_chk (fun hk14 => ?_)
    refine s_callV_I 4 (kX3_places G n K hK y11 h) (by decide) (by decide) dX3_need_40 hk14 rfl rfl q1495 q1497 qs65 q109 q1498 hyX3_places rfl rfl (Nat.le_of_ble_eq_true rfl) (fun r12 h13 => ?_)
    refine s_icmp_ge 67 dX3_need_43 (by decide) (fun c15 => ?_) (fun c15 => ?_)
    · refine s_iload_n dX3_need_67 1 rfl ?_
      exact s_iret dX3_need_68 rfl rfl
    · refine s_aload_n dX3_need_46 2 rfl ?_
      refine s_iload_n dX3_need_47 0 rfl ?_
      refine s_chk (fun hk18 => ?_)
      refine s_callV_I 4 (kX3_needOf G n K hK y11 x9 h13) (by decide) (by decide) dX3_need_48 hk18 rfl rfl q1702 q1704 qs96 q109 q1705 hyX3_needOf rfl rfl (Nat.le_of_ble_eq_true rfl) (fun r16 h17 => ?_)
      refine s_aload_n dX3_need_51 2 rfl ?_
      refine s_iload_n dX3_need_52 1 rfl ?_
      refine s_chk (fun hk21 => ?_)
      refine s_callV_I 4 (kX3_needOf G n K hK y11 x10 h17) (by decide) (by decide) dX3_need_53 hk21 rfl rfl q1702 q1704 qs96 q109 q1705 hyX3_needOf rfl rfl (Nat.le_of_ble_eq_true rfl) (fun r19 h20 => ?_)
      refine s_icmp_ge 61 dX3_need_56 (by decide) (fun c22 => ?_) (fun c22 => ?_)
      · refine s_iinc (1 : Int32) [(3, .int (x9 + (1 : Int32))), (2, .int x10), (0, .ref y11)] dX3_need_61 0 rfl (by decide) (by decide) (by decide) rfl ?_
        refine s_goto 38 dX3_need_64 (by decide) ?_
        exact ih (x9 + (1 : Int32)) x10 h20
      · refine s_iload_n dX3_need_59 0 rfl ?_
        refine s_istore_n [(2, .int x9), (3, .int x9), (0, .ref y11)] dX3_need_60 (by decide) (by decide) rfl ?_
        refine s_iinc (1 : Int32) [(3, .int (x9 + (1 : Int32))), (2, .int x9), (0, .ref y11)] dX3_need_61 1 rfl (by decide) (by decide) (by decide) rfl ?_
        refine s_goto 38 dX3_need_64 (by decide) ?_
        exact ih (x9 + (1 : Int32)) x9 h20
theorem kX3_need (G : Gl) (n : Nat) (K : Nat → Nat) (hK : K = G.ad) (p0 : Nat) (p1 : Int32) (h : AH) : OkM G yX3_need cX3_need 4 (some .int) 6 cvI [.ref p0, .int p1] h (F_X3_need n K p0 p1 h) := by
  refine ok_of_sim [(0, .ref p0), (1, .int p1)] (by decide +kernel) (fun r => ⟨_, rfl⟩) (by simp [uns, lv_args, lg_sl, catI, catL, catA, va_rfc]) (by simp [uns, lv_args, lg_sl, catI, catL, catA, va_rfc]) (by simp [uns, lv_args, lg_sl, catI, catL, catA, va_rfc]) ?_
  unfold F_X3_need
  refine s_aload_n dX3_need_0 0 rfl ?_
  refine s_chk (fun hk3 => ?_)
  refine s_callV_I 4 (kX3_places G n K hK p0 h) (by decide) (by decide) dX3_need_1 hk3 rfl rfl q1495 q1497 qs65 q109 q1498 hyX3_places rfl rfl (Nat.le_of_ble_eq_true rfl) (fun r1 h2 => ?_)
  refine s_iconst (2 : Int32) dX3_need_4 (by decide) ?_
  refine s_icmp_lt 21 dX3_need_5 (by decide) (fun c4 => ?_) (fun c4 => ?_)
  · refine s_iconst (-1 : Int32) dX3_need_21 (by decide) ?_
    exact s_iret dX3_need_22 rfl rfl
  · refine s_iload_n dX3_need_8 1 rfl ?_
    refine s_iconst (-1 : Int32) dX3_need_9 (by decide) ?_
    refine s_jn (fun j6 => ∀ (h5 : AH), Sim G yX3_need.cls yX3_need.name cX3_need 4 (some .int) 6 cvI 23 [(0, .ref p0), (1, .int p1)] [] h5 (j6 h5)) ?_ (fun j6 hj26 => ?_)
    · intro h5
      refine s_iload_n dX3_need_23 1 rfl ?_
      refine s_iconst (-1 : Int32) dX3_need_24 (by decide) ?_
      refine s_icmp_eq 34 dX3_need_25 (by decide) (fun c7 => ?_) (fun c7 => ?_)
      · refine s_iconst (0 : Int32) dX3_need_34 (by decide) ?_
        refine s_istore_n [(2, .int (0 : Int32)), (0, .ref p0), (1, .int p1)] dX3_need_35 (by decide) (by decide) rfl ?_
        refine s_iconst (1 : Int32) dX3_need_36 (by decide) ?_
        refine s_istore_n [(3, .int (1 : Int32)), (2, .int (0 : Int32)), (0, .ref p0), (1, .int p1)] dX3_need_37 (by decide) (by decide) rfl ?_
        refine s_sub [0, 1, 2] rfl ?_
        exact sX3_need_L38 G n K hK p0 n (1 : Int32) (0 : Int32) h5
      · refine s_aload_n dX3_need_28 0 rfl ?_
        refine s_iload_n dX3_need_29 1 rfl ?_
        refine s_chk (fun hk25 => ?_)
        refine s_callV_I 4 (kX3_needOf G n K hK p0 p1 h5) (by decide) (by decide) dX3_need_30 hk25 rfl rfl q1702 q1704 qs96 q109 q1705 hyX3_needOf rfl rfl (Nat.le_of_ble_eq_true rfl) (fun r23 h24 => ?_)
        exact s_iret dX3_need_33 rfl rfl
    refine s_icmp_eq 23 dX3_need_10 (by decide) (fun c27 => ?_) (fun c27 => ?_)
    · exact hj26 h2
    · refine s_aload_n dX3_need_13 0 rfl ?_
      refine s_iload_n dX3_need_14 1 rfl ?_
      refine s_chk (fun hk30 => ?_)
      refine s_callV_I 4 (kX3_isPlace G n K hK p0 p1 h2) (by decide) (by decide) dX3_need_15 hk30 rfl rfl q1491 q1493 qs64 q109 q1494 hyX3_isPlace rfl rfl (Nat.le_of_ble_eq_true rfl) (fun r28 h29 => ?_)
      refine s_if_ne 23 dX3_need_18 (by decide) (fun c31 => ?_) (fun c31 => ?_)
      · exact hj26 h29
      · refine s_iconst (-1 : Int32) dX3_need_21 (by decide) ?_
        exact s_iret dX3_need_22 rfl rfl
