set_option maxRecDepth 100000
theorem hyX3_isPlace : yX3_isPlace.cls ≠ "java/lang/invoke/MethodHandle" ∧ yX3_isPlace.cls ≠ "java/lang/invoke/VarHandle" ∧ (parseMethodDescriptor yX3_isPlace.desc).map (fun d => d.parameters.length) = some 1 := by decide +kernel
theorem kX3_isPlace (G : Gl) (n : Nat) (K : Nat → Nat) (hK : K = G.ad) (p0 : Nat) (p1 : Int32) (h : AH) : OkM G yX3_isPlace cX3_isPlace 2 (some .boolean) 2 cvI [.ref p0, .int p1] h (F_X3_isPlace n K p0 p1 h) := by
  refine ok_of_sim [(0, .ref p0), (1, .int p1)] (by decide +kernel) (fun r => ⟨_, rfl⟩) (by simp [uns, lv_args, lg_sl, catI, catL, catA, va_rfc]) (by simp [uns, lv_args, lg_sl, catI, catL, catA, va_rfc]) (by simp [uns, lv_args, lg_sl, catI, catL, catA, va_rfc]) ?_
  unfold F_X3_isPlace
  refine s_iload_n dX3_isPlace_0 1 rfl ?_
  refine s_i2l dX3_isPlace_1 ?_
  refine s_lconst (0 : Int64) dX3_isPlace_2 (by decide) ?_
  refine s_aload_n dX3_isPlace_3 0 rfl ?_
  refine s_chk (fun hk3 => ?_)
  refine s_callV_I 4 (kX3_places G n K hK p0 h) (by decide) (by decide) dX3_isPlace_4 hk3 rfl rfl q1495 q1497 qs65 q109 q1498 hyX3_places rfl rfl (Nat.le_of_ble_eq_true rfl) (fun r1 h2 => ?_)
  refine s_iconst (1 : Int32) dX3_isPlace_7 (by decide) ?_
  refine s_isub dX3_isPlace_8 ?_
  refine s_i2l dX3_isPlace_9 ?_
  refine s_callS_I (kX3_in G n K hK p1.toInt64 (0 : Int64) ((r1 - (1 : Int32)).toInt64) h2) (by decide) (by decide) dX3_isPlace_10 q1397 q1398 q109 q1399 hyX3_in rfl rfl (Nat.le_of_ble_eq_true rfl) (fun r4 h5 => ?_)
  refine s_chk (fun hb6 => ?_)
  exact s_zret dX3_isPlace_13 rfl (nb01 hb6) rfl
theorem hyX3_place : yX3_place.cls ≠ "java/lang/invoke/MethodHandle" ∧ yX3_place.cls ≠ "java/lang/invoke/VarHandle" ∧ (parseMethodDescriptor yX3_place.desc).map (fun d => d.parameters.length) = some 2 := by decide +kernel
theorem kX3_place (G : Gl) (n : Nat) (K : Nat → Nat) (hK : K = G.ad) (p0 : Nat) (p1 : Int32) (p2 : Int32) (h : AH) : OkM G yX3_place cX3_place 3 (some .int) 3 cvI [.ref p0, .int p1, .int p2] h (F_X3_place n K p0 p1 p2 h) := by
  refine ok_of_sim [(0, .ref p0), (1, .int p1), (2, .int p2)] (by decide +kernel) (fun r => ⟨_, rfl⟩) (by simp [uns, lv_args, lg_sl, catI, catL, catA, va_rfc]) (by simp [uns, lv_args, lg_sl, catI, catL, catA, va_rfc]) (by simp [uns, lv_args, lg_sl, catI, catL, catA, va_rfc]) ?_
  unfold F_X3_place
  refine s_aload_n dX3_place_0 0 rfl ?_
  refine s_iload_n dX3_place_1 1 rfl ?_
  refine s_chk (fun hk3 => ?_)
  refine s_callV_I 4 (kX3_isPlace G n K hK p0 p1 h) (by decide) (by decide) dX3_place_2 hk3 rfl rfl q1491 q1493 qs64 q109 q1494 hyX3_isPlace rfl rfl (Nat.le_of_ble_eq_true rfl) (fun r1 h2 => ?_)
  refine s_if_eq 18 dX3_place_5 (by decide) (fun c4 => ?_) (fun c4 => ?_)
  · refine s_iconst (-1 : Int32) dX3_place_18 (by decide) ?_
    refine s_goto 45 dX3_place_19 (by decide) ?_
    exact s_iret dX3_place_45 rfl rfl
  · refine s_iload_n dX3_place_8 2 rfl ?_
    refine s_i2l dX3_place_9 ?_
    refine s_lconst (0 : Int64) dX3_place_10 (by decide) ?_
    refine s_lconst (1 : Int64) dX3_place_11 (by decide) ?_
    refine s_callS_I (kX3_in G n K hK p2.toInt64 (0 : Int64) (1 : Int64) h2) (by decide) (by decide) dX3_place_12 q1397 q1398 q109 q1399 hyX3_in rfl rfl (Nat.le_of_ble_eq_true rfl) (fun r5 h6 => ?_)
    refine s_if_ne 22 dX3_place_15 (by decide) (fun c7 => ?_) (fun c7 => ?_)
    · refine s_iload_n dX3_place_22 2 rfl ?_
      refine s_if_ne 37 dX3_place_23 (by decide) (fun c8 => ?_) (fun c8 => ?_)
      · refine s_aload_n dX3_place_37 0 rfl ?_
        refine s_chk (fun hk9 => ?_)
        refine s_get (j := 13) 4 (va_rf (h6.R p0 13)) dX3_place_38 hk9 rfl (by decide) q1250 (Or.inl rfl) rfl ?_
        refine s_iconst (0 : Int32) dX3_place_41 (by decide) ?_
        refine s_ob (r := h6.R p0 13) (fun z => [(0, .ref p0), (1, .int p1), (2, .int p2)]) (fun z => [.int (0 : Int32), z]) (fun a10 => ?_)
        refine s_chk (fun hk11 => ?_)
        refine s_chk (fun hi12 => ?_)
        refine s_aald dX3_place_42 hk11 rfl rfl rfl hi12 ?_
        refine s_iload_n dX3_place_43 1 rfl ?_
        refine s_ob (r := h6.R a10 (ix (0 : Int32))) (fun z => [(0, .ref p0), (1, .int p1), (2, .int p2)]) (fun z => [.int p1, z]) (fun a13 => ?_)
        refine s_chk (fun hk14 => ?_)
        refine s_chk (fun hi15 => ?_)
        refine s_iald dX3_place_44 hk14 rfl hi15 ?_
        exact s_iret dX3_place_45 rfl rfl
      · refine s_aload_n dX3_place_26 0 rfl ?_
        refine s_chk (fun hk16 => ?_)
        refine s_get (j := 12) 4 (va_rf (h6.R p0 12)) dX3_place_27 hk16 rfl (by decide) q1249 (Or.inl rfl) rfl ?_
        refine s_iconst (0 : Int32) dX3_place_30 (by decide) ?_
        refine s_ob (r := h6.R p0 12) (fun z => [(0, .ref p0), (1, .int p1), (2, .int p2)]) (fun z => [.int (0 : Int32), z]) (fun a17 => ?_)
        refine s_chk (fun hk18 => ?_)
        refine s_chk (fun hi19 => ?_)
        refine s_aald dX3_place_31 hk18 rfl rfl rfl hi19 ?_
        refine s_iload_n dX3_place_32 1 rfl ?_
        refine s_ob (r := h6.R a17 (ix (0 : Int32))) (fun z => [(0, .ref p0), (1, .int p1), (2, .int p2)]) (fun z => [.int p1, z]) (fun a20 => ?_)
        refine s_chk (fun hk21 => ?_)
        refine s_chk (fun hi22 => ?_)
        refine s_iald dX3_place_33 hk21 rfl hi22 ?_
        refine s_goto 45 dX3_place_34 (by decide) ?_
        exact s_iret dX3_place_45 rfl rfl
    · refine s_iconst (-1 : Int32) dX3_place_18 (by decide) ?_
      refine s_goto 45 dX3_place_19 (by decide) ?_
      exact s_iret dX3_place_45 rfl rfl
theorem hyX3_isPoint : yX3_isPoint.cls ≠ "java/lang/invoke/MethodHandle" ∧ yX3_isPoint.cls ≠ "java/lang/invoke/VarHandle" ∧ (parseMethodDescriptor yX3_isPoint.desc).map (fun d => d.parameters.length) = some 2 := by decide +kernel
theorem kX3_isPoint (G : Gl) (n : Nat) (K : Nat → Nat) (hK : K = G.ad) (p0 : Int32) (p1 : Int32) (h : AH) : OkM G yX3_isPoint cX3_isPoint 2 (some .boolean) 2 cvI [.int p0, .int p1] h (F_X3_isPoint n K p0 p1 h) := by
  refine ok_of_sim [(0, .int p0), (1, .int p1)] (by decide +kernel) (fun r => ⟨_, rfl⟩) (by simp [uns, lv_args, lg_sl, catI, catL, catA, va_rfc]) (by simp [uns, lv_args, lg_sl, catI, catL, catA, va_rfc]) (by simp [uns, lv_args, lg_sl, catI, catL, catA, va_rfc]) ?_
  unfold F_X3_isPoint
  refine s_iload_n dX3_isPoint_0 0 rfl ?_
  refine s_i2l dX3_isPoint_1 ?_
  refine s_lconst (0 : Int64) dX3_isPoint_2 (by decide) ?_
  refine s_ldc2 (v := (99 : Int64)) dX3_isPoint_3 q1506 ?_
  refine s_callS_I (kX3_in G n K hK p0.toInt64 (0 : Int64) (99 : Int64) h) (by decide) (by decide) dX3_isPoint_6 q1397 q1398 q109 q1399 hyX3_in rfl rfl (Nat.le_of_ble_eq_true rfl) (fun r1 h2 => ?_)
  refine s_if_eq 28 dX3_isPoint_9 (by decide) (fun c3 => ?_) (fun c3 => ?_)
  · refine s_iconst (0 : Int32) dX3_isPoint_28 (by decide) ?_
    exact s_zret dX3_isPoint_29 rfl rfl rfl
  · refine s_iload_n dX3_isPoint_12 1 rfl ?_
    refine s_i2l dX3_isPoint_13 ?_
    refine s_lconst (0 : Int64) dX3_isPoint_14 (by decide) ?_
    refine s_ldc2 (v := (99 : Int64)) dX3_isPoint_15 q1506 ?_
    refine s_callS_I (kX3_in G n K hK p1.toInt64 (0 : Int64) (99 : Int64) h2) (by decide) (by decide) dX3_isPoint_18 q1397 q1398 q109 q1399 hyX3_in rfl rfl (Nat.le_of_ble_eq_true rfl) (fun r4 h5 => ?_)
    refine s_if_eq 28 dX3_isPoint_21 (by decide) (fun c6 => ?_) (fun c6 => ?_)
    · refine s_iconst (0 : Int32) dX3_isPoint_28 (by decide) ?_
      exact s_zret dX3_isPoint_29 rfl rfl rfl
    · refine s_iconst (1 : Int32) dX3_isPoint_24 (by decide) ?_
      refine s_goto 29 dX3_isPoint_25 (by decide) ?_
      exact s_zret dX3_isPoint_29 rfl rfl rfl
theorem hyX3_propose : yX3_propose.cls ≠ "java/lang/invoke/MethodHandle" ∧ yX3_propose.cls ≠ "java/lang/invoke/VarHandle" ∧ (parseMethodDescriptor yX3_propose.desc).map (fun d => d.parameters.length) = some 2 := by decide +kernel
theorem kX3_propose (G : Gl) (n : Nat) (K : Nat → Nat) (hK : K = G.ad) (p0 : Nat) (p1 : Int32) (p2 : Int32) (h : AH) : OkM G yX3_propose cX3_propose 3 (some .int) 3 cvI [.ref p0, .int p1, .int p2] h (F_X3_propose n K p0 p1 p2 h) := by
  refine ok_of_sim [(0, .ref p0), (1, .int p1), (2, .int p2)] (by decide +kernel) (fun r => ⟨_, rfl⟩) (by simp [uns, lv_args, lg_sl, catI, catL, catA, va_rfc]) (by simp [uns, lv_args, lg_sl, catI, catL, catA, va_rfc]) (by simp [uns, lv_args, lg_sl, catI, catL, catA, va_rfc]) ?_
  unfold F_X3_propose
  refine s_aload_n dX3_propose_0 0 rfl ?_
  refine s_chk (fun hk3 => ?_)
  refine s_callV_I 4 (kX3_voters G n K hK p0 h) (by decide) (by decide) dX3_propose_1 hk3 rfl rfl q1475 q1477 qs62 q109 q1478 hyX3_voters rfl rfl (Nat.le_of_ble_eq_true rfl) (fun r1 h2 => ?_)
  refine s_if_eq 24 dX3_propose_4 (by decide) (fun c4 => ?_) (fun c4 => ?_)
  · refine s_iconst (-1 : Int32) dX3_propose_24 (by decide) ?_
    exact s_iret dX3_propose_25 rfl rfl
  · refine s_iload_n dX3_propose_7 1 rfl ?_
    refine s_iload_n dX3_propose_8 2 rfl ?_
    refine s_callS_I (kX3_isPoint G n K hK p1 p2 h2) (by decide) (by decide) dX3_propose_9 q1503 q1504 q109 q1505 hyX3_isPoint rfl rfl (Nat.le_of_ble_eq_true rfl) (fun r5 h6 => ?_)
    refine s_if_eq 24 dX3_propose_12 (by decide) (fun c7 => ?_) (fun c7 => ?_)
    · refine s_iconst (-1 : Int32) dX3_propose_24 (by decide) ?_
      exact s_iret dX3_propose_25 rfl rfl
    · refine s_aload_n dX3_propose_15 0 rfl ?_
      refine s_chk (fun hk10 => ?_)
      refine s_callV_I 4 (kX3_places G n K hK p0 h6) (by decide) (by decide) dX3_propose_16 hk10 rfl rfl q1495 q1497 qs65 q109 q1498 hyX3_places rfl rfl (Nat.le_of_ble_eq_true rfl) (fun r8 h9 => ?_)
      refine s_bipush (20 : Int32) dX3_propose_19 (by decide) ?_
      refine s_icmp_ne 26 dX3_propose_21 (by decide) (fun c11 => ?_) (fun c11 => ?_)
      · refine s_aload_n dX3_propose_26 0 rfl ?_
        refine s_chk (fun hk12 => ?_)
        refine s_get (j := 12) 4 (va_rf (h9.R p0 12)) dX3_propose_27 hk12 rfl (by decide) q1249 (Or.inl rfl) rfl ?_
        refine s_iconst (0 : Int32) dX3_propose_30 (by decide) ?_
        refine s_ob (r := h9.R p0 12) (fun z => [(0, .ref p0), (1, .int p1), (2, .int p2)]) (fun z => [.int (0 : Int32), z]) (fun a13 => ?_)
        refine s_chk (fun hk14 => ?_)
        refine s_chk (fun hi15 => ?_)
        refine s_aald dX3_propose_31 hk14 rfl rfl rfl hi15 ?_
        refine s_aload_n dX3_propose_32 0 rfl ?_
        refine s_callV_I 4 (kX3_places G n K hK p0 h9) (by decide) (by decide) dX3_propose_33 hk12 rfl rfl q1495 q1497 qs65 q109 q1498 hyX3_places rfl rfl (by simp [catI, catL, catA, va_rfc]) (fun r16 h17 => ?_)
        refine s_iload_n dX3_propose_36 1 rfl ?_
        refine s_ob (r := h9.R a13 (ix (0 : Int32))) (fun z => [(0, .ref p0), (1, .int p1), (2, .int p2)]) (fun z => [.int p1, .int r16, z]) (fun a18 => ?_)
        refine s_chk (fun hk19 => ?_)
        refine s_chk (fun hi20 => ?_)
        refine s_iast dX3_propose_37 hk19 rfl (by decide) hi20 ?_
        refine s_hl (fun h21 e22 => ?_)
        refine s_aload_n dX3_propose_38 0 rfl ?_
        refine s_chk (fun hk23 => ?_)
        refine s_get (j := 13) 4 (va_rf (h21.R p0 13)) dX3_propose_39 hk23 rfl (by decide) q1250 (Or.inl rfl) rfl ?_
        refine s_iconst (0 : Int32) dX3_propose_42 (by decide) ?_
        refine s_ob (r := h21.R p0 13) (fun z => [(0, .ref p0), (1, .int p1), (2, .int p2)]) (fun z => [.int (0 : Int32), z]) (fun a24 => ?_)
        refine s_chk (fun hk25 => ?_)
        refine s_chk (fun hi26 => ?_)
        refine s_aald dX3_propose_43 hk25 rfl rfl rfl hi26 ?_
        refine s_aload_n dX3_propose_44 0 rfl ?_
        refine s_callV_I 4 (kX3_places G n K hK p0 h21) (by decide) (by decide) dX3_propose_45 hk23 rfl rfl q1495 q1497 qs65 q109 q1498 hyX3_places rfl rfl (by simp [catI, catL, catA, va_rfc]) (fun r27 h28 => ?_)
        refine s_iload_n dX3_propose_48 2 rfl ?_
        refine s_ob (r := h21.R a24 (ix (0 : Int32))) (fun z => [(0, .ref p0), (1, .int p1), (2, .int p2)]) (fun z => [.int p2, .int r27, z]) (fun a29 => ?_)
        refine s_chk (fun hk30 => ?_)
        refine s_chk (fun hi31 => ?_)
        refine s_iast dX3_propose_49 hk30 rfl (by decide) hi31 ?_
        refine s_hl (fun h32 e33 => ?_)
        refine s_aload_n dX3_propose_50 0 rfl ?_
        refine s_chk (fun hk34 => ?_)
        refine s_get (j := 15) 4 (va_rf (h32.R p0 15)) dX3_propose_51 hk34 rfl (by decide) q1252 (Or.inl rfl) rfl ?_
        refine s_iconst (0 : Int32) dX3_propose_54 (by decide) ?_
        refine s_dup2_11 dX3_propose_55 rfl (va_rfc _) ?_
        refine s_ob (r := h32.R p0 15) (fun z => [(0, .ref p0), (1, .int p1), (2, .int p2)]) (fun z => [.int (0 : Int32), z, .int (0 : Int32), z]) (fun a35 => ?_)
        refine s_chk (fun hk36 => ?_)
        refine s_chk (fun hi37 => ?_)
        refine s_iald dX3_propose_56 hk36 rfl hi37 ?_
        refine s_iconst (1 : Int32) dX3_propose_57 (by decide) ?_
        refine s_iadd dX3_propose_58 ?_
        refine s_chk (fun hi38 => ?_)
        refine s_iast dX3_propose_59 hk36 rfl (by decide) hi38 ?_
        refine s_hl (fun h39 e40 => ?_)
        refine s_aload_n dX3_propose_60 0 rfl ?_
        refine s_callV_I 4 (kX3_places G n K hK p0 h39) (by decide) (by decide) dX3_propose_61 (show h39.kind p0 = 5 by rw [e40]; exact hk34) rfl rfl q1495 q1497 qs65 q109 q1498 hyX3_places rfl rfl (Nat.le_of_ble_eq_true rfl) (fun r41 h42 => ?_)
        refine s_iconst (1 : Int32) dX3_propose_64 (by decide) ?_
        refine s_isub dX3_propose_65 ?_
        exact s_iret dX3_propose_66 rfl rfl
      · refine s_iconst (-1 : Int32) dX3_propose_24 (by decide) ?_
        exact s_iret dX3_propose_25 rfl rfl
theorem hyX3_wayFrom : yX3_wayFrom.cls ≠ "java/lang/invoke/MethodHandle" ∧ yX3_wayFrom.cls ≠ "java/lang/invoke/VarHandle" ∧ (parseMethodDescriptor yX3_wayFrom.desc).map (fun d => d.parameters.length) = some 5 := by decide +kernel
theorem kX3_wayFrom (G : Gl) (n : Nat) (K : Nat → Nat) (hK : K = G.ad) (p0 : Nat) (p1 : Int32) (p2 : Int32) (p3 : Int32) (p4 : Int32) (p5 : Int32) (h : AH) : OkM G yX3_wayFrom cX3_wayFrom 8 (some .int) 1 cvI [.ref p0, .int p1, .int p2, .int p3, .int p4, .int p5] h (F_X3_wayFrom n K p0 p1 p2 p3 p4 p5 h) := by
  refine ok_of_sim [(0, .ref p0), (1, .int p1), (2, .int p2), (3, .int p3), (4, .int p4), (5, .int p5)] (by decide +kernel) (fun r => ⟨_, rfl⟩) (by simp [uns, lv_args, lg_sl, catI, catL, catA, va_rfc]) (by simp [uns, lv_args, lg_sl, catI, catL, catA, va_rfc]) (by simp [uns, lv_args, lg_sl, catI, catL, catA, va_rfc]) ?_
  unfold F_X3_wayFrom
  refine s_iload dX3_wayFrom_0 4 rfl (by decide) ?_
  refine s_iload_n dX3_wayFrom_2 2 rfl ?_
  refine s_isub dX3_wayFrom_3 ?_
  refine s_mabs dX3_wayFrom_4 (by decide) q1519 q813 q116 q814 (Nat.le_of_ble_eq_true rfl) ?_
  refine s_aload_n dX3_wayFrom_7 0 rfl ?_
  refine s_chk (fun hk1 => ?_)
  refine s_get (j := 10) 4 (va_rf (h.R p0 10)) dX3_wayFrom_8 hk1 rfl (by decide) q1247 (Or.inl rfl) rfl ?_
  refine s_iconst (0 : Int32) dX3_wayFrom_11 (by decide) ?_
  refine s_ob (r := h.R p0 10) (fun z => [(0, .ref p0), (1, .int p1), (2, .int p2), (3, .int p3), (4, .int p4), (5, .int p5)]) (fun z => [.int (0 : Int32), z, .int (if 0 ≤ (p4 - p2) then (p4 - p2) else 0 - (p4 - p2))]) (fun a2 => ?_)
  refine s_chk (fun hk3 => ?_)
  refine s_chk (fun hi4 => ?_)
  refine s_aald dX3_wayFrom_12 hk3 rfl rfl rfl hi4 ?_
  refine s_iload_n dX3_wayFrom_13 1 rfl ?_
  refine s_ob (r := h.R a2 (ix (0 : Int32))) (fun z => [(0, .ref p0), (1, .int p1), (2, .int p2), (3, .int p3), (4, .int p4), (5, .int p5)]) (fun z => [.int p1, z, .int (if 0 ≤ (p4 - p2) then (p4 - p2) else 0 - (p4 - p2))]) (fun a5 => ?_)
  refine s_chk (fun hk6 => ?_)
  refine s_chk (fun hi7 => ?_)
  refine s_iald dX3_wayFrom_14 hk6 rfl hi7 ?_
  refine s_imul dX3_wayFrom_15 ?_
  refine s_istore [(6, .int ((if 0 ≤ (p4 - p2) then (p4 - p2) else 0 - (p4 - p2)) * (h.I a5 (ix p1)))), (0, .ref p0), (1, .int p1), (2, .int p2), (3, .int p3), (4, .int p4), (5, .int p5)] dX3_wayFrom_16 (by decide) (by decide) rfl ?_
  refine s_iload dX3_wayFrom_18 6 rfl (by decide) ?_
  refine s_iload_n dX3_wayFrom_20 4 rfl ?_
  refine s_isub dX3_wayFrom_21 ?_
  refine s_mabs dX3_wayFrom_22 (by decide) q1519 q813 q116 q814 (Nat.le_of_ble_eq_true rfl) ?_
  refine s_aload_n dX3_wayFrom_25 1 rfl ?_
  refine s_get (j := 11) 4 (va_rf (h.R p0 11)) dX3_wayFrom_26 hk1 rfl (by decide) q1248 (Or.inl rfl) rfl ?_
  refine s_iconst (0 : Int32) dX3_wayFrom_29 (by decide) ?_
  refine s_ob (r := h.R p0 11) (fun z => [(6, .int ((if 0 ≤ (p4 - p2) then (p4 - p2) else 0 - (p4 - p2)) * (h.I a5 (ix p1)))), (0, .ref p0), (1, .int p1), (2, .int p2), (3, .int p3), (4, .int p4), (5, .int p5)]) (fun z => [.int (0 : Int32), z, .int (if 0 ≤ (p5 - p3) then (p5 - p3) else 0 - (p5 - p3))]) (fun a8 => ?_)
  refine s_chk (fun hk9 => ?_)
  refine s_chk (fun hi10 => ?_)
  refine s_aald dX3_wayFrom_30 hk9 rfl rfl rfl hi10 ?_
  refine s_iload_n dX3_wayFrom_31 2 rfl ?_
  refine s_ob (r := h.R a8 (ix (0 : Int32))) (fun z => [(6, .int ((if 0 ≤ (p4 - p2) then (p4 - p2) else 0 - (p4 - p2)) * (h.I a5 (ix p1)))), (0, .ref p0), (1, .int p1), (2, .int p2), (3, .int p3), (4, .int p4), (5, .int p5)]) (fun z => [.int p1, z, .int (if 0 ≤ (p5 - p3) then (p5 - p3) else 0 - (p5 - p3))]) (fun a11 => ?_)
  refine s_chk (fun hk12 => ?_)
  refine s_chk (fun hi13 => ?_)
  refine s_iald dX3_wayFrom_32 hk12 rfl hi13 ?_
  refine s_imul dX3_wayFrom_33 ?_
  refine s_istore [(7, .int ((if 0 ≤ (p5 - p3) then (p5 - p3) else 0 - (p5 - p3)) * (h.I a11 (ix p1)))), (6, .int ((if 0 ≤ (p4 - p2) then (p4 - p2) else 0 - (p4 - p2)) * (h.I a5 (ix p1)))), (0, .ref p0), (1, .int p1), (2, .int p2), (3, .int p3), (4, .int p4), (5, .int p5)] dX3_wayFrom_34 (by decide) (by decide) rfl ?_
  refine s_aload_n dX3_wayFrom_36 2 rfl ?_
  refine s_get (j := 9) 4 (va_rf (h.R p0 9)) dX3_wayFrom_37 hk1 rfl (by decide) q1246 (Or.inl rfl) rfl ?_
  refine s_iconst (0 : Int32) dX3_wayFrom_40 (by decide) ?_
  refine s_ob (r := h.R p0 9) (fun z => [(7, .int ((if 0 ≤ (p5 - p3) then (p5 - p3) else 0 - (p5 - p3)) * (h.I a11 (ix p1)))), (6, .int ((if 0 ≤ (p4 - p2) then (p4 - p2) else 0 - (p4 - p2)) * (h.I a5 (ix p1)))), (0, .ref p0), (1, .int p1), (2, .int p2), (3, .int p3), (4, .int p4), (5, .int p5)]) (fun z => [.int (0 : Int32), z]) (fun a14 => ?_)
  refine s_chk (fun hk15 => ?_)
  refine s_chk (fun hi16 => ?_)
  refine s_aald dX3_wayFrom_41 hk15 rfl rfl rfl hi16 ?_
  refine s_iload_n dX3_wayFrom_42 3 rfl ?_
  refine s_ob (r := h.R a14 (ix (0 : Int32))) (fun z => [(7, .int ((if 0 ≤ (p5 - p3) then (p5 - p3) else 0 - (p5 - p3)) * (h.I a11 (ix p1)))), (6, .int ((if 0 ≤ (p4 - p2) then (p4 - p2) else 0 - (p4 - p2)) * (h.I a5 (ix p1)))), (0, .ref p0), (1, .int p1), (2, .int p2), (3, .int p3), (4, .int p4), (5, .int p5)]) (fun z => [.int p1, z]) (fun a17 => ?_)
  refine s_chk (fun hk18 => ?_)
  refine s_chk (fun hi19 => ?_)
  refine s_iald dX3_wayFrom_43 hk18 rfl hi19 ?_
  refine s_ite (fun c20 => ?_) (fun c20 => ?_)
  · refine s_tblIn (0 : Int32) 72 c20 dX3_wayFrom_44 (by decide) (by decide) rfl (by decide) ?_
    refine s_iload dX3_wayFrom_72 1 rfl (by decide) ?_
    refine s_iload dX3_wayFrom_74 1 rfl (by decide) ?_
    refine s_imul dX3_wayFrom_76 ?_
    refine s_iload dX3_wayFrom_77 0 rfl (by decide) ?_
    refine s_iload dX3_wayFrom_79 0 rfl (by decide) ?_
    refine s_imul dX3_wayFrom_81 ?_
    refine s_iadd dX3_wayFrom_82 ?_
    exact s_iret dX3_wayFrom_83 rfl rfl
  refine s_ite (fun c21 => ?_) (fun c21 => ?_)
  · refine s_tblIn (1 : Int32) 84 c21 dX3_wayFrom_44 (by decide) (by decide) rfl (by decide) ?_
    refine s_iload dX3_wayFrom_84 1 rfl (by decide) ?_
    refine s_iload dX3_wayFrom_86 0 rfl (by decide) ?_
    refine s_iadd dX3_wayFrom_88 ?_
    exact s_iret dX3_wayFrom_89 rfl rfl
  refine s_ite (fun c22 => ?_) (fun c22 => ?_)
  · refine s_tblIn (2 : Int32) 90 c22 dX3_wayFrom_44 (by decide) (by decide) rfl (by decide) ?_
    refine s_iload dX3_wayFrom_90 1 rfl (by decide) ?_
    refine s_iload dX3_wayFrom_92 0 rfl (by decide) ?_
    refine s_mmax dX3_wayFrom_94 (by decide) q1469 q474 q116 q475 (Nat.le_of_ble_eq_true rfl) ?_
    exact s_iret dX3_wayFrom_97 rfl rfl
  have zc20 := lv_neT c20 (a := 0) rfl
  have zc21 := lv_neT c21 (a := 1) rfl
  have zc22 := lv_neT c22 (a := 2) rfl
  refine s_tblOut 98 dX3_wayFrom_44 (by omega) (by decide) ?_
  refine s_iload dX3_wayFrom_98 1 rfl (by decide) ?_
  exact s_iret dX3_wayFrom_100 rfl rfl
theorem hyX3_wayOf : yX3_wayOf.cls ≠ "java/lang/invoke/MethodHandle" ∧ yX3_wayOf.cls ≠ "java/lang/invoke/VarHandle" ∧ (parseMethodDescriptor yX3_wayOf.desc).map (fun d => d.parameters.length) = some 3 := by decide +kernel
theorem kX3_wayOf (G : Gl) (n : Nat) (K : Nat → Nat) (hK : K = G.ad) (p0 : Nat) (p1 : Int32) (p2 : Int32) (p3 : Int32) (h : AH) : OkM G yX3_wayOf cX3_wayOf 4 (some .int) 2 cvI [.ref p0, .int p1, .int p2, .int p3] h (F_X3_wayOf n K p0 p1 p2 p3 h) := by
  refine ok_of_sim [(0, .ref p0), (1, .int p1), (2, .int p2), (3, .int p3)] (by decide +kernel) (fun r => ⟨_, rfl⟩) (by simp [uns, lv_args, lg_sl, catI, catL, catA, va_rfc]) (by simp [uns, lv_args, lg_sl, catI, catL, catA, va_rfc]) (by simp [uns, lv_args, lg_sl, catI, catL, catA, va_rfc]) ?_
  unfold F_X3_wayOf
  refine s_aload_n dX3_wayOf_0 0 rfl ?_
  refine s_iload_n dX3_wayOf_1 1 rfl ?_
  refine s_aload_n dX3_wayOf_2 0 rfl ?_
  refine s_chk (fun hk1 => ?_)
  refine s_get (j := 6) 4 (va_rf (h.R p0 6)) dX3_wayOf_3 hk1 rfl (by decide) q1243 (Or.inl rfl) rfl ?_
  refine s_iconst (0 : Int32) dX3_wayOf_6 (by decide) ?_
  refine s_ob (r := h.R p0 6) (fun z => [(0, .ref p0), (1, .int p1), (2, .int p2), (3, .int p3)]) (fun z => [.int (0 : Int32), z, .int p1, .ref p0]) (fun a2 => ?_)
  refine s_chk (fun hk3 => ?_)
  refine s_chk (fun hi4 => ?_)
  refine s_aald dX3_wayOf_7 hk3 rfl rfl rfl hi4 ?_
  refine s_iload_n dX3_wayOf_8 1 rfl ?_
  refine s_ob (r := h.R a2 (ix (0 : Int32))) (fun z => [(0, .ref p0), (1, .int p1), (2, .int p2), (3, .int p3)]) (fun z => [.int p1, z, .int p1, .ref p0]) (fun a5 => ?_)
  refine s_chk (fun hk6 => ?_)
  refine s_chk (fun hi7 => ?_)
  refine s_iald dX3_wayOf_9 hk6 rfl hi7 ?_
  refine s_aload_n dX3_wayOf_10 0 rfl ?_
  refine s_get (j := 7) 4 (va_rf (h.R p0 7)) dX3_wayOf_11 hk1 rfl (by decide) q1244 (Or.inl rfl) rfl ?_
  refine s_iconst (0 : Int32) dX3_wayOf_14 (by decide) ?_
  refine s_ob (r := h.R p0 7) (fun z => [(0, .ref p0), (1, .int p1), (2, .int p2), (3, .int p3)]) (fun z => [.int (0 : Int32), z, .int (h.I a5 (ix p1)), .int p1, .ref p0]) (fun a8 => ?_)
  refine s_chk (fun hk9 => ?_)
  refine s_chk (fun hi10 => ?_)
  refine s_aald dX3_wayOf_15 hk9 rfl rfl rfl hi10 ?_
  refine s_iload_n dX3_wayOf_16 1 rfl ?_
  refine s_ob (r := h.R a8 (ix (0 : Int32))) (fun z => [(0, .ref p0), (1, .int p1), (2, .int p2), (3, .int p3)]) (fun z => [.int p1, z, .int (h.I a5 (ix p1)), .int p1, .ref p0]) (fun a11 => ?_)
  refine s_chk (fun hk12 => ?_)
  refine s_chk (fun hi13 => ?_)
  refine s_iald dX3_wayOf_17 hk12 rfl hi13 ?_
  refine s_iload_n dX3_wayOf_18 2 rfl ?_
  refine s_iload_n dX3_wayOf_19 3 rfl ?_
  refine s_callV_I 4 (kX3_wayFrom G n K hK p0 p1 (h.I a5 (ix p1)) (h.I a11 (ix p1)) p2 p3 h) (by decide) (by decide) dX3_wayOf_20 hk1 rfl rfl q1515 q1517 qs67 q109 q1518 hyX3_wayFrom rfl rfl (Nat.le_of_ble_eq_true rfl) (fun r14 h15 => ?_)
  exact s_iret dX3_wayOf_23 rfl rfl
theorem hyX3_way : yX3_way.cls ≠ "java/lang/invoke/MethodHandle" ∧ yX3_way.cls ≠ "java/lang/invoke/VarHandle" ∧ (parseMethodDescriptor yX3_way.desc).map (fun d => d.parameters.length) = some 3 := by decide +kernel
theorem kX3_way (G : Gl) (n : Nat) (K : Nat → Nat) (hK : K = G.ad) (p0 : Nat) (p1 : Int32) (p2 : Int32) (p3 : Int32) (h : AH) : OkM G yX3_way cX3_way 4 (some .int) 3 cvI [.ref p0, .int p1, .int p2, .int p3] h (F_X3_way n K p0 p1 p2 p3 h) := by
  refine ok_of_sim [(0, .ref p0), (1, .int p1), (2, .int p2), (3, .int p3)] (by decide +kernel) (fun r => ⟨_, rfl⟩) (by simp [uns, lv_args, lg_sl, catI, catL, catA, va_rfc]) (by simp [uns, lv_args, lg_sl, catI, catL, catA, va_rfc]) (by simp [uns, lv_args, lg_sl, catI, catL, catA, va_rfc]) ?_
  unfold F_X3_way
  refine s_aload_n dX3_way_0 0 rfl ?_
  refine s_iload_n dX3_way_1 1 rfl ?_
  refine s_chk (fun hk3 => ?_)
  refine s_callV_I 4 (kX3_isVoter G n K hK p0 p1 h) (by decide) (by decide) dX3_way_2 hk3 rfl rfl q1483 q1485 qs63 q109 q1486 hyX3_isVoter rfl rfl (Nat.le_of_ble_eq_true rfl) (fun r1 h2 => ?_)
  refine s_if_eq 26 dX3_way_5 (by decide) (fun c4 => ?_) (fun c4 => ?_)
  · refine s_iconst (-1 : Int32) dX3_way_26 (by decide) ?_
    exact s_iret dX3_way_27 rfl rfl
  · refine s_iload_n dX3_way_8 2 rfl ?_
    refine s_iload_n dX3_way_9 3 rfl ?_
    refine s_callS_I (kX3_isPoint G n K hK p2 p3 h2) (by decide) (by decide) dX3_way_10 q1503 q1504 q109 q1505 hyX3_isPoint rfl rfl (Nat.le_of_ble_eq_true rfl) (fun r5 h6 => ?_)
    refine s_if_eq 26 dX3_way_13 (by decide) (fun c7 => ?_) (fun c7 => ?_)
    · refine s_iconst (-1 : Int32) dX3_way_26 (by decide) ?_
      exact s_iret dX3_way_27 rfl rfl
    · refine s_aload_n dX3_way_16 0 rfl ?_
      refine s_iload_n dX3_way_17 1 rfl ?_
      refine s_iload_n dX3_way_18 2 rfl ?_
      refine s_iload_n dX3_way_19 3 rfl ?_
      refine s_chk (fun hk10 => ?_)
      refine s_callV_I 4 (kX3_wayOf G n K hK p0 p1 p2 p3 h6) (by decide) (by decide) dX3_way_20 hk10 rfl rfl q1511 q1513 qs66 q109 q1514 hyX3_wayOf rfl rfl (Nat.le_of_ble_eq_true rfl) (fun r8 h9 => ?_)
      refine s_goto 27 dX3_way_23 (by decide) ?_
      exact s_iret dX3_way_27 rfl rfl
theorem hyX3_forOf : yX3_forOf.cls ≠ "java/lang/invoke/MethodHandle" ∧ yX3_forOf.cls ≠ "java/lang/invoke/VarHandle" ∧ (parseMethodDescriptor yX3_forOf.desc).map (fun d => d.parameters.length) = some 4 := by decide +kernel
theorem sX3_forOf_L6 (G : Gl) (n : Nat) (K : Nat → Nat) (hK : K = G.ad) (y4 : Nat) (y5 : Int32) (y6 : Int32) (y7 : Int32) (y8 : Int32) : ∀ (f : Nat) (x2 : Int32) (x3 : Int32) (h : AH), Sim G yX3_forOf.cls yX3_forOf.name cX3_forOf 7 (some .int) 3 cvI 6 [(6, .int x2), (5, .int x3), (0, .ref y4), (1, .int y5), (2, .int y6), (3, .int y7), (4, .int y8)] [] h (F_X3_forOf_L6 n K y4 y5 y6 y7 y8 f x2 x3 h) := by
  intro f
  induction f with
  | zero =>
    intro x2 x3 h
    exact s_none
  | succ f ih =>
    intro x2 x3 h
    unfold F_X3_forOf_L6
    refine s_iload dX3_forOf_6 0 rfl (by decide) ?_
    refine s_aload_n dX3_forOf_8 2 rfl ?_
    refine s_chk (fun hk11 => ?_)
    refine s_callV_I 4 (kX3_voters G n K hK y4 h) (by decide) (by decide) dX3_forOf_9 hk11 rfl rfl q1475 q1477 qs62 q109 q1478 hyX3_voters rfl rfl (Nat.le_of_ble_eq_true rfl) (fun r9 h10 => ?_)
    refine s_icmp_ge 55 dX3_forOf_12 (by decide) (fun c12 => ?_) (fun c12 => ?_)
    · refine s_iload dX3_forOf_55 1 rfl (by decide) ?_
      exact s_iret dX3_forOf_57 rfl rfl
    · refine s_aload_n dX3_forOf_15 2 rfl ?_
      refine s_iload dX3_forOf_16 0 rfl (by decide) ?_
      refine s_iload_n dX3_forOf_18 3 rfl ?_
      refine s_iload_n dX3_forOf_19 4 rfl ?_
      refine s_chk (fun hk15 => ?_)
      refine s_callV_I 4 (kX3_wayOf G n K hK y4 x2 y5 y6 h10) (by decide) (by decide) dX3_forOf_20 hk15 rfl rfl q1511 q1513 qs66 q109 q1514 hyX3_wayOf rfl rfl (Nat.le_of_ble_eq_true rfl) (fun r13 h14 => ?_)
      refine s_aload_n dX3_forOf_23 2 rfl ?_
      refine s_iload dX3_forOf_24 0 rfl (by decide) ?_
      refine s_iload_n dX3_forOf_26 5 rfl ?_
      refine s_iload dX3_forOf_27 6 rfl (by decide) ?_
      refine s_chk (fun hk18 => ?_)
      refine s_callV_I 4 (kX3_wayOf G n K hK y4 x2 y7 y8 h14) (by decide) (by decide) dX3_forOf_29 hk18 rfl rfl q1511 q1513 qs66 q109 q1514 hyX3_wayOf rfl rfl (Nat.le_of_ble_eq_true rfl) (fun r16 h17 => ?_)
      refine s_icmp_ge 49 dX3_forOf_32 (by decide) (fun c19 => ?_) (fun c19 => ?_)
      · refine s_iinc (1 : Int32) [(6, .int (x2 + (1 : Int32))), (5, .int x3), (0, .ref y4), (1, .int y5), (2, .int y6), (3, .int y7), (4, .int y8)] dX3_forOf_49 0 rfl (by decide) (by decide) (by decide) rfl ?_
        refine s_goto 6 dX3_forOf_52 (by decide) ?_
        exact ih (x2 + (1 : Int32)) x3 h17
      · refine s_iload dX3_forOf_35 1 rfl (by decide) ?_
        refine s_aload_n dX3_forOf_37 2 rfl ?_
        refine s_chk (fun hk20 => ?_)
        refine s_get (j := 8) 4 (va_rf (h17.R y4 8)) dX3_forOf_38 hk20 rfl (by decide) q1245 (Or.inl rfl) rfl ?_
        refine s_iconst (0 : Int32) dX3_forOf_41 (by decide) ?_
        refine s_ob (r := h17.R y4 8) (fun z => [(6, .int x2), (5, .int x3), (0, .ref y4), (1, .int y5), (2, .int y6), (3, .int y7), (4, .int y8)]) (fun z => [.int (0 : Int32), z, .int x3]) (fun a21 => ?_)
        refine s_chk (fun hk22 => ?_)
        refine s_chk (fun hi23 => ?_)
        refine s_aald dX3_forOf_42 hk22 rfl rfl rfl hi23 ?_
        refine s_iload dX3_forOf_43 0 rfl (by decide) ?_
        refine s_ob (r := h17.R a21 (ix (0 : Int32))) (fun z => [(6, .int x2), (5, .int x3), (0, .ref y4), (1, .int y5), (2, .int y6), (3, .int y7), (4, .int y8)]) (fun z => [.int x2, z, .int x3]) (fun a24 => ?_)
        refine s_chk (fun hk25 => ?_)
        refine s_chk (fun hi26 => ?_)
        refine s_iald dX3_forOf_45 hk25 rfl hi26 ?_
        refine s_iadd dX3_forOf_46 ?_
        refine s_istore [(5, .int (x3 + (h17.I a24 (ix x2)))), (6, .int x2), (0, .ref y4), (1, .int y5), (2, .int y6), (3, .int y7), (4, .int y8)] dX3_forOf_47 (by decide) (by decide) rfl ?_
        refine s_iinc (1 : Int32) [(6, .int (x2 + (1 : Int32))), (5, .int (x3 + (h17.I a24 (ix x2)))), (0, .ref y4), (1, .int y5), (2, .int y6), (3, .int y7), (4, .int y8)] dX3_forOf_49 1 rfl (by decide) (by decide) (by decide) rfl ?_
        refine s_goto 6 dX3_forOf_52 (by decide) ?_
        exact ih (x2 + (1 : Int32)) (x3 + (h17.I a24 (ix x2))) h17
theorem kX3_forOf (G : Gl) (n : Nat) (K : Nat → Nat) (hK : K = G.ad) (p0 : Nat) (p1 : Int32) (p2 : Int32) (p3 : Int32) (p4 : Int32) (h : AH) : OkM G yX3_forOf cX3_forOf 7 (some .int) 3 cvI [.ref p0, .int p1, .int p2, .int p3, .int p4] h (F_X3_forOf n K p0 p1 p2 p3 p4 h) := by
  refine ok_of_sim [(0, .ref p0), (1, .int p1), (2, .int p2), (3, .int p3), (4, .int p4)] (by decide +kernel) (fun r => ⟨_, rfl⟩) (by simp [uns, lv_args, lg_sl, catI, catL, catA, va_rfc]) (by simp [uns, lv_args, lg_sl, catI, catL, catA, va_rfc]) (by simp [uns, lv_args, lg_sl, catI, catL, catA, va_rfc]) ?_
  unfold F_X3_forOf
  refine s_iconst (0 : Int32) dX3_forOf_0 (by decide) ?_
  refine s_istore [(5, .int (0 : Int32)), (0, .ref p0), (1, .int p1), (2, .int p2), (3, .int p3), (4, .int p4)] dX3_forOf_1 (by decide) (by decide) rfl ?_
  refine s_iconst (0 : Int32) dX3_forOf_3 (by decide) ?_
  refine s_istore [(6, .int (0 : Int32)), (5, .int (0 : Int32)), (0, .ref p0), (1, .int p1), (2, .int p2), (3, .int p3), (4, .int p4)] dX3_forOf_4 (by decide) (by decide) rfl ?_
  exact sX3_forOf_L6 G n K hK p0 p1 p2 p3 p4 n (0 : Int32) (0 : Int32) h
theorem hyX3_votesOf : yX3_votesOf.cls ≠ "java/lang/invoke/MethodHandle" ∧ yX3_votesOf.cls ≠ "java/lang/invoke/VarHandle" ∧ (parseMethodDescriptor yX3_votesOf.desc).map (fun d => d.parameters.length) = some 2 := by decide +kernel
theorem kX3_votesOf (G : Gl) (n : Nat) (K : Nat → Nat) (hK : K = G.ad) (p0 : Nat) (p1 : Int32) (p2 : Int32) (h : AH) : OkM G yX3_votesOf cX3_votesOf 3 (some .int) 4 cvI [.ref p0, .int p1, .int p2] h (F_X3_votesOf n K p0 p1 p2 h) := by
  refine ok_of_sim [(0, .ref p0), (1, .int p1), (2, .int p2)] (by decide +kernel) (fun r => ⟨_, rfl⟩) (by simp [uns, lv_args, lg_sl, catI, catL, catA, va_rfc]) (by simp [uns, lv_args, lg_sl, catI, catL, catA, va_rfc]) (by simp [uns, lv_args, lg_sl, catI, catL, catA, va_rfc]) ?_
  unfold F_X3_votesOf
  refine s_aload_n dX3_votesOf_0 0 rfl ?_
  refine s_aload_n dX3_votesOf_1 0 rfl ?_
  refine s_chk (fun hk1 => ?_)
  refine s_get (j := 12) 4 (va_rf (h.R p0 12)) dX3_votesOf_2 hk1 rfl (by decide) q1249 (Or.inl rfl) rfl ?_
  refine s_iconst (0 : Int32) dX3_votesOf_5 (by decide) ?_
  refine s_ob (r := h.R p0 12) (fun z => [(0, .ref p0), (1, .int p1), (2, .int p2)]) (fun z => [.int (0 : Int32), z, .ref p0]) (fun a2 => ?_)
  refine s_chk (fun hk3 => ?_)
  refine s_chk (fun hi4 => ?_)
  refine s_aald dX3_votesOf_6 hk3 rfl rfl rfl hi4 ?_
  refine s_iload_n dX3_votesOf_7 1 rfl ?_
  refine s_ob (r := h.R a2 (ix (0 : Int32))) (fun z => [(0, .ref p0), (1, .int p1), (2, .int p2)]) (fun z => [.int p1, z, .ref p0]) (fun a5 => ?_)
  refine s_chk (fun hk6 => ?_)
  refine s_chk (fun hi7 => ?_)
  refine s_iald dX3_votesOf_8 hk6 rfl hi7 ?_
  refine s_aload_n dX3_votesOf_9 0 rfl ?_
  refine s_get (j := 13) 4 (va_rf (h.R p0 13)) dX3_votesOf_10 hk1 rfl (by decide) q1250 (Or.inl rfl) rfl ?_
  refine s_iconst (0 : Int32) dX3_votesOf_13 (by decide) ?_
  refine s_ob (r := h.R p0 13) (fun z => [(0, .ref p0), (1, .int p1), (2, .int p2)]) (fun z => [.int (0 : Int32), z, .int (h.I a5 (ix p1)), .ref p0]) (fun a8 => ?_)
  refine s_chk (fun hk9 => ?_)
  refine s_chk (fun hi10 => ?_)
  refine s_aald dX3_votesOf_14 hk9 rfl rfl rfl hi10 ?_
  refine s_iload_n dX3_votesOf_15 1 rfl ?_
  refine s_ob (r := h.R a8 (ix (0 : Int32))) (fun z => [(0, .ref p0), (1, .int p1), (2, .int p2)]) (fun z => [.int p1, z, .int (h.I a5 (ix p1)), .ref p0]) (fun a11 => ?_)
  refine s_chk (fun hk12 => ?_)
  refine s_chk (fun hi13 => ?_)
  refine s_iald dX3_votesOf_16 hk12 rfl hi13 ?_
  refine s_aload_n dX3_votesOf_17 0 rfl ?_
  refine s_get (j := 12) 4 (va_rf (h.R p0 12)) dX3_votesOf_18 hk1 rfl (by decide) q1249 (Or.inl rfl) rfl ?_
  refine s_iconst (0 : Int32) dX3_votesOf_21 (by decide) ?_
  refine s_ob (r := h.R p0 12) (fun z => [(0, .ref p0), (1, .int p1), (2, .int p2)]) (fun z => [.int (0 : Int32), z, .int (h.I a11 (ix p1)), .int (h.I a5 (ix p1)), .ref p0]) (fun a14 => ?_)
  refine s_chk (fun hk15 => ?_)
  refine s_chk (fun hi16 => ?_)
  refine s_aald dX3_votesOf_22 hk15 rfl rfl rfl hi16 ?_
  refine s_iload_n dX3_votesOf_23 2 rfl ?_
  refine s_ob (r := h.R a14 (ix (0 : Int32))) (fun z => [(0, .ref p0), (1, .int p1), (2, .int p2)]) (fun z => [.int p2, z, .int (h.I a11 (ix p1)), .int (h.I a5 (ix p1)), .ref p0]) (fun a17 => ?_)
  refine s_chk (fun hk18 => ?_)
  refine s_chk (fun hi19 => ?_)
  refine s_iald dX3_votesOf_24 hk18 rfl hi19 ?_
  refine s_aload_n dX3_votesOf_25 0 rfl ?_
  refine s_get (j := 13) 4 (va_rf (h.R p0 13)) dX3_votesOf_26 hk1 rfl (by decide) q1250 (Or.inl rfl) rfl ?_
  refine s_iconst (0 : Int32) dX3_votesOf_29 (by decide) ?_
  refine s_ob (r := h.R p0 13) (fun z => [(0, .ref p0), (1, .int p1), (2, .int p2)]) (fun z => [.int (0 : Int32), z, .int (h.I a17 (ix p2)), .int (h.I a11 (ix p1)), .int (h.I a5 (ix p1)), .ref p0]) (fun a20 => ?_)
  refine s_chk (fun hk21 => ?_)
  refine s_chk (fun hi22 => ?_)
  refine s_aald dX3_votesOf_30 hk21 rfl rfl rfl hi22 ?_
  refine s_iload_n dX3_votesOf_31 2 rfl ?_
  refine s_ob (r := h.R a20 (ix (0 : Int32))) (fun z => [(0, .ref p0), (1, .int p1), (2, .int p2)]) (fun z => [.int p2, z, .int (h.I a17 (ix p2)), .int (h.I a11 (ix p1)), .int (h.I a5 (ix p1)), .ref p0]) (fun a23 => ?_)
  refine s_chk (fun hk24 => ?_)
  refine s_chk (fun hi25 => ?_)
  refine s_iald dX3_votesOf_32 hk24 rfl hi25 ?_
  refine s_callV_I 4 (kX3_forOf G n K hK p0 (h.I a5 (ix p1)) (h.I a11 (ix p1)) (h.I a17 (ix p2)) (h.I a23 (ix p2)) h) (by decide) (by decide) dX3_votesOf_33 hk1 rfl rfl q1528 q1530 qs69 q109 q1531 hyX3_forOf rfl rfl (Nat.le_of_ble_eq_true rfl) (fun r26 h27 => ?_)
  exact s_iret dX3_votesOf_36 rfl rfl
theorem hyX3_votes : yX3_votes.cls ≠ "java/lang/invoke/MethodHandle" ∧ yX3_votes.cls ≠ "java/lang/invoke/VarHandle" ∧ (parseMethodDescriptor yX3_votes.desc).map (fun d => d.parameters.length) = some 2 := by decide +kernel
theorem kX3_votes (G : Gl) (n : Nat) (K : Nat → Nat) (hK : K = G.ad) (p0 : Nat) (p1 : Int32) (p2 : Int32) (h : AH) : OkM G yX3_votes cX3_votes 3 (some .int) 5 cvI [.ref p0, .int p1, .int p2] h (F_X3_votes n K p0 p1 p2 h) := by
  refine ok_of_sim [(0, .ref p0), (1, .int p1), (2, .int p2)] (by decide +kernel) (fun r => ⟨_, rfl⟩) (by simp [uns, lv_args, lg_sl, catI, catL, catA, va_rfc]) (by simp [uns, lv_args, lg_sl, catI, catL, catA, va_rfc]) (by simp [uns, lv_args, lg_sl, catI, catL, catA, va_rfc]) ?_
  unfold F_X3_votes
  refine s_aload_n dX3_votes_0 0 rfl ?_
  refine s_iload_n dX3_votes_1 1 rfl ?_
  refine s_chk (fun hk3 => ?_)
  refine s_callV_I 4 (kX3_isPlace G n K hK p0 p1 h) (by decide) (by decide) dX3_votes_2 hk3 rfl rfl q1491 q1493 qs64 q109 q1494 hyX3_isPlace rfl rfl (Nat.le_of_ble_eq_true rfl) (fun r1 h2 => ?_)
  refine s_if_eq 25 dX3_votes_5 (by decide) (fun c4 => ?_) (fun c4 => ?_)
  · refine s_iconst (-1 : Int32) dX3_votes_25 (by decide) ?_
    exact s_iret dX3_votes_26 rfl rfl
  · refine s_aload_n dX3_votes_8 0 rfl ?_
    refine s_iload_n dX3_votes_9 2 rfl ?_
    refine s_chk (fun hk7 => ?_)
    refine s_callV_I 4 (kX3_isPlace G n K hK p0 p2 h2) (by decide) (by decide) dX3_votes_10 hk7 rfl rfl q1491 q1493 qs64 q109 q1494 hyX3_isPlace rfl rfl (Nat.le_of_ble_eq_true rfl) (fun r5 h6 => ?_)
    refine s_if_eq 25 dX3_votes_13 (by decide) (fun c8 => ?_) (fun c8 => ?_)
    · refine s_iconst (-1 : Int32) dX3_votes_25 (by decide) ?_
      exact s_iret dX3_votes_26 rfl rfl
    · refine s_aload_n dX3_votes_16 0 rfl ?_
      refine s_iload_n dX3_votes_17 1 rfl ?_
      refine s_iload_n dX3_votes_18 2 rfl ?_
      refine s_chk (fun hk11 => ?_)
      refine s_callV_I 4 (kX3_votesOf G n K hK p0 p1 p2 h6) (by decide) (by decide) dX3_votes_19 hk11 rfl rfl q1524 q1526 qs68 q109 q1527 hyX3_votesOf rfl rfl (Nat.le_of_ble_eq_true rfl) (fun r9 h10 => ?_)
      refine s_goto 26 dX3_votes_22 (by decide) ?_
      exact s_iret dX3_votes_26 rfl rfl
theorem hyX3_total : yX3_total.cls ≠ "java/lang/invoke/MethodHandle" ∧ yX3_total.cls ≠ "java/lang/invoke/VarHandle" ∧ (parseMethodDescriptor yX3_total.desc).map (fun d => d.parameters.length) = some 0 := by decide +kernel
theorem sX3_total_L4 (G : Gl) (n : Nat) (K : Nat → Nat) (hK : K = G.ad) (y4 : Nat) : ∀ (f : Nat) (x2 : Int32) (x3 : Int32) (h : AH), Sim G yX3_total.cls yX3_total.name cX3_total 3 (some .int) 2 cvI 4 [(2, .int x2), (1, .int x3), (0, .ref y4)] [] h (F_X3_total_L4 n K y4 f x2 x3 h) := by
  intro f
  induction f with
  | zero =>
    intro x2 x3 h
    exact s_none
  | succ f ih =>
    intro x2 x3 h
    unfold F_X3_total_L4
    refine s_iload_n dX3_total_4 0 rfl ?_
    refine s_aload_n dX3_total_5 2 rfl ?_
    refine s_chk (fun hk7 => ?_)
    refine s_callV_I 4 (kX3_voters G n K hK y4 h) (by decide) (by decide) dX3_total_6 hk7 rfl rfl q1475 q1477 qs62 q109 q1478 hyX3_voters rfl rfl (Nat.le_of_ble_eq_true rfl) (fun r5 h6 => ?_)
    refine s_icmp_ge 29 dX3_total_9 (by decide) (fun c8 => ?_) (fun c8 => ?_)
    · refine s_iload_n dX3_total_29 1 rfl ?_
      exact s_iret dX3_total_30 rfl rfl
    · refine s_iload_n dX3_total_12 1 rfl ?_
      refine s_aload_n dX3_total_13 2 rfl ?_
      refine s_chk (fun hk9 => ?_)
      refine s_get (j := 8) 4 (va_rf (h6.R y4 8)) dX3_total_14 hk9 rfl (by decide) q1245 (Or.inl rfl) rfl ?_
      refine s_iconst (0 : Int32) dX3_total_17 (by decide) ?_
      refine s_ob (r := h6.R y4 8) (fun z => [(2, .int x2), (1, .int x3), (0, .ref y4)]) (fun z => [.int (0 : Int32), z, .int x3]) (fun a10 => ?_)
      refine s_chk (fun hk11 => ?_)
      refine s_chk (fun hi12 => ?_)
      refine s_aald dX3_total_18 hk11 rfl rfl rfl hi12 ?_
      refine s_iload_n dX3_total_19 0 rfl ?_
      refine s_ob (r := h6.R a10 (ix (0 : Int32))) (fun z => [(2, .int x2), (1, .int x3), (0, .ref y4)]) (fun z => [.int x2, z, .int x3]) (fun a13 => ?_)
      refine s_chk (fun hk14 => ?_)
      refine s_chk (fun hi15 => ?_)
      refine s_iald dX3_total_20 hk14 rfl hi15 ?_
      refine s_iadd dX3_total_21 ?_
      refine s_istore_n [(1, .int (x3 + (h6.I a13 (ix x2)))), (2, .int x2), (0, .ref y4)] dX3_total_22 (by decide) (by decide) rfl ?_
      refine s_iinc (1 : Int32) [(2, .int (x2 + (1 : Int32))), (1, .int (x3 + (h6.I a13 (ix x2)))), (0, .ref y4)] dX3_total_23 1 rfl (by decide) (by decide) (by decide) rfl ?_
      refine s_goto 4 dX3_total_26 (by decide) ?_
      exact ih (x2 + (1 : Int32)) (x3 + (h6.I a13 (ix x2))) h6
theorem kX3_total (G : Gl) (n : Nat) (K : Nat → Nat) (hK : K = G.ad) (p0 : Nat) (h : AH) : OkM G yX3_total cX3_total 3 (some .int) 2 cvI [.ref p0] h (F_X3_total n K p0 h) := by
  refine ok_of_sim [(0, .ref p0)] (by decide +kernel) (fun r => ⟨_, rfl⟩) (by simp [uns, lv_args, lg_sl, catI, catL, catA, va_rfc]) (by simp [uns, lv_args, lg_sl, catI, catL, catA, va_rfc]) (by simp [uns, lv_args, lg_sl, catI, catL, catA, va_rfc]) ?_
  unfold F_X3_total
  refine s_iconst (0 : Int32) dX3_total_0 (by decide) ?_
  refine s_istore_n [(1, .int (0 : Int32)), (0, .ref p0)] dX3_total_1 (by decide) (by decide) rfl ?_
  refine s_iconst (0 : Int32) dX3_total_2 (by decide) ?_
  refine s_istore_n [(2, .int (0 : Int32)), (1, .int (0 : Int32)), (0, .ref p0)] dX3_total_3 (by decide) (by decide) rfl ?_
  exact sX3_total_L4 G n K hK p0 n (0 : Int32) (0 : Int32) h
theorem hyX3_isWon : yX3_isWon.cls ≠ "java/lang/invoke/MethodHandle" ∧ yX3_isWon.cls ≠ "java/lang/invoke/VarHandle" ∧ (parseMethodDescriptor yX3_isWon.desc).map (fun d => d.parameters.length) = some 2 := by decide +kernel
theorem kX3_isWon (G : Gl) (n : Nat) (K : Nat → Nat) (hK : K = G.ad) (p0 : Nat) (p1 : Int32) (p2 : Int32) (h : AH) : OkM G yX3_isWon cX3_isWon 4 (some .boolean) 3 cvI [.ref p0, .int p1, .int p2] h (F_X3_isWon n K p0 p1 p2 h) := by
  refine ok_of_sim [(0, .ref p0), (1, .int p1), (2, .int p2)] (by decide +kernel) (fun r => ⟨_, rfl⟩) (by simp [uns, lv_args, lg_sl, catI, catL, catA, va_rfc]) (by simp [uns, lv_args, lg_sl, catI, catL, catA, va_rfc]) (by simp [uns, lv_args, lg_sl, catI, catL, catA, va_rfc]) ?_
  unfold F_X3_isWon
  refine s_aload_n dX3_isWon_0 0 rfl ?_
  refine s_chk (fun hk1 => ?_)
  refine s_get (j := 16) 4 (va_rf (h.R p0 16)) dX3_isWon_1 hk1 rfl (by decide) q1253 (Or.inl rfl) rfl ?_
  refine s_iconst (0 : Int32) dX3_isWon_4 (by decide) ?_
  refine s_ob (r := h.R p0 16) (fun z => [(0, .ref p0), (1, .int p1), (2, .int p2)]) (fun z => [.int (0 : Int32), z]) (fun a2 => ?_)
  refine s_chk (fun hk3 => ?_)
  refine s_chk (fun hi4 => ?_)
  refine s_iald dX3_isWon_5 hk3 rfl hi4 ?_
  refine s_if_ne 20 dX3_isWon_6 (by decide) (fun c5 => ?_) (fun c5 => ?_)
  · refine s_aload_n dX3_isWon_20 0 rfl ?_
    refine s_get (j := 17) 4 (va_rf (h.R p0 17)) dX3_isWon_21 hk1 rfl (by decide) q1254 (Or.inl rfl) rfl ?_
    refine s_iconst (0 : Int32) dX3_isWon_24 (by decide) ?_
    refine s_ob (r := h.R p0 17) (fun z => [(0, .ref p0), (1, .int p1), (2, .int p2)]) (fun z => [.int (0 : Int32), z]) (fun a6 => ?_)
    refine s_chk (fun hk7 => ?_)
    refine s_chk (fun hi8 => ?_)
    refine s_iald dX3_isWon_25 hk7 rfl hi8 ?_
    refine s_aload_n dX3_isWon_26 0 rfl ?_
    refine s_callV_I 4 (kX3_total G n K hK p0 h) (by decide) (by decide) dX3_isWon_27 hk1 rfl rfl q1548 q1550 qs73 q109 q1551 hyX3_total rfl rfl (Nat.le_of_ble_eq_true rfl) (fun r9 h10 => ?_)
    refine s_imul dX3_isWon_30 ?_
    refine s_istore_n [(3, .int ((h.I a6 (ix (0 : Int32))) * r9)), (0, .ref p0), (1, .int p1), (2, .int p2)] dX3_isWon_31 (by decide) (by decide) rfl ?_
    refine s_aload_n dX3_isWon_32 1 rfl ?_
    refine s_chk (fun hk11 => ?_)
    refine s_get (j := 16) 4 (va_rf (h10.R p0 16)) dX3_isWon_33 hk11 rfl (by decide) q1253 (Or.inl rfl) rfl ?_
    refine s_iconst (0 : Int32) dX3_isWon_36 (by decide) ?_
    refine s_ob (r := h10.R p0 16) (fun z => [(3, .int ((h.I a6 (ix (0 : Int32))) * r9)), (0, .ref p0), (1, .int p1), (2, .int p2)]) (fun z => [.int (0 : Int32), z]) (fun a12 => ?_)
    refine s_chk (fun hk13 => ?_)
    refine s_chk (fun hi14 => ?_)
    refine s_iald dX3_isWon_37 hk13 rfl hi14 ?_
    refine s_iconst (1 : Int32) dX3_isWon_38 (by decide) ?_
    refine s_icmp_ne 62 dX3_isWon_39 (by decide) (fun c15 => ?_) (fun c15 => ?_)
    · refine s_iload_n dX3_isWon_62 2 rfl ?_
      refine s_aload_n dX3_isWon_63 1 rfl ?_
      refine s_get (j := 18) 4 (va_rf (h10.R p0 18)) dX3_isWon_64 hk11 rfl (by decide) q1255 (Or.inl rfl) rfl ?_
      refine s_iconst (0 : Int32) dX3_isWon_67 (by decide) ?_
      refine s_ob (r := h10.R p0 18) (fun z => [(3, .int ((h.I a6 (ix (0 : Int32))) * r9)), (0, .ref p0), (1, .int p1), (2, .int p2)]) (fun z => [.int (0 : Int32), z, .int p1]) (fun a16 => ?_)
      refine s_chk (fun hk17 => ?_)
      refine s_chk (fun hi18 => ?_)
      refine s_iald dX3_isWon_68 hk17 rfl hi18 ?_
      refine s_imul dX3_isWon_69 ?_
      refine s_iload_n dX3_isWon_70 0 rfl ?_
      refine s_icmp_lt 83 dX3_isWon_71 (by decide) (fun c19 => ?_) (fun c19 => ?_)
      · refine s_iconst (0 : Int32) dX3_isWon_83 (by decide) ?_
        exact s_zret dX3_isWon_84 rfl rfl rfl
      · refine s_iload_n dX3_isWon_74 2 rfl ?_
        refine s_iload_n dX3_isWon_75 3 rfl ?_
        refine s_icmp_le 83 dX3_isWon_76 (by decide) (fun c20 => ?_) (fun c20 => ?_)
        · refine s_iconst (0 : Int32) dX3_isWon_83 (by decide) ?_
          exact s_zret dX3_isWon_84 rfl rfl rfl
        · refine s_iconst (1 : Int32) dX3_isWon_79 (by decide) ?_
          refine s_goto 84 dX3_isWon_80 (by decide) ?_
          exact s_zret dX3_isWon_84 rfl rfl rfl
    · refine s_iload_n dX3_isWon_42 2 rfl ?_
      refine s_aload_n dX3_isWon_43 1 rfl ?_
      refine s_get (j := 18) 4 (va_rf (h10.R p0 18)) dX3_isWon_44 hk11 rfl (by decide) q1255 (Or.inl rfl) rfl ?_
      refine s_iconst (0 : Int32) dX3_isWon_47 (by decide) ?_
      refine s_ob (r := h10.R p0 18) (fun z => [(3, .int ((h.I a6 (ix (0 : Int32))) * r9)), (0, .ref p0), (1, .int p1), (2, .int p2)]) (fun z => [.int (0 : Int32), z, .int p1]) (fun a21 => ?_)
      refine s_chk (fun hk22 => ?_)
      refine s_chk (fun hi23 => ?_)
      refine s_iald dX3_isWon_48 hk22 rfl hi23 ?_
      refine s_imul dX3_isWon_49 ?_
      refine s_iload_n dX3_isWon_50 0 rfl ?_
      refine s_icmp_le 58 dX3_isWon_51 (by decide) (fun c24 => ?_) (fun c24 => ?_)
      · refine s_iconst (0 : Int32) dX3_isWon_58 (by decide) ?_
        refine s_goto 84 dX3_isWon_59 (by decide) ?_
        exact s_zret dX3_isWon_84 rfl rfl rfl
      · refine s_iconst (1 : Int32) dX3_isWon_54 (by decide) ?_
        refine s_goto 84 dX3_isWon_55 (by decide) ?_
        exact s_zret dX3_isWon_84 rfl rfl rfl
  · refine s_iload_n dX3_isWon_9 1 rfl ?_
    refine s_iload_n dX3_isWon_10 2 rfl ?_
    refine s_icmp_le 18 dX3_isWon_11 (by decide) (fun c25 => ?_) (fun c25 => ?_)
    · refine s_iconst (0 : Int32) dX3_isWon_18 (by decide) ?_
      exact s_zret dX3_isWon_19 rfl rfl rfl
    · refine s_iconst (1 : Int32) dX3_isWon_14 (by decide) ?_
      refine s_goto 19 dX3_isWon_15 (by decide) ?_
      exact s_zret dX3_isWon_19 rfl rfl rfl
theorem hyX3_beatsAt : yX3_beatsAt.cls ≠ "java/lang/invoke/MethodHandle" ∧ yX3_beatsAt.cls ≠ "java/lang/invoke/VarHandle" ∧ (parseMethodDescriptor yX3_beatsAt.desc).map (fun d => d.parameters.length) = some 4 := by decide +kernel
theorem kX3_beatsAt (G : Gl) (n : Nat) (K : Nat → Nat) (hK : K = G.ad) (p0 : Nat) (p1 : Int32) (p2 : Int32) (p3 : Int32) (p4 : Int32) (h : AH) : OkM G yX3_beatsAt cX3_beatsAt 5 (some .boolean) 4 cvI [.ref p0, .int p1, .int p2, .int p3, .int p4] h (F_X3_beatsAt n K p0 p1 p2 p3 p4 h) := by
  refine ok_of_sim [(0, .ref p0), (1, .int p1), (2, .int p2), (3, .int p3), (4, .int p4)] (by decide +kernel) (fun r => ⟨_, rfl⟩) (by simp [uns, lv_args, lg_sl, catI, catL, catA, va_rfc]) (by simp [uns, lv_args, lg_sl, catI, catL, catA, va_rfc]) (by simp [uns, lv_args, lg_sl, catI, catL, catA, va_rfc]) ?_
  unfold F_X3_beatsAt
  refine s_aload_n dX3_beatsAt_0 0 rfl ?_
  refine s_aload_n dX3_beatsAt_1 0 rfl ?_
  refine s_iload_n dX3_beatsAt_2 1 rfl ?_
  refine s_iload_n dX3_beatsAt_3 2 rfl ?_
  refine s_iload_n dX3_beatsAt_4 3 rfl ?_
  refine s_iload dX3_beatsAt_5 4 rfl (by decide) ?_
  refine s_chk (fun hk3 => ?_)
  refine s_callV_I 4 (kX3_forOf G n K hK p0 p1 p2 p3 p4 h) (by decide) (by decide) dX3_beatsAt_7 hk3 rfl rfl q1528 q1530 qs69 q109 q1531 hyX3_forOf rfl rfl (Nat.le_of_ble_eq_true rfl) (fun r1 h2 => ?_)
  refine s_aload_n dX3_beatsAt_10 0 rfl ?_
  refine s_iload_n dX3_beatsAt_11 3 rfl ?_
  refine s_iload dX3_beatsAt_12 4 rfl (by decide) ?_
  refine s_iload_n dX3_beatsAt_14 1 rfl ?_
  refine s_iload_n dX3_beatsAt_15 2 rfl ?_
  refine s_chk (fun hk6 => ?_)
  refine s_callV_I 4 (kX3_forOf G n K hK p0 p3 p4 p1 p2 h2) (by decide) (by decide) dX3_beatsAt_16 hk6 rfl rfl q1528 q1530 qs69 q109 q1531 hyX3_forOf rfl rfl (Nat.le_of_ble_eq_true rfl) (fun r4 h5 => ?_)
  refine s_chk (fun hk9 => ?_)
  refine s_callV_I 4 (kX3_isWon G n K hK p0 r1 r4 h5) (by decide) (by decide) dX3_beatsAt_19 hk9 rfl rfl q1544 q1546 qs72 q109 q1547 hyX3_isWon rfl rfl (Nat.le_of_ble_eq_true rfl) (fun r7 h8 => ?_)
  refine s_chk (fun hb10 => ?_)
  exact s_zret dX3_beatsAt_22 rfl (nb01 hb10) rfl
theorem hyX3_beatsOf : yX3_beatsOf.cls ≠ "java/lang/invoke/MethodHandle" ∧ yX3_beatsOf.cls ≠ "java/lang/invoke/VarHandle" ∧ (parseMethodDescriptor yX3_beatsOf.desc).map (fun d => d.parameters.length) = some 2 := by decide +kernel
theorem kX3_beatsOf (G : Gl) (n : Nat) (K : Nat → Nat) (hK : K = G.ad) (p0 : Nat) (p1 : Int32) (p2 : Int32) (h : AH) : OkM G yX3_beatsOf cX3_beatsOf 3 (some .boolean) 5 cvI [.ref p0, .int p1, .int p2] h (F_X3_beatsOf n K p0 p1 p2 h) := by
  refine ok_of_sim [(0, .ref p0), (1, .int p1), (2, .int p2)] (by decide +kernel) (fun r => ⟨_, rfl⟩) (by simp [uns, lv_args, lg_sl, catI, catL, catA, va_rfc]) (by simp [uns, lv_args, lg_sl, catI, catL, catA, va_rfc]) (by simp [uns, lv_args, lg_sl, catI, catL, catA, va_rfc]) ?_
  unfold F_X3_beatsOf
  refine s_aload_n dX3_beatsOf_0 0 rfl ?_
  refine s_aload_n dX3_beatsOf_1 0 rfl ?_
  refine s_chk (fun hk1 => ?_)
  refine s_get (j := 12) 4 (va_rf (h.R p0 12)) dX3_beatsOf_2 hk1 rfl (by decide) q1249 (Or.inl rfl) rfl ?_
  refine s_iconst (0 : Int32) dX3_beatsOf_5 (by decide) ?_
  refine s_ob (r := h.R p0 12) (fun z => [(0, .ref p0), (1, .int p1), (2, .int p2)]) (fun z => [.int (0 : Int32), z, .ref p0]) (fun a2 => ?_)
  refine s_chk (fun hk3 => ?_)
  refine s_chk (fun hi4 => ?_)
  refine s_aald dX3_beatsOf_6 hk3 rfl rfl rfl hi4 ?_
  refine s_iload_n dX3_beatsOf_7 1 rfl ?_
  refine s_ob (r := h.R a2 (ix (0 : Int32))) (fun z => [(0, .ref p0), (1, .int p1), (2, .int p2)]) (fun z => [.int p1, z, .ref p0]) (fun a5 => ?_)
  refine s_chk (fun hk6 => ?_)
  refine s_chk (fun hi7 => ?_)
  refine s_iald dX3_beatsOf_8 hk6 rfl hi7 ?_
  refine s_aload_n dX3_beatsOf_9 0 rfl ?_
  refine s_get (j := 13) 4 (va_rf (h.R p0 13)) dX3_beatsOf_10 hk1 rfl (by decide) q1250 (Or.inl rfl) rfl ?_
  refine s_iconst (0 : Int32) dX3_beatsOf_13 (by decide) ?_
  refine s_ob (r := h.R p0 13) (fun z => [(0, .ref p0), (1, .int p1), (2, .int p2)]) (fun z => [.int (0 : Int32), z, .int (h.I a5 (ix p1)), .ref p0]) (fun a8 => ?_)
  refine s_chk (fun hk9 => ?_)
  refine s_chk (fun hi10 => ?_)
  refine s_aald dX3_beatsOf_14 hk9 rfl rfl rfl hi10 ?_
  refine s_iload_n dX3_beatsOf_15 1 rfl ?_
  refine s_ob (r := h.R a8 (ix (0 : Int32))) (fun z => [(0, .ref p0), (1, .int p1), (2, .int p2)]) (fun z => [.int p1, z, .int (h.I a5 (ix p1)), .ref p0]) (fun a11 => ?_)
  refine s_chk (fun hk12 => ?_)
  refine s_chk (fun hi13 => ?_)
  refine s_iald dX3_beatsOf_16 hk12 rfl hi13 ?_
  refine s_aload_n dX3_beatsOf_17 0 rfl ?_
  refine s_get (j := 12) 4 (va_rf (h.R p0 12)) dX3_beatsOf_18 hk1 rfl (by decide) q1249 (Or.inl rfl) rfl ?_
  refine s_iconst (0 : Int32) dX3_beatsOf_21 (by decide) ?_
  refine s_ob (r := h.R p0 12) (fun z => [(0, .ref p0), (1, .int p1), (2, .int p2)]) (fun z => [.int (0 : Int32), z, .int (h.I a11 (ix p1)), .int (h.I a5 (ix p1)), .ref p0]) (fun a14 => ?_)
  refine s_chk (fun hk15 => ?_)
  refine s_chk (fun hi16 => ?_)
  refine s_aald dX3_beatsOf_22 hk15 rfl rfl rfl hi16 ?_
  refine s_iload_n dX3_beatsOf_23 2 rfl ?_
  refine s_ob (r := h.R a14 (ix (0 : Int32))) (fun z => [(0, .ref p0), (1, .int p1), (2, .int p2)]) (fun z => [.int p2, z, .int (h.I a11 (ix p1)), .int (h.I a5 (ix p1)), .ref p0]) (fun a17 => ?_)
  refine s_chk (fun hk18 => ?_)
  refine s_chk (fun hi19 => ?_)
  refine s_iald dX3_beatsOf_24 hk18 rfl hi19 ?_
  refine s_aload_n dX3_beatsOf_25 0 rfl ?_
  refine s_get (j := 13) 4 (va_rf (h.R p0 13)) dX3_beatsOf_26 hk1 rfl (by decide) q1250 (Or.inl rfl) rfl ?_
  refine s_iconst (0 : Int32) dX3_beatsOf_29 (by decide) ?_
  refine s_ob (r := h.R p0 13) (fun z => [(0, .ref p0), (1, .int p1), (2, .int p2)]) (fun z => [.int (0 : Int32), z, .int (h.I a17 (ix p2)), .int (h.I a11 (ix p1)), .int (h.I a5 (ix p1)), .ref p0]) (fun a20 => ?_)
  refine s_chk (fun hk21 => ?_)
  refine s_chk (fun hi22 => ?_)
  refine s_aald dX3_beatsOf_30 hk21 rfl rfl rfl hi22 ?_
  refine s_iload_n dX3_beatsOf_31 2 rfl ?_
  refine s_ob (r := h.R a20 (ix (0 : Int32))) (fun z => [(0, .ref p0), (1, .int p1), (2, .int p2)]) (fun z => [.int p2, z, .int (h.I a17 (ix p2)), .int (h.I a11 (ix p1)), .int (h.I a5 (ix p1)), .ref p0]) (fun a23 => ?_)
  refine s_chk (fun hk24 => ?_)
  refine s_chk (fun hi25 => ?_)
  refine s_iald dX3_beatsOf_32 hk24 rfl hi25 ?_
  refine s_callV_I 4 (kX3_beatsAt G n K hK p0 (h.I a5 (ix p1)) (h.I a11 (ix p1)) (h.I a17 (ix p2)) (h.I a23 (ix p2)) h) (by decide) (by decide) dX3_beatsOf_33 hk1 rfl rfl q1540 q1542 qs71 q109 q1543 hyX3_beatsAt rfl rfl (Nat.le_of_ble_eq_true rfl) (fun r26 h27 => ?_)
  refine s_chk (fun hb28 => ?_)
  exact s_zret dX3_beatsOf_36 rfl (nb01 hb28) rfl
theorem hyX3_beats : yX3_beats.cls ≠ "java/lang/invoke/MethodHandle" ∧ yX3_beats.cls ≠ "java/lang/invoke/VarHandle" ∧ (parseMethodDescriptor yX3_beats.desc).map (fun d => d.parameters.length) = some 2 := by decide +kernel
theorem kX3_beats (G : Gl) (n : Nat) (K : Nat → Nat) (hK : K = G.ad) (p0 : Nat) (p1 : Int32) (p2 : Int32) (h : AH) : OkM G yX3_beats cX3_beats 3 (some .boolean) 6 cvI [.ref p0, .int p1, .int p2] h (F_X3_beats n K p0 p1 p2 h) := by
  refine ok_of_sim [(0, .ref p0), (1, .int p1), (2, .int p2)] (by decide +kernel) (fun r => ⟨_, rfl⟩) (by simp [uns, lv_args, lg_sl, catI, catL, catA, va_rfc]) (by simp [uns, lv_args, lg_sl, catI, catL, catA, va_rfc]) (by simp [uns, lv_args, lg_sl, catI, catL, catA, va_rfc]) ?_
  unfold F_X3_beats
  refine s_aload_n dX3_beats_0 0 rfl ?_
  refine s_iload_n dX3_beats_1 1 rfl ?_
  refine s_chk (fun hk3 => ?_)
  refine s_callV_I 4 (kX3_isPlace G n K hK p0 p1 h) (by decide) (by decide) dX3_beats_2 hk3 rfl rfl q1491 q1493 qs64 q109 q1494 hyX3_isPlace rfl rfl (Nat.le_of_ble_eq_true rfl) (fun r1 h2 => ?_)
  refine s_if_eq 29 dX3_beats_5 (by decide) (fun c4 => ?_) (fun c4 => ?_)
  · refine s_iconst (0 : Int32) dX3_beats_29 (by decide) ?_
    exact s_zret dX3_beats_30 rfl rfl rfl
  · refine s_aload_n dX3_beats_8 0 rfl ?_
    refine s_iload_n dX3_beats_9 2 rfl ?_
    refine s_chk (fun hk7 => ?_)
    refine s_callV_I 4 (kX3_isPlace G n K hK p0 p2 h2) (by decide) (by decide) dX3_beats_10 hk7 rfl rfl q1491 q1493 qs64 q109 q1494 hyX3_isPlace rfl rfl (Nat.le_of_ble_eq_true rfl) (fun r5 h6 => ?_)
    refine s_if_eq 29 dX3_beats_13 (by decide) (fun c8 => ?_) (fun c8 => ?_)
    · refine s_iconst (0 : Int32) dX3_beats_29 (by decide) ?_
      exact s_zret dX3_beats_30 rfl rfl rfl
    · refine s_aload_n dX3_beats_16 0 rfl ?_
      refine s_iload_n dX3_beats_17 1 rfl ?_
      refine s_iload_n dX3_beats_18 2 rfl ?_
      refine s_chk (fun hk11 => ?_)
      refine s_callV_I 4 (kX3_beatsOf G n K hK p0 p1 p2 h6) (by decide) (by decide) dX3_beats_19 hk11 rfl rfl q1536 q1538 qs70 q109 q1539 hyX3_beatsOf rfl rfl (Nat.le_of_ble_eq_true rfl) (fun r9 h10 => ?_)
      refine s_if_eq 29 dX3_beats_22 (by decide) (fun c12 => ?_) (fun c12 => ?_)
      · refine s_iconst (0 : Int32) dX3_beats_29 (by decide) ?_
        exact s_zret dX3_beats_30 rfl rfl rfl
      · refine s_iconst (1 : Int32) dX3_beats_25 (by decide) ?_
        refine s_goto 30 dX3_beats_26 (by decide) ?_
        exact s_zret dX3_beats_30 rfl rfl rfl
theorem hyX3_wins : yX3_wins.cls ≠ "java/lang/invoke/MethodHandle" ∧ yX3_wins.cls ≠ "java/lang/invoke/VarHandle" ∧ (parseMethodDescriptor yX3_wins.desc).map (fun d => d.parameters.length) = some 2 := by decide +kernel
theorem kX3_wins (G : Gl) (n : Nat) (K : Nat → Nat) (hK : K = G.ad) (p0 : Nat) (p1 : Int32) (p2 : Int32) (h : AH) : OkM G yX3_wins cX3_wins 3 (some .boolean) 5 cvI [.ref p0, .int p1, .int p2] h (F_X3_wins n K p0 p1 p2 h) := by
  refine ok_of_sim [(0, .ref p0), (1, .int p1), (2, .int p2)] (by decide +kernel) (fun r => ⟨_, rfl⟩) (by simp [uns, lv_args, lg_sl, catI, catL, catA, va_rfc]) (by simp [uns, lv_args, lg_sl, catI, catL, catA, va_rfc]) (by simp [uns, lv_args, lg_sl, catI, catL, catA, va_rfc]) ?_
  unfold F_X3_wins
  refine s_aload_n dX3_wins_0 0 rfl ?_
  refine s_chk (fun hk3 => ?_)
  refine s_callV_I 4 (kX3_voters G n K hK p0 h) (by decide) (by decide) dX3_wins_1 hk3 rfl rfl q1475 q1477 qs62 q109 q1478 hyX3_voters rfl rfl (Nat.le_of_ble_eq_true rfl) (fun r1 h2 => ?_)
  refine s_if_eq 31 dX3_wins_4 (by decide) (fun c4 => ?_) (fun c4 => ?_)
  · refine s_iconst (0 : Int32) dX3_wins_31 (by decide) ?_
    exact s_zret dX3_wins_32 rfl rfl rfl
  · refine s_iload_n dX3_wins_7 1 rfl ?_
    refine s_i2l dX3_wins_8 ?_
    refine s_lconst (0 : Int64) dX3_wins_9 (by decide) ?_
    refine s_ldc2 (v := (9999 : Int64)) dX3_wins_10 q1556 ?_
    refine s_callS_I (kX3_in G n K hK p1.toInt64 (0 : Int64) (9999 : Int64) h2) (by decide) (by decide) dX3_wins_13 q1397 q1398 q109 q1399 hyX3_in rfl rfl (Nat.le_of_ble_eq_true rfl) (fun r5 h6 => ?_)
    refine s_if_eq 31 dX3_wins_16 (by decide) (fun c7 => ?_) (fun c7 => ?_)
    · refine s_iconst (0 : Int32) dX3_wins_31 (by decide) ?_
      exact s_zret dX3_wins_32 rfl rfl rfl
    · refine s_iload_n dX3_wins_19 2 rfl ?_
      refine s_i2l dX3_wins_20 ?_
      refine s_lconst (0 : Int64) dX3_wins_21 (by decide) ?_
      refine s_ldc2 (v := (9999 : Int64)) dX3_wins_22 q1556 ?_
      refine s_callS_I (kX3_in G n K hK p2.toInt64 (0 : Int64) (9999 : Int64) h6) (by decide) (by decide) dX3_wins_25 q1397 q1398 q109 q1399 hyX3_in rfl rfl (Nat.le_of_ble_eq_true rfl) (fun r8 h9 => ?_)
      refine s_if_ne 33 dX3_wins_28 (by decide) (fun c10 => ?_) (fun c10 => ?_)
      · refine s_aload_n dX3_wins_33 0 rfl ?_
        refine s_iload_n dX3_wins_34 1 rfl ?_
        refine s_bipush (100 : Int32) dX3_wins_35 (by decide) ?_
        refine s_idiv dX3_wins_37 (by decide) ?_
        refine s_iload_n dX3_wins_38 1 rfl ?_
        refine s_bipush (100 : Int32) dX3_wins_39 (by decide) ?_
        refine s_irem dX3_wins_41 (by decide) ?_
        refine s_iload_n dX3_wins_42 2 rfl ?_
        refine s_bipush (100 : Int32) dX3_wins_43 (by decide) ?_
        refine s_idiv dX3_wins_45 (by decide) ?_
        refine s_iload_n dX3_wins_46 2 rfl ?_
        refine s_bipush (100 : Int32) dX3_wins_47 (by decide) ?_
        refine s_irem dX3_wins_49 (by decide) ?_
        refine s_chk (fun hk13 => ?_)
        refine s_callV_I 4 (kX3_beatsAt G n K hK p0 (p1 / (100 : Int32)) (p1 - p1 / (100 : Int32) * (100 : Int32)) (p2 / (100 : Int32)) (p2 - p2 / (100 : Int32) * (100 : Int32)) h9) (by decide) (by decide) dX3_wins_50 hk13 rfl rfl q1540 q1542 qs71 q109 q1543 hyX3_beatsAt rfl rfl (Nat.le_of_ble_eq_true rfl) (fun r11 h12 => ?_)
        refine s_chk (fun hb14 => ?_)
        exact s_zret dX3_wins_53 rfl (nb01 hb14) rfl
      · refine s_iconst (0 : Int32) dX3_wins_31 (by decide) ?_
        exact s_zret dX3_wins_32 rfl rfl rfl
theorem hyX3_gcd : yX3_gcd.cls ≠ "java/lang/invoke/MethodHandle" ∧ yX3_gcd.cls ≠ "java/lang/invoke/VarHandle" ∧ (parseMethodDescriptor yX3_gcd.desc).map (fun d => d.parameters.length) = some 2 := by decide +kernel
theorem sX3_gcd_L28 (G : Gl) (n : Nat) (K : Nat → Nat) (hK : K = G.ad) (h : AH) : ∀ (f : Nat) (x6 : Int64) (x7 : Int64), Sim G yX3_gcd.cls yX3_gcd.name cX3_gcd 10 (some .long) 1 cvL 28 [(1006, .long x6), (1004, .long x7)] [] h (F_X3_gcd_L28 n K h f x6 x7) := by
  intro f
  induction f with
  | zero =>
    intro x6 x7
    exact s_none
  | succ f ih =>
    intro x6 x7
    unfold F_X3_gcd_L28
    refine s_lload dX3_gcd_28 0 rfl ?_
    refine s_lconst (0 : Int64) dX3_gcd_30 (by decide) ?_
    refine s_lcmp dX3_gcd_31 ?_
    refine s_if_le 53 dX3_gcd_32 (by decide) (fun c8 => ?_) (fun c8 => ?_)
    · refine s_lload dX3_gcd_53 1 rfl ?_
      exact s_lret dX3_gcd_55 rfl rfl
    · refine s_lload dX3_gcd_35 1 rfl ?_
      refine s_lload dX3_gcd_37 0 rfl ?_
      refine s_chk (fun hz9 => ?_)
      refine s_lrem dX3_gcd_39 hz9 ?_
      refine s_lstore [(1008, .long (x7 - x7 / x6 * x6)), (1006, .long x6), (1004, .long x7)] dX3_gcd_40 (by decide) (by decide) rfl ?_
      refine s_lload dX3_gcd_42 1 rfl ?_
      refine s_lstore [(1004, .long x6), (1008, .long (x7 - x7 / x6 * x6)), (1006, .long x6)] dX3_gcd_44 (by decide) (by decide) rfl ?_
      refine s_lload dX3_gcd_46 1 rfl ?_
      refine s_lstore [(1006, .long (x7 - x7 / x6 * x6)), (1004, .long x6), (1008, .long (x7 - x7 / x6 * x6))] dX3_gcd_48 (by decide) (by decide) rfl ?_
      refine s_goto 28 dX3_gcd_50 (by decide) ?_
      refine s_sub [0, 1] rfl ?_
      exact ih (x7 - x7 / x6 * x6) x6
theorem kX3_gcd (G : Gl) (n : Nat) (K : Nat → Nat) (hK : K = G.ad) (p0 : Int64) (p2 : Int64) (h : AH) : OkM G yX3_gcd cX3_gcd 10 (some .long) 1 cvL [.long p0, .long p2] h (F_X3_gcd n K p0 p2 h) := by
  refine ok_of_sim [(1000, .long p0), (1002, .long p2)] (by decide +kernel) (fun r => ⟨_, rfl⟩) (by simp [uns, lv_args, lg_sl, catI, catL, catA, va_rfc]) (by simp [uns, lv_args, lg_sl, catI, catL, catA, va_rfc]) (by simp [uns, lv_args, lg_sl, catI, catL, catA, va_rfc]) ?_
  unfold F_X3_gcd
  refine s_lload_n dX3_gcd_0 0 rfl ?_
  refine s_lconst (0 : Int64) dX3_gcd_1 (by decide) ?_
  refine s_lcmp dX3_gcd_2 ?_
  refine s_jn (fun j2 => ∀ (x1 : Int64), Sim G yX3_gcd.cls yX3_gcd.name cX3_gcd 10 (some .long) 1 cvL 12 [(1002, .long p2)] [.long x1] h (j2 x1)) ?_ (fun j2 hj12 => ?_)
  · intro x1
    refine s_lstore [(1004, .long x1), (1002, .long p2)] dX3_gcd_12 (by decide) (by decide) rfl ?_
    refine s_lload_n dX3_gcd_14 1 rfl ?_
    refine s_lconst (0 : Int64) dX3_gcd_15 (by decide) ?_
    refine s_lcmp dX3_gcd_16 ?_
    refine s_jn (fun j4 => ∀ (x3 : Int64), Sim G yX3_gcd.cls yX3_gcd.name cX3_gcd 10 (some .long) 1 cvL 26 [(1004, .long x1)] [.long x3] h (j4 x3)) ?_ (fun j4 hj10 => ?_)
    · intro x3
      refine s_lstore [(1006, .long x3), (1004, .long x1)] dX3_gcd_26 (by decide) (by decide) rfl ?_
      exact sX3_gcd_L28 G n K hK h n x3 x1
    refine s_if_ge 25 dX3_gcd_17 (by decide) (fun c11 => ?_) (fun c11 => ?_)
    · refine s_lload_n dX3_gcd_25 1 rfl ?_
      refine s_sub [0] rfl ?_
      exact hj10 p2
    · refine s_lload_n dX3_gcd_20 1 rfl ?_
      refine s_lneg dX3_gcd_21 ?_
      refine s_goto 26 dX3_gcd_22 (by decide) ?_
      refine s_sub [0] rfl ?_
      exact hj10 (-p2)
  refine s_if_ge 11 dX3_gcd_3 (by decide) (fun c13 => ?_) (fun c13 => ?_)
  · refine s_lload_n dX3_gcd_11 0 rfl ?_
    refine s_sub [1] rfl ?_
    exact hj12 p0
  · refine s_lload_n dX3_gcd_6 0 rfl ?_
    refine s_lneg dX3_gcd_7 ?_
    refine s_goto 12 dX3_gcd_8 (by decide) ?_
    refine s_sub [1] rfl ?_
    exact hj12 (-p0)
theorem hyX3_halves : yX3_halves.cls ≠ "java/lang/invoke/MethodHandle" ∧ yX3_halves.cls ≠ "java/lang/invoke/VarHandle" ∧ (parseMethodDescriptor yX3_halves.desc).map (fun d => d.parameters.length) = some 3 := by decide +kernel
theorem sX3_halves_L9 (G : Gl) (n : Nat) (K : Nat → Nat) (hK : K = G.ad) (y5 : Nat) (y6 : Int32) (y7 : Int32) (y8 : Int32) : ∀ (f : Nat) (x2 : Int32) (x3 : Int32) (x4 : Int32) (h : AH), Sim G yX3_halves.cls yX3_halves.name cX3_halves 8 (some .boolean) 3 cvI 9 [(6, .int x2), (5, .int x3), (4, .int x4), (0, .ref y5), (1, .int y6), (2, .int y7), (3, .int y8)] [] h (F_X3_halves_L9 n K y5 y6 y7 y8 f x2 x3 x4 h) := by
  intro f
  induction f with
  | zero =>
    intro x2 x3 x4 h
    exact s_none
  | succ f ih =>
    intro x2 x3 x4 h
    unfold F_X3_halves_L9
    refine s_iload dX3_halves_9 0 rfl (by decide) ?_
    refine s_aload_n dX3_halves_11 3 rfl ?_
    refine s_chk (fun hk11 => ?_)
    refine s_callV_I 4 (kX3_voters G n K hK y5 h) (by decide) (by decide) dX3_halves_12 hk11 rfl rfl q1475 q1477 qs62 q109 q1478 hyX3_voters rfl rfl (Nat.le_of_ble_eq_true rfl) (fun r9 h10 => ?_)
    refine s_icmp_ge 97 dX3_halves_15 (by decide) (fun c12 => ?_) (fun c12 => ?_)
    · refine s_iconst (2 : Int32) dX3_halves_97 (by decide) ?_
      refine s_iload dX3_halves_98 2 rfl (by decide) ?_
      refine s_imul dX3_halves_100 ?_
      refine s_aload_n dX3_halves_101 3 rfl ?_
      refine s_chk (fun hk15 => ?_)
      refine s_callV_I 4 (kX3_total G n K hK y5 h10) (by decide) (by decide) dX3_halves_102 hk15 rfl rfl q1548 q1550 qs73 q109 q1551 hyX3_total rfl rfl (Nat.le_of_ble_eq_true rfl) (fun r13 h14 => ?_)
      refine s_icmp_gt 123 dX3_halves_105 (by decide) (fun c16 => ?_) (fun c16 => ?_)
      · refine s_iconst (0 : Int32) dX3_halves_123 (by decide) ?_
        exact s_zret dX3_halves_124 rfl rfl rfl
      · refine s_iconst (2 : Int32) dX3_halves_108 (by decide) ?_
        refine s_iload dX3_halves_109 1 rfl (by decide) ?_
        refine s_imul dX3_halves_111 ?_
        refine s_aload_n dX3_halves_112 3 rfl ?_
        refine s_chk (fun hk19 => ?_)
        refine s_callV_I 4 (kX3_total G n K hK y5 h14) (by decide) (by decide) dX3_halves_113 hk19 rfl rfl q1548 q1550 qs73 q109 q1551 hyX3_total rfl rfl (Nat.le_of_ble_eq_true rfl) (fun r17 h18 => ?_)
        refine s_icmp_gt 123 dX3_halves_116 (by decide) (fun c20 => ?_) (fun c20 => ?_)
        · refine s_iconst (0 : Int32) dX3_halves_123 (by decide) ?_
          exact s_zret dX3_halves_124 rfl rfl rfl
        · refine s_iconst (1 : Int32) dX3_halves_119 (by decide) ?_
          refine s_goto 124 dX3_halves_120 (by decide) ?_
          exact s_zret dX3_halves_124 rfl rfl rfl
    · refine s_iload_n dX3_halves_18 4 rfl ?_
      refine s_aload_n dX3_halves_19 3 rfl ?_
      refine s_chk (fun hk21 => ?_)
      refine s_get (j := 6) 4 (va_rf (h10.R y5 6)) dX3_halves_20 hk21 rfl (by decide) q1243 (Or.inl rfl) rfl ?_
      refine s_iconst (0 : Int32) dX3_halves_23 (by decide) ?_
      refine s_ob (r := h10.R y5 6) (fun z => [(6, .int x2), (5, .int x3), (4, .int x4), (0, .ref y5), (1, .int y6), (2, .int y7), (3, .int y8)]) (fun z => [.int (0 : Int32), z, .int y6]) (fun a22 => ?_)
      refine s_chk (fun hk23 => ?_)
      refine s_chk (fun hi24 => ?_)
      refine s_aald dX3_halves_24 hk23 rfl rfl rfl hi24 ?_
      refine s_iload dX3_halves_25 0 rfl (by decide) ?_
      refine s_ob (r := h10.R a22 (ix (0 : Int32))) (fun z => [(6, .int x2), (5, .int x3), (4, .int x4), (0, .ref y5), (1, .int y6), (2, .int y7), (3, .int y8)]) (fun z => [.int x2, z, .int y6]) (fun a25 => ?_)
      refine s_chk (fun hk26 => ?_)
      refine s_chk (fun hi27 => ?_)
      refine s_iald dX3_halves_27 hk26 rfl hi27 ?_
      refine s_imul dX3_halves_28 ?_
      refine s_iload_n dX3_halves_29 5 rfl ?_
      refine s_aload_n dX3_halves_30 3 rfl ?_
      refine s_get (j := 7) 4 (va_rf (h10.R y5 7)) dX3_halves_31 hk21 rfl (by decide) q1244 (Or.inl rfl) rfl ?_
      refine s_iconst (0 : Int32) dX3_halves_34 (by decide) ?_
      refine s_ob (r := h10.R y5 7) (fun z => [(6, .int x2), (5, .int x3), (4, .int x4), (0, .ref y5), (1, .int y6), (2, .int y7), (3, .int y8)]) (fun z => [.int (0 : Int32), z, .int y7, .int (y6 * (h10.I a25 (ix x2)))]) (fun a28 => ?_)
      refine s_chk (fun hk29 => ?_)
      refine s_chk (fun hi30 => ?_)
      refine s_aald dX3_halves_35 hk29 rfl rfl rfl hi30 ?_
      refine s_iload dX3_halves_36 0 rfl (by decide) ?_
      refine s_ob (r := h10.R a28 (ix (0 : Int32))) (fun z => [(6, .int x2), (5, .int x3), (4, .int x4), (0, .ref y5), (1, .int y6), (2, .int y7), (3, .int y8)]) (fun z => [.int x2, z, .int y7, .int (y6 * (h10.I a25 (ix x2)))]) (fun a31 => ?_)
      refine s_chk (fun hk32 => ?_)
      refine s_chk (fun hi33 => ?_)
      refine s_iald dX3_halves_38 hk32 rfl hi33 ?_
      refine s_imul dX3_halves_39 ?_
      refine s_iadd dX3_halves_40 ?_
      refine s_istore [(7, .int ((y6 * (h10.I a25 (ix x2))) + (y7 * (h10.I a31 (ix x2))))), (6, .int x2), (5, .int x3), (4, .int x4), (0, .ref y5), (1, .int y6), (2, .int y7), (3, .int y8)] dX3_halves_41 (by decide) (by decide) rfl ?_
      refine s_iload dX3_halves_43 3 rfl (by decide) ?_
      refine s_iload dX3_halves_45 0 rfl (by decide) ?_
      refine s_iload_n dX3_halves_47 7 rfl ?_
      refine s_jn (fun j35 => ∀ (x34 : Int32), Sim G yX3_halves.cls yX3_halves.name cX3_halves 8 (some .boolean) 3 cvI 64 [(7, .int ((y6 * (h10.I a25 (ix x2))) + (y7 * (h10.I a31 (ix x2))))), (6, .int x2), (5, .int x3), (0, .ref y5), (1, .int y6), (2, .int y7), (3, .int y8)] [.int x34, .int x4] h10 (j35 x34)) ?_ (fun j35 hj43 => ?_)
      · intro x34
        refine s_iadd dX3_halves_64 ?_
        refine s_istore [(4, .int (x4 + x34)), (7, .int ((y6 * (h10.I a25 (ix x2))) + (y7 * (h10.I a31 (ix x2))))), (6, .int x2), (5, .int x3), (0, .ref y5), (1, .int y6), (2, .int y7), (3, .int y8)] dX3_halves_65 (by decide) (by decide) rfl ?_
        refine s_iload dX3_halves_67 3 rfl (by decide) ?_
        refine s_iload dX3_halves_69 1 rfl (by decide) ?_
        refine s_iload_n dX3_halves_71 7 rfl ?_
        refine s_icmp_ge 87 dX3_halves_72 (by decide) (fun c36 => ?_) (fun c36 => ?_)
        · refine s_iconst (0 : Int32) dX3_halves_87 (by decide) ?_
          refine s_iadd dX3_halves_88 ?_
          refine s_istore [(5, .int (x3 + (0 : Int32))), (4, .int (x4 + x34)), (7, .int ((y6 * (h10.I a25 (ix x2))) + (y7 * (h10.I a31 (ix x2))))), (6, .int x2), (0, .ref y5), (1, .int y6), (2, .int y7), (3, .int y8)] dX3_halves_89 (by decide) (by decide) rfl ?_
          refine s_iinc (1 : Int32) [(6, .int (x2 + (1 : Int32))), (5, .int (x3 + (0 : Int32))), (4, .int (x4 + x34)), (7, .int ((y6 * (h10.I a25 (ix x2))) + (y7 * (h10.I a31 (ix x2))))), (0, .ref y5), (1, .int y6), (2, .int y7), (3, .int y8)] dX3_halves_91 3 rfl (by decide) (by decide) (by decide) rfl ?_
          refine s_goto 9 dX3_halves_94 (by decide) ?_
          refine s_sub [0, 1, 2, 4, 5, 6, 7] rfl ?_
          exact ih (x2 + (1 : Int32)) (x3 + (0 : Int32)) (x4 + x34) h10
        · refine s_aload_n dX3_halves_75 4 rfl ?_
          refine s_get (j := 8) 4 (va_rf (h10.R y5 8)) dX3_halves_76 hk21 rfl (by decide) q1245 (Or.inl rfl) rfl ?_
          refine s_iconst (0 : Int32) dX3_halves_79 (by decide) ?_
          refine s_ob (r := h10.R y5 8) (fun z => [(4, .int (x4 + x34)), (7, .int ((y6 * (h10.I a25 (ix x2))) + (y7 * (h10.I a31 (ix x2))))), (6, .int x2), (5, .int x3), (0, .ref y5), (1, .int y6), (2, .int y7), (3, .int y8)]) (fun z => [.int (0 : Int32), z, .int x3]) (fun a37 => ?_)
          refine s_chk (fun hk38 => ?_)
          refine s_chk (fun hi39 => ?_)
          refine s_aald dX3_halves_80 hk38 rfl rfl rfl hi39 ?_
          refine s_iload dX3_halves_81 2 rfl (by decide) ?_
          refine s_ob (r := h10.R a37 (ix (0 : Int32))) (fun z => [(4, .int (x4 + x34)), (7, .int ((y6 * (h10.I a25 (ix x2))) + (y7 * (h10.I a31 (ix x2))))), (6, .int x2), (5, .int x3), (0, .ref y5), (1, .int y6), (2, .int y7), (3, .int y8)]) (fun z => [.int x2, z, .int x3]) (fun a40 => ?_)
          refine s_chk (fun hk41 => ?_)
          refine s_chk (fun hi42 => ?_)
          refine s_iald dX3_halves_83 hk41 rfl hi42 ?_
          refine s_goto 88 dX3_halves_84 (by decide) ?_
          refine s_iadd dX3_halves_88 ?_
          refine s_istore [(5, .int (x3 + (h10.I a40 (ix x2)))), (4, .int (x4 + x34)), (7, .int ((y6 * (h10.I a25 (ix x2))) + (y7 * (h10.I a31 (ix x2))))), (6, .int x2), (0, .ref y5), (1, .int y6), (2, .int y7), (3, .int y8)] dX3_halves_89 (by decide) (by decide) rfl ?_
          refine s_iinc (1 : Int32) [(6, .int (x2 + (1 : Int32))), (5, .int (x3 + (h10.I a40 (ix x2)))), (4, .int (x4 + x34)), (7, .int ((y6 * (h10.I a25 (ix x2))) + (y7 * (h10.I a31 (ix x2))))), (0, .ref y5), (1, .int y6), (2, .int y7), (3, .int y8)] dX3_halves_91 3 rfl (by decide) (by decide) (by decide) rfl ?_
          refine s_goto 9 dX3_halves_94 (by decide) ?_
          refine s_sub [0, 1, 2, 4, 5, 6, 7] rfl ?_
          exact ih (x2 + (1 : Int32)) (x3 + (h10.I a40 (ix x2))) (x4 + x34) h10
      refine s_icmp_le 63 dX3_halves_48 (by decide) (fun c44 => ?_) (fun c44 => ?_)
      · refine s_iconst (0 : Int32) dX3_halves_63 (by decide) ?_
        refine s_sub [0, 1, 2, 4, 5, 6, 7] rfl ?_
        exact hj43 (0 : Int32)
      · refine s_aload_n dX3_halves_51 4 rfl ?_
        refine s_get (j := 8) 4 (va_rf (h10.R y5 8)) dX3_halves_52 hk21 rfl (by decide) q1245 (Or.inl rfl) rfl ?_
        refine s_iconst (0 : Int32) dX3_halves_55 (by decide) ?_
        refine s_ob (r := h10.R y5 8) (fun z => [(7, .int ((y6 * (h10.I a25 (ix x2))) + (y7 * (h10.I a31 (ix x2))))), (6, .int x2), (5, .int x3), (4, .int x4), (0, .ref y5), (1, .int y6), (2, .int y7), (3, .int y8)]) (fun z => [.int (0 : Int32), z, .int x4]) (fun a45 => ?_)
        refine s_chk (fun hk46 => ?_)
        refine s_chk (fun hi47 => ?_)
        refine s_aald dX3_halves_56 hk46 rfl rfl rfl hi47 ?_
        refine s_iload dX3_halves_57 1 rfl (by decide) ?_
        refine s_ob (r := h10.R a45 (ix (0 : Int32))) (fun z => [(7, .int ((y6 * (h10.I a25 (ix x2))) + (y7 * (h10.I a31 (ix x2))))), (6, .int x2), (5, .int x3), (4, .int x4), (0, .ref y5), (1, .int y6), (2, .int y7), (3, .int y8)]) (fun z => [.int x2, z, .int x4]) (fun a48 => ?_)
        refine s_chk (fun hk49 => ?_)
        refine s_chk (fun hi50 => ?_)
        refine s_iald dX3_halves_59 hk49 rfl hi50 ?_
        refine s_goto 64 dX3_halves_60 (by decide) ?_
        refine s_sub [0, 1, 2, 4, 5, 6, 7] rfl ?_
        exact hj43 (h10.I a48 (ix x2))
theorem kX3_halves (G : Gl) (n : Nat) (K : Nat → Nat) (hK : K = G.ad) (p0 : Nat) (p1 : Int32) (p2 : Int32) (p3 : Int32) (h : AH) : OkM G yX3_halves cX3_halves 8 (some .boolean) 3 cvI [.ref p0, .int p1, .int p2, .int p3] h (F_X3_halves n K p0 p1 p2 p3 h) := by
  refine ok_of_sim [(0, .ref p0), (1, .int p1), (2, .int p2), (3, .int p3)] (by decide +kernel) (fun r => ⟨_, rfl⟩) (by simp [uns, lv_args, lg_sl, catI, catL, catA, va_rfc]) (by simp [uns, lv_args, lg_sl, catI, catL, catA, va_rfc]) (by simp [uns, lv_args, lg_sl, catI, catL, catA, va_rfc]) ?_
  unfold F_X3_halves
  refine s_iconst (0 : Int32) dX3_halves_0 (by decide) ?_
  refine s_istore [(4, .int (0 : Int32)), (0, .ref p0), (1, .int p1), (2, .int p2), (3, .int p3)] dX3_halves_1 (by decide) (by decide) rfl ?_
  refine s_iconst (0 : Int32) dX3_halves_3 (by decide) ?_
  refine s_istore [(5, .int (0 : Int32)), (4, .int (0 : Int32)), (0, .ref p0), (1, .int p1), (2, .int p2), (3, .int p3)] dX3_halves_4 (by decide) (by decide) rfl ?_
  refine s_iconst (0 : Int32) dX3_halves_6 (by decide) ?_
  refine s_istore [(6, .int (0 : Int32)), (5, .int (0 : Int32)), (4, .int (0 : Int32)), (0, .ref p0), (1, .int p1), (2, .int p2), (3, .int p3)] dX3_halves_7 (by decide) (by decide) rfl ?_
  exact sX3_halves_L9 G n K hK p0 p1 p2 p3 n (0 : Int32) (0 : Int32) (0 : Int32) h
