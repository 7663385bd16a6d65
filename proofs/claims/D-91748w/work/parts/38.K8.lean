set_option maxRecDepth 100000
theorem hyX0_need : yX0_need.cls ≠ "java/lang/invoke/MethodHandle" ∧ yX0_need.cls ≠ "java/lang/invoke/VarHandle" ∧ (parseMethodDescriptor yX0_need.desc).map (fun d => d.parameters.length) = some 1 := by decide +kernel
theorem sX0_need_L41 (G : Gl) (n : Nat) (K : Nat → Nat) (hK : K = G.ad) (y13 : Nat) : ∀ (f : Nat) (x11 : Int32) (x12 : Int32) (h : AH), Sim G yX0_need.cls yX0_need.name cX0_need 4 (some .int) 8 cvI 41 [(3, .int x11), (2, .int x12), (0, .ref y13)] [] h (F_X0_need_L41 n K y13 f x11 x12 h) := by
  intro f
  induction f with
  | zero =>
    intro x11 x12 h
    exact s_none
  | succ f ih =>
    intro x11 x12 h
    unfold F_X0_need_L41
    refine s_iload_n dX0_need_41 0 rfl ?_
    refine s_aload_n dX0_need_42 2 rfl ?_
    refine s_chk (fun hk14 => ?_)
    refine s_get (j := 3) 0 (va_rf (h.R y13 3)) dX0_need_43 hk14 rfl (by decide) q236 (Or.inl rfl) rfl ?_
    refine s_ob (r := h.R y13 3) (fun z => [(3, .int x11), (2, .int x12), (0, .ref y13)]) (fun z => [z, .int x11]) (fun a15 => ?_)
    refine s_chk (fun hk18 => ?_)
    refine s_callV_I 2 (kJ2_size G n K hK a15 h) (by decide) (by decide) dX0_need_46 hk18 rfl rfl q732 q552 q553 q107 q554 hyJ2_size rfl rfl (Nat.le_of_ble_eq_true rfl) (fun r16 h17 => ?_)
    refine s_icmp_ge 73 dX0_need_49 (by decide) (fun c19 => ?_) (fun c19 => ?_)
    · refine s_iload_n dX0_need_73 1 rfl ?_
      exact s_iret dX0_need_74 rfl rfl
    · refine s_aload_n dX0_need_52 2 rfl ?_
      refine s_iload_n dX0_need_53 0 rfl ?_
      refine s_chk (fun hk22 => ?_)
      refine s_callV_I 0 (kX0_needOf G n K hK y13 x11 h17) (by decide) (by decide) dX0_need_54 hk22 rfl rfl q1107 q1109 qs43 q103 q1110 hyX0_needOf rfl rfl (Nat.le_of_ble_eq_true rfl) (fun r20 h21 => ?_)
      refine s_aload_n dX0_need_57 2 rfl ?_
      refine s_iload_n dX0_need_58 1 rfl ?_
      refine s_chk (fun hk25 => ?_)
      refine s_callV_I 0 (kX0_needOf G n K hK y13 x12 h21) (by decide) (by decide) dX0_need_59 hk25 rfl rfl q1107 q1109 qs43 q103 q1110 hyX0_needOf rfl rfl (Nat.le_of_ble_eq_true rfl) (fun r23 h24 => ?_)
      refine s_icmp_ge 67 dX0_need_62 (by decide) (fun c26 => ?_) (fun c26 => ?_)
      · refine s_iinc (1 : Int32) [(3, .int (x11 + (1 : Int32))), (2, .int x12), (0, .ref y13)] dX0_need_67 0 rfl (by decide) (by decide) (by decide) rfl ?_
        refine s_goto 41 dX0_need_70 (by decide) ?_
        exact ih (x11 + (1 : Int32)) x12 h24
      · refine s_iload_n dX0_need_65 0 rfl ?_
        refine s_istore_n [(2, .int x11), (3, .int x11), (0, .ref y13)] dX0_need_66 (by decide) (by decide) rfl ?_
        refine s_iinc (1 : Int32) [(3, .int (x11 + (1 : Int32))), (2, .int x11), (0, .ref y13)] dX0_need_67 1 rfl (by decide) (by decide) (by decide) rfl ?_
        refine s_goto 41 dX0_need_70 (by decide) ?_
        exact ih (x11 + (1 : Int32)) x11 h24
theorem kX0_need (G : Gl) (n : Nat) (K : Nat → Nat) (hK : K = G.ad) (p0 : Nat) (p1 : Int32) (h : AH) : OkM G yX0_need cX0_need 4 (some .int) 8 cvI [.ref p0, .int p1] h (F_X0_need n K p0 p1 h) := by
  refine ok_of_sim [(0, .ref p0), (1, .int p1)] (by decide +kernel) (fun r => ⟨_, rfl⟩) (by simp [uns, lv_args, lg_sl, catI, catL, catA, va_rfc]) (by simp [uns, lv_args, lg_sl, catI, catL, catA, va_rfc]) (by simp [uns, lv_args, lg_sl, catI, catL, catA, va_rfc]) ?_
  unfold F_X0_need
  refine s_aload_n dX0_need_0 0 rfl ?_
  refine s_chk (fun hk1 => ?_)
  refine s_get (j := 3) 0 (va_rf (h.R p0 3)) dX0_need_1 hk1 rfl (by decide) q236 (Or.inl rfl) rfl ?_
  refine s_ob (r := h.R p0 3) (fun z => [(0, .ref p0), (1, .int p1)]) (fun z => [z]) (fun a2 => ?_)
  refine s_chk (fun hk5 => ?_)
  refine s_callV_I 2 (kJ2_size G n K hK a2 h) (by decide) (by decide) dX0_need_4 hk5 rfl rfl q732 q552 q553 q107 q554 hyJ2_size rfl rfl (Nat.le_of_ble_eq_true rfl) (fun r3 h4 => ?_)
  refine s_iconst (2 : Int32) dX0_need_7 (by decide) ?_
  refine s_icmp_lt 24 dX0_need_8 (by decide) (fun c6 => ?_) (fun c6 => ?_)
  · refine s_iconst (-1 : Int32) dX0_need_24 (by decide) ?_
    exact s_iret dX0_need_25 rfl rfl
  · refine s_iload_n dX0_need_11 1 rfl ?_
    refine s_iconst (-1 : Int32) dX0_need_12 (by decide) ?_
    refine s_jn (fun j8 => ∀ (h7 : AH), Sim G yX0_need.cls yX0_need.name cX0_need 4 (some .int) 8 cvI 26 [(0, .ref p0), (1, .int p1)] [] h7 (j8 h7)) ?_ (fun j8 hj30 => ?_)
    · intro h7
      refine s_iload_n dX0_need_26 1 rfl ?_
      refine s_iconst (-1 : Int32) dX0_need_27 (by decide) ?_
      refine s_icmp_eq 37 dX0_need_28 (by decide) (fun c9 => ?_) (fun c9 => ?_)
      · refine s_iconst (0 : Int32) dX0_need_37 (by decide) ?_
        refine s_istore_n [(2, .int (0 : Int32)), (0, .ref p0), (1, .int p1)] dX0_need_38 (by decide) (by decide) rfl ?_
        refine s_iconst (1 : Int32) dX0_need_39 (by decide) ?_
        refine s_istore_n [(3, .int (1 : Int32)), (2, .int (0 : Int32)), (0, .ref p0), (1, .int p1)] dX0_need_40 (by decide) (by decide) rfl ?_
        refine s_sub [0, 1, 2] rfl ?_
        exact sX0_need_L41 G n K hK p0 n (1 : Int32) (0 : Int32) h7
      · refine s_aload_n dX0_need_31 0 rfl ?_
        refine s_iload_n dX0_need_32 1 rfl ?_
        refine s_chk (fun hk29 => ?_)
        refine s_callV_I 0 (kX0_needOf G n K hK p0 p1 h7) (by decide) (by decide) dX0_need_33 hk29 rfl rfl q1107 q1109 qs43 q103 q1110 hyX0_needOf rfl rfl (Nat.le_of_ble_eq_true rfl) (fun r27 h28 => ?_)
        exact s_iret dX0_need_36 rfl rfl
    refine s_icmp_eq 26 dX0_need_13 (by decide) (fun c31 => ?_) (fun c31 => ?_)
    · exact hj30 h4
    · refine s_aload_n dX0_need_16 0 rfl ?_
      refine s_iload_n dX0_need_17 1 rfl ?_
      refine s_chk (fun hk34 => ?_)
      refine s_callV_R 0 (kX0_placeAt G n K hK p0 p1 h4) (by decide) (by decide) dX0_need_18 hk34 rfl rfl q779 q781 qs18 q103 q782 hyX0_placeAt rfl rfl (Nat.le_of_ble_eq_true rfl) (fun r32 h33 => ?_)
      refine s_ifnonnull (r := r32) 26 (fun z => [(0, .ref p0), (1, .int p1)]) (fun z => []) dX0_need_21 (by decide) ?_ (fun a35 => ?_)
      · refine s_iconst (-1 : Int32) dX0_need_24 (by decide) ?_
        exact s_iret dX0_need_25 rfl rfl
      · exact hj30 h33
theorem hyX0_most : yX0_most.cls ≠ "java/lang/invoke/MethodHandle" ∧ yX0_most.cls ≠ "java/lang/invoke/VarHandle" ∧ (parseMethodDescriptor yX0_most.desc).map (fun d => d.parameters.length) = some 2 := by decide +kernel
theorem sX0_most_L25 (G : Gl) (n : Nat) (K : Nat → Nat) (hK : K = G.ad) (y13 : Nat) (y14 : Int32) (y15 : Int32) : ∀ (f : Nat) (x11 : Int32) (x12 : Int32) (h : AH), Sim G yX0_most.cls yX0_most.name cX0_most 5 (some .int) 6 cvI 25 [(4, .int x11), (3, .int x12), (0, .ref y13), (1, .int y14), (2, .int y15)] [] h (F_X0_most_L25 n K y13 y14 y15 f x11 x12 h) := by
  intro f
  induction f with
  | zero =>
    intro x11 x12 h
    exact s_none
  | succ f ih =>
    intro x11 x12 h
    unfold F_X0_most_L25
    refine s_iload dX0_most_25 0 rfl (by decide) ?_
    refine s_sipush (10000 : Int32) dX0_most_27 (by decide) ?_
    refine s_icmp_ge 60 dX0_most_30 (by decide) (fun c16 => ?_) (fun c16 => ?_)
    · refine s_iload_n dX0_most_60 1 rfl ?_
      exact s_iret dX0_most_61 rfl rfl
    · refine s_iload_n dX0_most_33 1 rfl ?_
      refine s_aload_n dX0_most_34 2 rfl ?_
      refine s_iload dX0_most_35 0 rfl (by decide) ?_
      refine s_bipush (100 : Int32) dX0_most_37 (by decide) ?_
      refine s_idiv dX0_most_39 (by decide) ?_
      refine s_iload dX0_most_40 0 rfl (by decide) ?_
      refine s_bipush (100 : Int32) dX0_most_42 (by decide) ?_
      refine s_irem dX0_most_44 (by decide) ?_
      refine s_iload_n dX0_most_45 3 rfl ?_
      refine s_iload_n dX0_most_46 4 rfl ?_
      refine s_chk (fun hk19 => ?_)
      refine s_callV_I 0 (kX0_votesFor G n K hK y13 (x11 / (100 : Int32)) (x11 - x11 / (100 : Int32) * (100 : Int32)) y14 y15 h) (by decide) (by decide) dX0_most_47 hk19 rfl rfl q839 q841 qs20 q103 q842 hyX0_votesFor rfl rfl (Nat.le_of_ble_eq_true rfl) (fun r17 h18 => ?_)
      refine s_mmax dX0_most_50 (by decide) q984 q474 q116 q475 (Nat.le_of_ble_eq_true rfl) ?_
      refine s_istore_n [(3, .int (if x12 < r17 then r17 else x12)), (4, .int x11), (0, .ref y13), (1, .int y14), (2, .int y15)] dX0_most_53 (by decide) (by decide) rfl ?_
      refine s_iinc (1 : Int32) [(4, .int (x11 + (1 : Int32))), (3, .int (if x12 < r17 then r17 else x12)), (0, .ref y13), (1, .int y14), (2, .int y15)] dX0_most_54 1 rfl (by decide) (by decide) (by decide) rfl ?_
      refine s_goto 25 dX0_most_57 (by decide) ?_
      exact ih (x11 + (1 : Int32)) (if x12 < r17 then r17 else x12) h18
theorem kX0_most (G : Gl) (n : Nat) (K : Nat → Nat) (hK : K = G.ad) (p0 : Nat) (p1 : Int32) (p2 : Int32) (h : AH) : OkM G yX0_most cX0_most 5 (some .int) 6 cvI [.ref p0, .int p1, .int p2] h (F_X0_most n K p0 p1 p2 h) := by
  refine ok_of_sim [(0, .ref p0), (1, .int p1), (2, .int p2)] (by decide +kernel) (fun r => ⟨_, rfl⟩) (by simp [uns, lv_args, lg_sl, catI, catL, catA, va_rfc]) (by simp [uns, lv_args, lg_sl, catI, catL, catA, va_rfc]) (by simp [uns, lv_args, lg_sl, catI, catL, catA, va_rfc]) ?_
  unfold F_X0_most
  refine s_aload_n dX0_most_0 0 rfl ?_
  refine s_chk (fun hk1 => ?_)
  refine s_get (j := 2) 0 (va_rf (h.R p0 2)) dX0_most_1 hk1 rfl (by decide) q235 (Or.inl rfl) rfl ?_
  refine s_ob (r := h.R p0 2) (fun z => [(0, .ref p0), (1, .int p1), (2, .int p2)]) (fun z => [z]) (fun a2 => ?_)
  refine s_chk (fun hk5 => ?_)
  refine s_callV_I 2 (kJ2_isEmpty G n K hK a2 h) (by decide) (by decide) dX0_most_4 hk5 rfl rfl q787 q723 q724 q107 q725 hyJ2_isEmpty rfl rfl (Nat.le_of_ble_eq_true rfl) (fun r3 h4 => ?_)
  refine s_if_ne 18 dX0_most_7 (by decide) (fun c6 => ?_) (fun c6 => ?_)
  · refine s_iconst (-1 : Int32) dX0_most_18 (by decide) ?_
    exact s_iret dX0_most_19 rfl rfl
  · refine s_iload_n dX0_most_10 1 rfl ?_
    refine s_iload_n dX0_most_11 2 rfl ?_
    refine s_callS_I (kX0_isPoint G n K hK p1 p2 h4) (by decide) (by decide) dX0_most_12 q788 q789 q103 q790 hyX0_isPoint rfl rfl (Nat.le_of_ble_eq_true rfl) (fun r7 h8 => ?_)
    refine s_if_ne 20 dX0_most_15 (by decide) (fun c9 => ?_) (fun c9 => ?_)
    · refine s_iconst (0 : Int32) dX0_most_20 (by decide) ?_
      refine s_istore_n [(3, .int (0 : Int32)), (0, .ref p0), (1, .int p1), (2, .int p2)] dX0_most_21 (by decide) (by decide) rfl ?_
      refine s_iconst (0 : Int32) dX0_most_22 (by decide) ?_
      refine s_istore [(4, .int (0 : Int32)), (3, .int (0 : Int32)), (0, .ref p0), (1, .int p1), (2, .int p2)] dX0_most_23 (by decide) (by decide) rfl ?_
      exact sX0_most_L25 G n K hK p0 p1 p2 n (0 : Int32) (0 : Int32) h8
    · refine s_iconst (-1 : Int32) dX0_most_18 (by decide) ?_
      exact s_iret dX0_most_19 rfl rfl
theorem hyX0_isUnbeaten : yX0_isUnbeaten.cls ≠ "java/lang/invoke/MethodHandle" ∧ yX0_isUnbeaten.cls ≠ "java/lang/invoke/VarHandle" ∧ (parseMethodDescriptor yX0_isUnbeaten.desc).map (fun d => d.parameters.length) = some 1 := by decide +kernel
theorem sX0_isUnbeaten_L2 (G : Gl) (n : Nat) (K : Nat → Nat) (hK : K = G.ad) (y3 : Nat) (y4 : Int32) : ∀ (f : Nat) (x2 : Int32) (h : AH), Sim G yX0_isUnbeaten.cls yX0_isUnbeaten.name cX0_isUnbeaten 3 (some .boolean) 8 cvI 2 [(2, .int x2), (0, .ref y3), (1, .int y4)] [] h (F_X0_isUnbeaten_L2 n K y3 y4 f x2 h) := by
  intro f
  induction f with
  | zero =>
    intro x2 h
    exact s_none
  | succ f ih =>
    intro x2 h
    unfold F_X0_isUnbeaten_L2
    refine s_iload_n dX0_isUnbeaten_2 0 rfl ?_
    refine s_aload_n dX0_isUnbeaten_3 1 rfl ?_
    refine s_chk (fun hk5 => ?_)
    refine s_get (j := 3) 0 (va_rf (h.R y3 3)) dX0_isUnbeaten_4 hk5 rfl (by decide) q236 (Or.inl rfl) rfl ?_
    refine s_ob (r := h.R y3 3) (fun z => [(2, .int x2), (0, .ref y3), (1, .int y4)]) (fun z => [z, .int x2]) (fun a6 => ?_)
    refine s_chk (fun hk9 => ?_)
    refine s_callV_I 2 (kJ2_size G n K hK a6 h) (by decide) (by decide) dX0_isUnbeaten_7 hk9 rfl rfl q732 q552 q553 q107 q554 hyJ2_size rfl rfl (Nat.le_of_ble_eq_true rfl) (fun r7 h8 => ?_)
    refine s_icmp_ge 55 dX0_isUnbeaten_10 (by decide) (fun c10 => ?_) (fun c10 => ?_)
    · refine s_iconst (1 : Int32) dX0_isUnbeaten_55 (by decide) ?_
      exact s_zret dX0_isUnbeaten_56 rfl rfl rfl
    · refine s_iload_n dX0_isUnbeaten_13 0 rfl ?_
      refine s_iload_n dX0_isUnbeaten_14 2 rfl ?_
      refine s_icmp_eq 49 dX0_isUnbeaten_15 (by decide) (fun c11 => ?_) (fun c11 => ?_)
      · refine s_iinc (1 : Int32) [(2, .int (x2 + (1 : Int32))), (0, .ref y3), (1, .int y4)] dX0_isUnbeaten_49 0 rfl (by decide) (by decide) (by decide) rfl ?_
        refine s_goto 2 dX0_isUnbeaten_52 (by decide) ?_
        exact ih (x2 + (1 : Int32)) h8
      · refine s_aload_n dX0_isUnbeaten_18 1 rfl ?_
        refine s_aload_n dX0_isUnbeaten_19 1 rfl ?_
        refine s_chk (fun hk12 => ?_)
        refine s_get (j := 3) 0 (va_rf (h8.R y3 3)) dX0_isUnbeaten_20 hk12 rfl (by decide) q236 (Or.inl rfl) rfl ?_
        refine s_iload_n dX0_isUnbeaten_23 0 rfl ?_
        refine s_ob (r := h8.R y3 3) (fun z => [(2, .int x2), (0, .ref y3), (1, .int y4)]) (fun z => [.int x2, z, .ref y3]) (fun a13 => ?_)
        refine s_chk (fun hk16 => ?_)
        refine s_callV_R 2 (kJ2_get G n K hK a13 x2 h8) (by decide) (by decide) dX0_isUnbeaten_24 hk16 rfl rfl q733 q734 q735 q107 q736 hyJ2_get rfl rfl (Nat.le_of_ble_eq_true rfl) (fun r14 h15 => ?_)
        refine s_ob (r := r14) (fun z => [(2, .int x2), (0, .ref y3), (1, .int y4)]) (fun z => [z, .ref y3]) (fun a17 => ?_)
        refine s_chk (fun hk18 => ?_)
        refine s_cast 10 dX0_isUnbeaten_27 hk18 rfl q747 ?_
        refine s_aload_n dX0_isUnbeaten_30 1 rfl ?_
        refine s_chk (fun hk19 => ?_)
        refine s_get (j := 3) 0 (va_rf (h15.R y3 3)) dX0_isUnbeaten_31 hk19 rfl (by decide) q236 (Or.inl rfl) rfl ?_
        refine s_iload_n dX0_isUnbeaten_34 2 rfl ?_
        refine s_ob (r := h15.R y3 3) (fun z => [(2, .int x2), (0, .ref y3), (1, .int y4)]) (fun z => [.int y4, z, .ref a17, .ref y3]) (fun a20 => ?_)
        refine s_chk (fun hk23 => ?_)
        refine s_callV_R 2 (kJ2_get G n K hK a20 y4 h15) (by decide) (by decide) dX0_isUnbeaten_35 hk23 rfl rfl q733 q734 q735 q107 q736 hyJ2_get rfl rfl (Nat.le_of_ble_eq_true rfl) (fun r21 h22 => ?_)
        refine s_ob (r := r21) (fun z => [(2, .int x2), (0, .ref y3), (1, .int y4)]) (fun z => [z, .ref a17, .ref y3]) (fun a24 => ?_)
        refine s_chk (fun hk25 => ?_)
        refine s_cast 10 dX0_isUnbeaten_38 hk25 rfl q747 ?_
        refine s_chk (fun hk28 => ?_)
        refine s_callV_I 0 (kX0_above G n K hK y3 (some a17) (some a24) h22) (by decide) (by decide) dX0_isUnbeaten_41 hk28 rfl rfl q859 q861 qs21 q103 q862 hyX0_above rfl rfl (Nat.le_of_ble_eq_true rfl) (fun r26 h27 => ?_)
        refine s_if_eq 49 dX0_isUnbeaten_44 (by decide) (fun c29 => ?_) (fun c29 => ?_)
        · refine s_iinc (1 : Int32) [(2, .int (x2 + (1 : Int32))), (0, .ref y3), (1, .int y4)] dX0_isUnbeaten_49 0 rfl (by decide) (by decide) (by decide) rfl ?_
          refine s_goto 2 dX0_isUnbeaten_52 (by decide) ?_
          exact ih (x2 + (1 : Int32)) h27
        · refine s_iconst (0 : Int32) dX0_isUnbeaten_47 (by decide) ?_
          exact s_zret dX0_isUnbeaten_48 rfl rfl rfl
theorem kX0_isUnbeaten (G : Gl) (n : Nat) (K : Nat → Nat) (hK : K = G.ad) (p0 : Nat) (p1 : Int32) (h : AH) : OkM G yX0_isUnbeaten cX0_isUnbeaten 3 (some .boolean) 8 cvI [.ref p0, .int p1] h (F_X0_isUnbeaten n K p0 p1 h) := by
  refine ok_of_sim [(0, .ref p0), (1, .int p1)] (by decide +kernel) (fun r => ⟨_, rfl⟩) (by simp [uns, lv_args, lg_sl, catI, catL, catA, va_rfc]) (by simp [uns, lv_args, lg_sl, catI, catL, catA, va_rfc]) (by simp [uns, lv_args, lg_sl, catI, catL, catA, va_rfc]) ?_
  unfold F_X0_isUnbeaten
  refine s_iconst (0 : Int32) dX0_isUnbeaten_0 (by decide) ?_
  refine s_istore_n [(2, .int (0 : Int32)), (0, .ref p0), (1, .int p1)] dX0_isUnbeaten_1 (by decide) (by decide) rfl ?_
  exact sX0_isUnbeaten_L2 G n K hK p0 p1 n (0 : Int32) h
theorem hyX0_peace : yX0_peace.cls ≠ "java/lang/invoke/MethodHandle" ∧ yX0_peace.cls ≠ "java/lang/invoke/VarHandle" ∧ (parseMethodDescriptor yX0_peace.desc).map (fun d => d.parameters.length) = some 0 := by decide +kernel
theorem sX0_peace_L2 (G : Gl) (n : Nat) (K : Nat → Nat) (hK : K = G.ad) (y3 : Nat) : ∀ (f : Nat) (x2 : Int32) (h : AH), Sim G yX0_peace.cls yX0_peace.name cX0_peace 2 (some .int) 9 cvI 2 [(1, .int x2), (0, .ref y3)] [] h (F_X0_peace_L2 n K y3 f x2 h) := by
  intro f
  induction f with
  | zero =>
    intro x2 h
    exact s_none
  | succ f ih =>
    intro x2 h
    unfold F_X0_peace_L2
    refine s_iload_n dX0_peace_2 0 rfl ?_
    refine s_aload_n dX0_peace_3 1 rfl ?_
    refine s_chk (fun hk4 => ?_)
    refine s_get (j := 3) 0 (va_rf (h.R y3 3)) dX0_peace_4 hk4 rfl (by decide) q236 (Or.inl rfl) rfl ?_
    refine s_ob (r := h.R y3 3) (fun z => [(1, .int x2), (0, .ref y3)]) (fun z => [z, .int x2]) (fun a5 => ?_)
    refine s_chk (fun hk8 => ?_)
    refine s_callV_I 2 (kJ2_size G n K hK a5 h) (by decide) (by decide) dX0_peace_7 hk8 rfl rfl q732 q552 q553 q107 q554 hyJ2_size rfl rfl (Nat.le_of_ble_eq_true rfl) (fun r6 h7 => ?_)
    refine s_icmp_ge 29 dX0_peace_10 (by decide) (fun c9 => ?_) (fun c9 => ?_)
    · refine s_iconst (-1 : Int32) dX0_peace_29 (by decide) ?_
      exact s_iret dX0_peace_30 rfl rfl
    · refine s_aload_n dX0_peace_13 1 rfl ?_
      refine s_iload_n dX0_peace_14 0 rfl ?_
      refine s_chk (fun hk12 => ?_)
      refine s_callV_I 0 (kX0_isUnbeaten G n K hK y3 x2 h7) (by decide) (by decide) dX0_peace_15 hk12 rfl rfl q1119 q1121 qs44 q103 q1122 hyX0_isUnbeaten rfl rfl (Nat.le_of_ble_eq_true rfl) (fun r10 h11 => ?_)
      refine s_if_eq 23 dX0_peace_18 (by decide) (fun c13 => ?_) (fun c13 => ?_)
      · refine s_iinc (1 : Int32) [(1, .int (x2 + (1 : Int32))), (0, .ref y3)] dX0_peace_23 0 rfl (by decide) (by decide) (by decide) rfl ?_
        refine s_goto 2 dX0_peace_26 (by decide) ?_
        exact ih (x2 + (1 : Int32)) h11
      · refine s_iload_n dX0_peace_21 0 rfl ?_
        exact s_iret dX0_peace_22 rfl rfl
theorem kX0_peace (G : Gl) (n : Nat) (K : Nat → Nat) (hK : K = G.ad) (p0 : Nat) (h : AH) : OkM G yX0_peace cX0_peace 2 (some .int) 9 cvI [.ref p0] h (F_X0_peace n K p0 h) := by
  refine ok_of_sim [(0, .ref p0)] (by decide +kernel) (fun r => ⟨_, rfl⟩) (by simp [uns, lv_args, lg_sl, catI, catL, catA, va_rfc]) (by simp [uns, lv_args, lg_sl, catI, catL, catA, va_rfc]) (by simp [uns, lv_args, lg_sl, catI, catL, catA, va_rfc]) ?_
  unfold F_X0_peace
  refine s_iconst (0 : Int32) dX0_peace_0 (by decide) ?_
  refine s_istore_n [(1, .int (0 : Int32)), (0, .ref p0)] dX0_peace_1 (by decide) (by decide) rfl ?_
  exact sX0_peace_L2 G n K hK p0 n (0 : Int32) h
theorem hyX5_far : yX5_far.cls ≠ "java/lang/invoke/MethodHandle" ∧ yX5_far.cls ≠ "java/lang/invoke/VarHandle" ∧ (parseMethodDescriptor yX5_far.desc).map (fun d => d.parameters.length) = some 2 := by decide +kernel
theorem kX5_far (G : Gl) (n : Nat) (K : Nat → Nat) (hK : K = G.ad) (p0 : Nat) (p1 : Int32) (p2 : Int32) (h : AH) : OkM G yX5_far cX5_far 3 (some .int) 1 cvI [.ref p0, .int p1, .int p2] h (F_X5_far n K p0 p1 p2 h) := by
  refine ok_of_sim [(0, .ref p0), (1, .int p1), (2, .int p2)] (by decide +kernel) (fun r => ⟨_, rfl⟩) (by simp [uns, lv_args, lg_sl, catI, catL, catA, va_rfc]) (by simp [uns, lv_args, lg_sl, catI, catL, catA, va_rfc]) (by simp [uns, lv_args, lg_sl, catI, catL, catA, va_rfc]) ?_
  unfold F_X5_far
  refine s_iload_n dX5_far_0 1 rfl ?_
  refine s_aload_n dX5_far_1 0 rfl ?_
  refine s_chk (fun hk1 => ?_)
  refine s_getV (j := 3) dX5_far_2 hk1 (by decide) q590 ?_
  refine s_isub dX5_far_5 ?_
  refine s_iload_n dX5_far_6 1 rfl ?_
  refine s_aload_n dX5_far_7 0 rfl ?_
  refine s_getV (j := 3) dX5_far_8 hk1 (by decide) q590 ?_
  refine s_isub dX5_far_11 ?_
  refine s_imul dX5_far_12 ?_
  refine s_iload_n dX5_far_13 2 rfl ?_
  refine s_aload_n dX5_far_14 0 rfl ?_
  refine s_getV (j := 4) dX5_far_15 hk1 (by decide) q592 ?_
  refine s_isub dX5_far_18 ?_
  refine s_iload_n dX5_far_19 2 rfl ?_
  refine s_aload_n dX5_far_20 0 rfl ?_
  refine s_getV (j := 4) dX5_far_21 hk1 (by decide) q592 ?_
  refine s_isub dX5_far_24 ?_
  refine s_imul dX5_far_25 ?_
  refine s_iadd dX5_far_26 ?_
  exact s_iret dX5_far_27 rfl rfl
theorem hyX0_make : yX0_make.cls ≠ "java/lang/invoke/MethodHandle" ∧ yX0_make.cls ≠ "java/lang/invoke/VarHandle" ∧ (parseMethodDescriptor yX0_make.desc).map (fun d => d.parameters.length) = some 1 := by decide +kernel
theorem sX0_make_L64 (G : Gl) (n : Nat) (K : Nat → Nat) (hK : K = G.ad) (y29 : Int32) (y30 : Int32) (y31 : Nat) (y32 : Int32) (y36 : Nat) (y37 : Int32) : ∀ (f : Nat) (x28 : Int32) (x33 : Int32) (x34 : Int32) (x35 : Int32) (h : AH) (k : Int32 → Int32 → Int32 → AH → Option (Int32 × AH)) (hk : ∀ (x33 : Int32) (x34 : Int32) (x35 : Int32) (h : AH), Sim G yX0_make.cls yX0_make.name cX0_make 12 (some .int) 10 cvI 227 [(5, .int y32), (4, .int x33), (3, .int x34), (2, .int x35), (0, .ref y36), (1, .int y37)] [] h (k x33 x34 x35 h)), Sim G yX0_make.cls yX0_make.name cX0_make 12 (some .int) 10 cvI 64 [(9, .int x28), (8, .int y29), (7, .int y30), (6, .ref y31), (5, .int y32), (4, .int x33), (3, .int x34), (2, .int x35), (0, .ref y36), (1, .int y37)] [] h (F_X0_make_L64 n K y29 y30 y31 y32 y36 y37 f x28 x33 x34 x35 h k) := by
  intro f
  induction f with
  | zero =>
    intro x28 x33 x34 x35 h k hk
    exact s_none
  | succ f ih =>
    intro x28 x33 x34 x35 h k hk
    unfold F_X0_make_L64
    refine s_iload dX0_make_64 0 rfl (by decide) ?_
    refine s_aload_n dX0_make_66 8 rfl ?_
    refine s_chk (fun hk38 => ?_)
    refine s_get (j := 3) 0 (va_rf (h.R y36 3)) dX0_make_67 hk38 rfl (by decide) q236 (Or.inl rfl) rfl ?_
    refine s_ob (r := h.R y36 3) (fun z => [(9, .int x28), (8, .int y29), (7, .int y30), (6, .ref y31), (5, .int y32), (4, .int x33), (3, .int x34), (2, .int x35), (0, .ref y36), (1, .int y37)]) (fun z => [z, .int x28]) (fun a39 => ?_)
    refine s_chk (fun hk42 => ?_)
    refine s_callV_I 2 (kJ2_size G n K hK a39 h) (by decide) (by decide) dX0_make_70 hk42 rfl rfl q732 q552 q553 q107 q554 hyJ2_size rfl rfl (Nat.le_of_ble_eq_true rfl) (fun r40 h41 => ?_)
    refine s_icmp_ge 227 dX0_make_73 (by decide) (fun c43 => ?_) (fun c43 => ?_)
    · refine s_sub [4, 5, 6, 7, 8, 9] rfl ?_
      exact hk x33 x34 x35 h41
    · refine s_aload dX0_make_76 3 rfl (by decide) ?_
      refine s_chk (fun hk44 => ?_)
      refine s_getV (j := 0) dX0_make_78 hk44 (by decide) q585 ?_
      refine s_aload dX0_make_81 3 rfl (by decide) ?_
      refine s_aload_n dX0_make_83 8 rfl ?_
      refine s_chk (fun hk45 => ?_)
      refine s_get (j := 3) 0 (va_rf (h41.R y36 3)) dX0_make_84 hk45 rfl (by decide) q236 (Or.inl rfl) rfl ?_
      refine s_iload dX0_make_87 0 rfl (by decide) ?_
      refine s_ob (r := h41.R y36 3) (fun z => [(9, .int x28), (8, .int y29), (7, .int y30), (6, .ref y31), (5, .int y32), (4, .int x33), (3, .int x34), (2, .int x35), (0, .ref y36), (1, .int y37)]) (fun z => [.int x28, z, .ref y31, .int (h41.I y31 0)]) (fun a46 => ?_)
      refine s_chk (fun hk49 => ?_)
      refine s_callV_R 2 (kJ2_get G n K hK a46 x28 h41) (by decide) (by decide) dX0_make_89 hk49 rfl rfl q733 q734 q735 q107 q736 hyJ2_get rfl rfl (Nat.le_of_ble_eq_true rfl) (fun r47 h48 => ?_)
      refine s_ob (r := r47) (fun z => [(9, .int x28), (8, .int y29), (7, .int y30), (6, .ref y31), (5, .int y32), (4, .int x33), (3, .int x34), (2, .int x35), (0, .ref y36), (1, .int y37)]) (fun z => [z, .ref y31, .int (h41.I y31 0)]) (fun a50 => ?_)
      refine s_chk (fun hk51 => ?_)
      refine s_cast 10 dX0_make_92 hk51 rfl q747 ?_
      refine s_getN (j := 0) 10 (.int (h48.I a50 0)) dX0_make_95 hk51 rfl (by decide) q705 (Or.inl rfl) rfl ?_
      refine s_aload_n dX0_make_98 8 rfl ?_
      refine s_chk (fun hk52 => ?_)
      refine s_get (j := 3) 0 (va_rf (h48.R y36 3)) dX0_make_99 hk52 rfl (by decide) q236 (Or.inl rfl) rfl ?_
      refine s_iload dX0_make_102 0 rfl (by decide) ?_
      refine s_ob (r := h48.R y36 3) (fun z => [(9, .int x28), (8, .int y29), (7, .int y30), (6, .ref y31), (5, .int y32), (4, .int x33), (3, .int x34), (2, .int x35), (0, .ref y36), (1, .int y37)]) (fun z => [.int x28, z, .int (h48.I a50 0), .ref y31, .int (h41.I y31 0)]) (fun a53 => ?_)
      refine s_chk (fun hk56 => ?_)
      refine s_callV_R 2 (kJ2_get G n K hK a53 x28 h48) (by decide) (by decide) dX0_make_104 hk56 rfl rfl q733 q734 q735 q107 q736 hyJ2_get rfl rfl (Nat.le_of_ble_eq_true rfl) (fun r54 h55 => ?_)
      refine s_ob (r := r54) (fun z => [(9, .int x28), (8, .int y29), (7, .int y30), (6, .ref y31), (5, .int y32), (4, .int x33), (3, .int x34), (2, .int x35), (0, .ref y36), (1, .int y37)]) (fun z => [z, .int (h48.I a50 0), .ref y31, .int (h41.I y31 0)]) (fun a57 => ?_)
      refine s_chk (fun hk58 => ?_)
      refine s_cast 10 dX0_make_107 hk58 rfl q747 ?_
      refine s_getN (j := 1) 10 (.int (h55.I a57 1)) dX0_make_110 hk58 rfl (by decide) q707 (Or.inl rfl) rfl ?_
      refine s_chk (fun hk61 => ?_)
      refine s_callUV (n := 2) (kX5_far G n K hK y31 (h48.I a50 0) (h55.I a57 1) h55) (by decide) (by decide) dX0_make_113 hk61 q1127 q1129 q1130 q1133 q1131 q1132 q1128 q120 q1134 (by decide +kernel) rfl rfl (Nat.le_of_ble_eq_true rfl) (fun r59 h60 => ?_)
      refine s_imul dX0_make_116 ?_
      refine s_istore [(10, .int ((h41.I y31 0) * r59)), (9, .int x28), (8, .int y29), (7, .int y30), (6, .ref y31), (5, .int y32), (4, .int x33), (3, .int x34), (2, .int x35), (0, .ref y36), (1, .int y37)] dX0_make_117 (by decide) (by decide) rfl ?_
      refine s_iload_n dX0_make_119 8 rfl ?_
      refine s_iconst (-1 : Int32) dX0_make_120 (by decide) ?_
      refine s_jn (fun j62 => Sim G yX0_make.cls yX0_make.name cX0_make 12 (some .int) 10 cvI 134 [(10, .int ((h41.I y31 0) * r59)), (9, .int x28), (8, .int y29), (7, .int y30), (6, .ref y31), (5, .int y32), (4, .int x33), (3, .int x34), (2, .int x35), (0, .ref y36), (1, .int y37)] [] h60 (j62 )) ?_ (fun j62 hj96 => ?_)
      · skip
        refine s_aload dX0_make_134 4 rfl (by decide) ?_
        refine s_aload_n dX0_make_136 9 rfl ?_
        refine s_chk (fun hk63 => ?_)
        refine s_get (j := 3) 0 (va_rf (h60.R y36 3)) dX0_make_137 hk63 rfl (by decide) q236 (Or.inl rfl) rfl ?_
        refine s_iload dX0_make_140 1 rfl (by decide) ?_
        refine s_ob (r := h60.R y36 3) (fun z => [(10, .int ((h41.I y31 0) * r59)), (9, .int x28), (8, .int y29), (7, .int y30), (6, .ref y31), (5, .int y32), (4, .int x33), (3, .int x34), (2, .int x35), (0, .ref y36), (1, .int y37)]) (fun z => [.int x28, z, .ref y31]) (fun a64 => ?_)
        refine s_chk (fun hk67 => ?_)
        refine s_callV_R 2 (kJ2_get G n K hK a64 x28 h60) (by decide) (by decide) dX0_make_142 hk67 rfl rfl q733 q734 q735 q107 q736 hyJ2_get rfl rfl (Nat.le_of_ble_eq_true rfl) (fun r65 h66 => ?_)
        refine s_ob (r := r65) (fun z => [(10, .int ((h41.I y31 0) * r59)), (9, .int x28), (8, .int y29), (7, .int y30), (6, .ref y31), (5, .int y32), (4, .int x33), (3, .int x34), (2, .int x35), (0, .ref y36), (1, .int y37)]) (fun z => [z, .ref y31]) (fun a68 => ?_)
        refine s_chk (fun hk69 => ?_)
        refine s_cast 10 dX0_make_145 hk69 rfl q747 ?_
        refine s_getN (j := 0) 10 (.int (h66.I a68 0)) dX0_make_148 hk69 rfl (by decide) q705 (Or.inl rfl) rfl ?_
        refine s_chk (fun hk70 => ?_)
        refine s_putV (j := 3) dX0_make_151 hk70 (by decide) q591 (by decide) ?_
        refine s_hl (fun h71 e72 => ?_)
        refine s_aload dX0_make_154 4 rfl (by decide) ?_
        refine s_aload_n dX0_make_156 9 rfl ?_
        refine s_chk (fun hk73 => ?_)
        refine s_get (j := 3) 0 (va_rf (h71.R y36 3)) dX0_make_157 hk73 rfl (by decide) q236 (Or.inl rfl) rfl ?_
        refine s_iload dX0_make_160 1 rfl (by decide) ?_
        refine s_ob (r := h71.R y36 3) (fun z => [(10, .int ((h41.I y31 0) * r59)), (9, .int x28), (8, .int y29), (7, .int y30), (6, .ref y31), (5, .int y32), (4, .int x33), (3, .int x34), (2, .int x35), (0, .ref y36), (1, .int y37)]) (fun z => [.int x28, z, .ref y31]) (fun a74 => ?_)
        refine s_chk (fun hk77 => ?_)
        refine s_callV_R 2 (kJ2_get G n K hK a74 x28 h71) (by decide) (by decide) dX0_make_162 hk77 rfl rfl q733 q734 q735 q107 q736 hyJ2_get rfl rfl (Nat.le_of_ble_eq_true rfl) (fun r75 h76 => ?_)
        refine s_ob (r := r75) (fun z => [(10, .int ((h41.I y31 0) * r59)), (9, .int x28), (8, .int y29), (7, .int y30), (6, .ref y31), (5, .int y32), (4, .int x33), (3, .int x34), (2, .int x35), (0, .ref y36), (1, .int y37)]) (fun z => [z, .ref y31]) (fun a78 => ?_)
        refine s_chk (fun hk79 => ?_)
        refine s_cast 10 dX0_make_165 hk79 rfl q747 ?_
        refine s_getN (j := 1) 10 (.int (h76.I a78 1)) dX0_make_168 hk79 rfl (by decide) q707 (Or.inl rfl) rfl ?_
        refine s_chk (fun hk80 => ?_)
        refine s_putV (j := 4) dX0_make_171 hk80 (by decide) q593 (by decide) ?_
        refine s_hl (fun h81 e82 => ?_)
        refine s_aload_n dX0_make_174 9 rfl ?_
        refine s_chk (fun hk85 => ?_)
        refine s_callV_I 0 (kX0_peace G n K hK y36 h81) (by decide) (by decide) dX0_make_175 hk85 rfl rfl q1135 q1116 q1117 q103 q1118 hyX0_peace rfl rfl (Nat.le_of_ble_eq_true rfl) (fun r83 h84 => ?_)
        refine s_iconst (-1 : Int32) dX0_make_178 (by decide) ?_
        refine s_jn (fun j87 => ∀ (x86 : Int32), Sim G yX0_make.cls yX0_make.name cX0_make 12 (some .int) 10 cvI 187 [(10, .int ((h41.I y31 0) * r59)), (9, .int x28), (8, .int y29), (7, .int y30), (6, .ref y31), (5, .int y32), (4, .int x33), (3, .int x34), (2, .int x35), (0, .ref y36), (1, .int y37)] [.int x86] h84 (j87 x86)) ?_ (fun j87 hj94 => ?_)
        · intro x86
          refine s_istore [(11, .int x86), (10, .int ((h41.I y31 0) * r59)), (9, .int x28), (8, .int y29), (7, .int y30), (6, .ref y31), (5, .int y32), (4, .int x33), (3, .int x34), (2, .int x35), (0, .ref y36), (1, .int y37)] dX0_make_187 (by decide) (by decide) rfl ?_
          refine s_aload dX0_make_189 5 rfl (by decide) ?_
          refine s_iload dX0_make_191 4 rfl (by decide) ?_
          refine s_chk (fun hk88 => ?_)
          refine s_putV (j := 3) dX0_make_193 hk88 (by decide) q591 (by decide) ?_
          refine s_hl (fun h89 e90 => ?_)
          refine s_aload dX0_make_196 5 rfl (by decide) ?_
          refine s_iload dX0_make_198 3 rfl (by decide) ?_
          refine s_putV (j := 4) dX0_make_200 (show 7 ≤ h89.kind y31 ∧ h89.kind y31 ≤ 10 by rw [e90]; exact hk88) (by decide) q593 (by decide) ?_
          refine s_hl (fun h91 e92 => ?_)
          refine s_iload dX0_make_203 0 rfl (by decide) ?_
          refine s_if_ne 211 dX0_make_205 (by decide) (fun c93 => ?_) (fun c93 => ?_)
          · refine s_iload dX0_make_211 6 rfl (by decide) ?_
            refine s_istore_n [(2, .int y32), (11, .int x86), (10, .int ((h41.I y31 0) * r59)), (9, .int x28), (8, .int y29), (7, .int y30), (6, .ref y31), (5, .int y32), (4, .int x33), (3, .int x34), (0, .ref y36), (1, .int y37)] dX0_make_213 (by decide) (by decide) rfl ?_
            refine s_iload dX0_make_214 3 rfl (by decide) ?_
            refine s_istore_n [(3, .int x28), (2, .int y32), (11, .int x86), (10, .int ((h41.I y31 0) * r59)), (9, .int x28), (8, .int y29), (7, .int y30), (6, .ref y31), (5, .int y32), (4, .int x33), (0, .ref y36), (1, .int y37)] dX0_make_216 (by decide) (by decide) rfl ?_
            refine s_iload dX0_make_217 3 rfl (by decide) ?_
            refine s_istore [(4, .int ((h41.I y31 0) * r59)), (3, .int x28), (2, .int y32), (11, .int x86), (10, .int ((h41.I y31 0) * r59)), (9, .int x28), (8, .int y29), (7, .int y30), (6, .ref y31), (5, .int y32), (0, .ref y36), (1, .int y37)] dX0_make_219 (by decide) (by decide) rfl ?_
            refine s_iinc (1 : Int32) [(9, .int (x28 + (1 : Int32))), (4, .int ((h41.I y31 0) * r59)), (3, .int x28), (2, .int y32), (11, .int x86), (10, .int ((h41.I y31 0) * r59)), (8, .int y29), (7, .int y30), (6, .ref y31), (5, .int y32), (0, .ref y36), (1, .int y37)] dX0_make_221 5 rfl (by decide) (by decide) (by decide) rfl ?_
            refine s_goto 64 dX0_make_224 (by decide) ?_
            refine s_sub [0, 6, 7, 8, 9, 1, 2, 3, 10, 11] rfl ?_
            exact ih (x28 + (1 : Int32)) ((h41.I y31 0) * r59) x28 y32 h91 k hk
          · refine s_goto 221 dX0_make_208 (by decide) ?_
            refine s_iinc (1 : Int32) [(9, .int (x28 + (1 : Int32))), (11, .int x86), (10, .int ((h41.I y31 0) * r59)), (8, .int y29), (7, .int y30), (6, .ref y31), (5, .int y32), (4, .int x33), (3, .int x34), (2, .int x35), (0, .ref y36), (1, .int y37)] dX0_make_221 2 rfl (by decide) (by decide) (by decide) rfl ?_
            refine s_goto 64 dX0_make_224 (by decide) ?_
            refine s_sub [0, 3, 4, 5, 6, 7, 8, 9, 10, 11] rfl ?_
            exact ih (x28 + (1 : Int32)) x33 x34 x35 h91 k hk
        refine s_icmp_eq 186 dX0_make_179 (by decide) (fun c95 => ?_) (fun c95 => ?_)
        · refine s_iconst (0 : Int32) dX0_make_186 (by decide) ?_
          exact hj94 (0 : Int32)
        · refine s_iconst (1 : Int32) dX0_make_182 (by decide) ?_
          refine s_goto 187 dX0_make_183 (by decide) ?_
          exact hj94 (1 : Int32)
      refine s_icmp_eq 134 dX0_make_121 (by decide) (fun c97 => ?_) (fun c97 => ?_)
      · exact hj96
      · refine s_iload dX0_make_124 0 rfl (by decide) ?_
        refine s_iload dX0_make_126 6 rfl (by decide) ?_
        refine s_icmp_lt 134 dX0_make_128 (by decide) (fun c98 => ?_) (fun c98 => ?_)
        · exact hj96
        · refine s_goto 221 dX0_make_131 (by decide) ?_
          refine s_iinc (1 : Int32) [(9, .int (x28 + (1 : Int32))), (10, .int ((h41.I y31 0) * r59)), (8, .int y29), (7, .int y30), (6, .ref y31), (5, .int y32), (4, .int x33), (3, .int x34), (2, .int x35), (0, .ref y36), (1, .int y37)] dX0_make_221 1 rfl (by decide) (by decide) (by decide) rfl ?_
          refine s_goto 64 dX0_make_224 (by decide) ?_
          refine s_sub [0, 2, 3, 4, 5, 6, 7, 8, 9, 10] rfl ?_
          exact ih (x28 + (1 : Int32)) x33 x34 x35 h60 k hk
theorem sX0_make_L21 (G : Gl) (n : Nat) (K : Nat → Nat) (hK : K = G.ad) (y9 : Nat) (y10 : Int32) : ∀ (f : Nat) (x5 : Int32) (x6 : Int32) (x7 : Int32) (x8 : Int32) (h : AH), Sim G yX0_make.cls yX0_make.name cX0_make 12 (some .int) 10 cvI 21 [(5, .int x5), (4, .int x6), (3, .int x7), (2, .int x8), (0, .ref y9), (1, .int y10)] [] h (F_X0_make_L21 n K y9 y10 f x5 x6 x7 x8 h) := by
  intro f
  induction f with
  | zero =>
    intro x5 x6 x7 x8 h
    exact s_none
  | succ f ih =>
    intro x5 x6 x7 x8 h
    unfold F_X0_make_L21
    refine s_iload dX0_make_21 0 rfl (by decide) ?_
    refine s_aload_n dX0_make_23 4 rfl ?_
    refine s_chk (fun hk11 => ?_)
    refine s_get (j := 2) 0 (va_rf (h.R y9 2)) dX0_make_24 hk11 rfl (by decide) q235 (Or.inl rfl) rfl ?_
    refine s_ob (r := h.R y9 2) (fun z => [(5, .int x5), (4, .int x6), (3, .int x7), (2, .int x8), (0, .ref y9), (1, .int y10)]) (fun z => [z, .int x5]) (fun a12 => ?_)
    refine s_chk (fun hk15 => ?_)
    refine s_callV_I 2 (kJ2_size G n K hK a12 h) (by decide) (by decide) dX0_make_27 hk15 rfl rfl q732 q552 q553 q107 q554 hyJ2_size rfl rfl (Nat.le_of_ble_eq_true rfl) (fun r13 h14 => ?_)
    refine s_icmp_ge 233 dX0_make_30 (by decide) (fun c16 => ?_) (fun c16 => ?_)
    · refine s_iload_n dX0_make_233 3 rfl ?_
      refine s_iconst (-1 : Int32) dX0_make_234 (by decide) ?_
      refine s_icmp_ne 242 dX0_make_235 (by decide) (fun c17 => ?_) (fun c17 => ?_)
      · refine s_iload_n dX0_make_242 5 rfl ?_
        refine s_if_ne 250 dX0_make_243 (by decide) (fun c18 => ?_) (fun c18 => ?_)
        · refine s_iload_n dX0_make_250 5 rfl ?_
          refine s_iconst (1 : Int32) dX0_make_251 (by decide) ?_
          refine s_icmp_ne 259 dX0_make_252 (by decide) (fun c19 => ?_) (fun c19 => ?_)
          · refine s_iload dX0_make_259 1 rfl (by decide) ?_
            exact s_iret dX0_make_261 rfl rfl
          · refine s_iload_n dX0_make_255 2 rfl ?_
            refine s_goto 261 dX0_make_256 (by decide) ?_
            exact s_iret dX0_make_261 rfl rfl
        · refine s_iload_n dX0_make_246 3 rfl ?_
          refine s_goto 261 dX0_make_247 (by decide) ?_
          exact s_iret dX0_make_261 rfl rfl
      · refine s_iconst (-1 : Int32) dX0_make_238 (by decide) ?_
        refine s_goto 261 dX0_make_239 (by decide) ?_
        exact s_iret dX0_make_261 rfl rfl
    · refine s_aload_n dX0_make_33 4 rfl ?_
      refine s_chk (fun hk20 => ?_)
      refine s_get (j := 2) 0 (va_rf (h14.R y9 2)) dX0_make_34 hk20 rfl (by decide) q235 (Or.inl rfl) rfl ?_
      refine s_iload dX0_make_37 0 rfl (by decide) ?_
      refine s_ob (r := h14.R y9 2) (fun z => [(5, .int x5), (4, .int x6), (3, .int x7), (2, .int x8), (0, .ref y9), (1, .int y10)]) (fun z => [.int x5, z]) (fun a21 => ?_)
      refine s_chk (fun hk24 => ?_)
      refine s_callV_R 2 (kJ2_get G n K hK a21 x5 h14) (by decide) (by decide) dX0_make_39 hk24 rfl rfl q733 q734 q735 q107 q736 hyJ2_get rfl rfl (Nat.le_of_ble_eq_true rfl) (fun r22 h23 => ?_)
      refine s_ob (r := r22) (fun z => [(5, .int x5), (4, .int x6), (3, .int x7), (2, .int x8), (0, .ref y9), (1, .int y10)]) (fun z => [z]) (fun a25 => ?_)
      refine s_chk (fun hk26 => ?_)
      refine s_castV dX0_make_42 hk26 q745 ?_
      refine s_astore [(6, .ref a25), (5, .int x5), (4, .int x6), (3, .int x7), (2, .int x8), (0, .ref y9), (1, .int y10)] dX0_make_45 (by decide) (by decide) rfl ?_
      refine s_aload dX0_make_47 0 rfl (by decide) ?_
      refine s_getV (j := 3) dX0_make_49 hk26 (by decide) q591 ?_
      refine s_istore [(7, .int (h23.I a25 3)), (6, .ref a25), (5, .int x5), (4, .int x6), (3, .int x7), (2, .int x8), (0, .ref y9), (1, .int y10)] dX0_make_52 (by decide) (by decide) rfl ?_
      refine s_aload dX0_make_54 1 rfl (by decide) ?_
      refine s_getV (j := 4) dX0_make_56 hk26 (by decide) q593 ?_
      refine s_istore [(8, .int (h23.I a25 4)), (7, .int (h23.I a25 3)), (6, .ref a25), (5, .int x5), (4, .int x6), (3, .int x7), (2, .int x8), (0, .ref y9), (1, .int y10)] dX0_make_59 (by decide) (by decide) rfl ?_
      refine s_iconst (0 : Int32) dX0_make_61 (by decide) ?_
      refine s_istore [(9, .int (0 : Int32)), (8, .int (h23.I a25 4)), (7, .int (h23.I a25 3)), (6, .ref a25), (5, .int x5), (4, .int x6), (3, .int x7), (2, .int x8), (0, .ref y9), (1, .int y10)] dX0_make_62 (by decide) (by decide) rfl ?_
      refine sX0_make_L64 G n K hK (h23.I a25 4) (h23.I a25 3) a25 x5 y9 y10 n (0 : Int32) x6 x7 x8 h23 _ ?_
      intro x99 x100 x101 h102
      refine s_iinc (1 : Int32) [(5, .int (x5 + (1 : Int32))), (4, .int x99), (3, .int x100), (2, .int x101), (0, .ref y9), (1, .int y10)] dX0_make_227 0 rfl (by decide) (by decide) (by decide) rfl ?_
      refine s_goto 21 dX0_make_230 (by decide) ?_
      exact ih (x5 + (1 : Int32)) x99 x100 x101 h102
theorem kX0_make (G : Gl) (n : Nat) (K : Nat → Nat) (hK : K = G.ad) (p0 : Nat) (p1 : Int32) (h : AH) : OkM G yX0_make cX0_make 12 (some .int) 10 cvI [.ref p0, .int p1] h (F_X0_make n K p0 p1 h) := by
  refine ok_of_sim [(0, .ref p0), (1, .int p1)] (by decide +kernel) (fun r => ⟨_, rfl⟩) (by simp [uns, lv_args, lg_sl, catI, catL, catA, va_rfc]) (by simp [uns, lv_args, lg_sl, catI, catL, catA, va_rfc]) (by simp [uns, lv_args, lg_sl, catI, catL, catA, va_rfc]) ?_
  unfold F_X0_make
  refine s_iload_n dX0_make_0 1 rfl ?_
  refine s_iconst (0 : Int32) dX0_make_1 (by decide) ?_
  refine s_iconst (2 : Int32) dX0_make_2 (by decide) ?_
  refine s_callS_I (kX0_in G n K hK p1 (0 : Int32) (2 : Int32) h) (by decide) (by decide) dX0_make_3 q335 q336 q103 q337 hyX0_in rfl rfl (Nat.le_of_ble_eq_true rfl) (fun r1 h2 => ?_)
  refine s_if_ne 11 dX0_make_6 (by decide) (fun c3 => ?_) (fun c3 => ?_)
  · refine s_iconst (-1 : Int32) dX0_make_11 (by decide) ?_
    refine s_istore_n [(2, .int (-1 : Int32)), (0, .ref p0), (1, .int p1)] dX0_make_12 (by decide) (by decide) rfl ?_
    refine s_iconst (-1 : Int32) dX0_make_13 (by decide) ?_
    refine s_istore_n [(3, .int (-1 : Int32)), (2, .int (-1 : Int32)), (0, .ref p0), (1, .int p1)] dX0_make_14 (by decide) (by decide) rfl ?_
    refine s_iconst (0 : Int32) dX0_make_15 (by decide) ?_
    refine s_istore [(4, .int (0 : Int32)), (3, .int (-1 : Int32)), (2, .int (-1 : Int32)), (0, .ref p0), (1, .int p1)] dX0_make_16 (by decide) (by decide) rfl ?_
    refine s_iconst (0 : Int32) dX0_make_18 (by decide) ?_
    refine s_istore [(5, .int (0 : Int32)), (4, .int (0 : Int32)), (3, .int (-1 : Int32)), (2, .int (-1 : Int32)), (0, .ref p0), (1, .int p1)] dX0_make_19 (by decide) (by decide) rfl ?_
    exact sX0_make_L21 G n K hK p0 p1 n (0 : Int32) (0 : Int32) (-1 : Int32) (-1 : Int32) h2
  · refine s_iconst (-1 : Int32) dX0_make_9 (by decide) ?_
    exact s_iret dX0_make_10 rfl rfl
theorem hyX0_join : yX0_join.cls ≠ "java/lang/invoke/MethodHandle" ∧ yX0_join.cls ≠ "java/lang/invoke/VarHandle" ∧ (parseMethodDescriptor yX0_join.desc).map (fun d => d.parameters.length) = some 1 := by decide +kernel
theorem sX0_join_L38 (G : Gl) (n : Nat) (K : Nat → Nat) (hK : K = G.ad) (y18 : Nat) (y19 : Nat) (y20 : Int32) (y21 : Nat) (y22 : Nat) (y23 : Int32) : ∀ (f : Nat) (x17 : Int32) (h : AH) (k : AH → Option (Int32 × AH)) (hk : ∀ (h : AH), Sim G yX0_join.cls yX0_join.name cX0_join 10 (some .int) 9 cvI 90 [(5, .ref y18), (4, .ref y19), (3, .int y20), (2, .ref y21), (0, .ref y22), (1, .int y23)] [] h (k h)), Sim G yX0_join.cls yX0_join.name cX0_join 10 (some .int) 9 cvI 38 [(6, .int x17), (5, .ref y18), (4, .ref y19), (3, .int y20), (2, .ref y21), (0, .ref y22), (1, .int y23)] [] h (F_X0_join_L38 n K y18 y19 y20 y21 y22 y23 f x17 h k) := by
  intro f
  induction f with
  | zero =>
    intro x17 h k hk
    exact s_none
  | succ f ih =>
    intro x17 h k hk
    unfold F_X0_join_L38
    refine s_iload dX0_join_38 0 rfl (by decide) ?_
    refine s_iload_n dX0_join_40 3 rfl ?_
    refine s_icmp_ge 90 dX0_join_41 (by decide) (fun c24 => ?_) (fun c24 => ?_)
    · refine s_sub [1, 2, 3, 4, 5, 6] rfl ?_
      exact hk h
    · refine s_aload dX0_join_44 2 rfl (by decide) ?_
      refine s_iload dX0_join_46 0 rfl (by decide) ?_
      refine s_aload_n dX0_join_48 5 rfl ?_
      refine s_chk (fun hk25 => ?_)
      refine s_get (j := 2) 0 (va_rf (h.R y22 2)) dX0_join_49 hk25 rfl (by decide) q235 (Or.inl rfl) rfl ?_
      refine s_iload dX0_join_52 0 rfl (by decide) ?_
      refine s_ob (r := h.R y22 2) (fun z => [(6, .int x17), (5, .ref y18), (4, .ref y19), (3, .int y20), (2, .ref y21), (0, .ref y22), (1, .int y23)]) (fun z => [.int x17, z, .int x17, .ref y19]) (fun a26 => ?_)
      refine s_chk (fun hk29 => ?_)
      refine s_callV_R 2 (kJ2_get G n K hK a26 x17 h) (by decide) (by decide) dX0_join_54 hk29 rfl rfl q733 q734 q735 q107 q736 hyJ2_get rfl rfl (Nat.le_of_ble_eq_true rfl) (fun r27 h28 => ?_)
      refine s_ob (r := r27) (fun z => [(6, .int x17), (5, .ref y18), (4, .ref y19), (3, .int y20), (2, .ref y21), (0, .ref y22), (1, .int y23)]) (fun z => [z, .int x17, .ref y19]) (fun a30 => ?_)
      refine s_chk (fun hk31 => ?_)
      refine s_castV dX0_join_57 hk31 q745 ?_
      refine s_getV (j := 3) dX0_join_60 hk31 (by decide) q591 ?_
      refine s_chk (fun hk32 => ?_)
      refine s_chk (fun hi33 => ?_)
      refine s_iast dX0_join_63 hk32 rfl (by decide) hi33 ?_
      refine s_hl (fun h34 e35 => ?_)
      refine s_aload dX0_join_64 1 rfl (by decide) ?_
      refine s_iload dX0_join_66 0 rfl (by decide) ?_
      refine s_aload_n dX0_join_68 5 rfl ?_
      refine s_chk (fun hk36 => ?_)
      refine s_get (j := 2) 0 (va_rf (h34.R y22 2)) dX0_join_69 hk36 rfl (by decide) q235 (Or.inl rfl) rfl ?_
      refine s_iload dX0_join_72 0 rfl (by decide) ?_
      refine s_ob (r := h34.R y22 2) (fun z => [(6, .int x17), (5, .ref y18), (4, .ref y19), (3, .int y20), (2, .ref y21), (0, .ref y22), (1, .int y23)]) (fun z => [.int x17, z, .int x17, .ref y18]) (fun a37 => ?_)
      refine s_chk (fun hk40 => ?_)
      refine s_callV_R 2 (kJ2_get G n K hK a37 x17 h34) (by decide) (by decide) dX0_join_74 hk40 rfl rfl q733 q734 q735 q107 q736 hyJ2_get rfl rfl (Nat.le_of_ble_eq_true rfl) (fun r38 h39 => ?_)
      refine s_ob (r := r38) (fun z => [(6, .int x17), (5, .ref y18), (4, .ref y19), (3, .int y20), (2, .ref y21), (0, .ref y22), (1, .int y23)]) (fun z => [z, .int x17, .ref y18]) (fun a41 => ?_)
      refine s_chk (fun hk42 => ?_)
      refine s_castV dX0_join_77 hk42 q745 ?_
      refine s_getV (j := 4) dX0_join_80 hk42 (by decide) q593 ?_
      refine s_chk (fun hk43 => ?_)
      refine s_chk (fun hi44 => ?_)
      refine s_iast dX0_join_83 hk43 rfl (by decide) hi44 ?_
      refine s_hl (fun h45 e46 => ?_)
      refine s_iinc (1 : Int32) [(6, .int (x17 + (1 : Int32))), (5, .ref y18), (4, .ref y19), (3, .int y20), (2, .ref y21), (0, .ref y22), (1, .int y23)] dX0_join_84 0 rfl (by decide) (by decide) (by decide) rfl ?_
      refine s_goto 38 dX0_join_87 (by decide) ?_
      exact ih (x17 + (1 : Int32)) h45 k hk
theorem sX0_join_L129 (G : Gl) (n : Nat) (K : Nat → Nat) (hK : K = G.ad) (y62 : Int32) (y63 : Int32) (y64 : Nat) (y65 : Nat) (y66 : Int32) (y67 : Nat) (y68 : Nat) (y69 : Int32) : ∀ (f : Nat) (x61 : Int32) (h : AH) (k : AH → Option (Int32 × AH)) (hk : ∀ (h : AH), Sim G yX0_join.cls yX0_join.name cX0_join 10 (some .int) 9 cvI 223 [(7, .int y62), (6, .int y63), (5, .ref y64), (4, .ref y65), (3, .int y66), (2, .ref y67), (0, .ref y68), (1, .int y69)] [] h (k h)), Sim G yX0_join.cls yX0_join.name cX0_join 10 (some .int) 9 cvI 129 [(8, .int x61), (7, .int y62), (6, .int y63), (5, .ref y64), (4, .ref y65), (3, .int y66), (2, .ref y67), (0, .ref y68), (1, .int y69)] [] h (F_X0_join_L129 n K y62 y63 y64 y65 y66 y67 y68 y69 f x61 h k) := by
  intro f
  induction f with
  | zero =>
    intro x61 h k hk
    exact s_none
  | succ f ih =>
    intro x61 h k hk
    unfold F_X0_join_L129
    refine s_iload dX0_join_129 0 rfl (by decide) ?_
    refine s_iload_n dX0_join_131 5 rfl ?_
    refine s_icmp_ge 223 dX0_join_132 (by decide) (fun c70 => ?_) (fun c70 => ?_)
    · refine s_sub [1, 2, 3, 4, 5, 6, 7, 8] rfl ?_
      exact hk h
    · refine s_iload dX0_join_135 1 rfl (by decide) ?_
      refine s_iload dX0_join_137 0 rfl (by decide) ?_
      refine s_ishr dX0_join_139 ?_
      refine s_iconst (1 : Int32) dX0_join_140 (by decide) ?_
      refine s_iand dX0_join_141 ?_
      refine s_iconst (1 : Int32) dX0_join_142 (by decide) ?_
      refine s_jn (fun j72 => ∀ (x71 : Int32), Sim G yX0_join.cls yX0_join.name cX0_join 10 (some .int) 9 cvI 151 [(8, .int x61), (7, .int y62), (6, .int y63), (5, .ref y64), (4, .ref y65), (3, .int y66), (2, .ref y67), (0, .ref y68), (1, .int y69)] [.int x71] h (j72 x71)) ?_ (fun j72 hj105 => ?_)
      · intro x71
        refine s_istore [(9, .int x71), (8, .int x61), (7, .int y62), (6, .int y63), (5, .ref y64), (4, .ref y65), (3, .int y66), (2, .ref y67), (0, .ref y68), (1, .int y69)] dX0_join_151 (by decide) (by decide) rfl ?_
        refine s_aload_n dX0_join_153 8 rfl ?_
        refine s_chk (fun hk73 => ?_)
        refine s_get (j := 2) 0 (va_rf (h.R y68 2)) dX0_join_154 hk73 rfl (by decide) q235 (Or.inl rfl) rfl ?_
        refine s_iload dX0_join_157 1 rfl (by decide) ?_
        refine s_ob (r := h.R y68 2) (fun z => [(9, .int x71), (8, .int x61), (7, .int y62), (6, .int y63), (5, .ref y64), (4, .ref y65), (3, .int y66), (2, .ref y67), (0, .ref y68), (1, .int y69)]) (fun z => [.int x61, z]) (fun a74 => ?_)
        refine s_chk (fun hk77 => ?_)
        refine s_callV_R 2 (kJ2_get G n K hK a74 x61 h) (by decide) (by decide) dX0_join_159 hk77 rfl rfl q733 q734 q735 q107 q736 hyJ2_get rfl rfl (Nat.le_of_ble_eq_true rfl) (fun r75 h76 => ?_)
        refine s_ob (r := r75) (fun z => [(9, .int x71), (8, .int x61), (7, .int y62), (6, .int y63), (5, .ref y64), (4, .ref y65), (3, .int y66), (2, .ref y67), (0, .ref y68), (1, .int y69)]) (fun z => [z]) (fun a78 => ?_)
        refine s_chk (fun hk79 => ?_)
        refine s_castV dX0_join_162 hk79 q745 ?_
        refine s_iload dX0_join_165 0 rfl (by decide) ?_
        refine s_jn (fun j81 => ∀ (x80 : Int32), Sim G yX0_join.cls yX0_join.name cX0_join 10 (some .int) 9 cvI 182 [(9, .int x71), (8, .int x61), (7, .int y62), (6, .int y63), (5, .ref y64), (4, .ref y65), (3, .int y66), (2, .ref y67), (0, .ref y68), (1, .int y69)] [.int x80, .ref a78] h76 (j81 x80)) ?_ (fun j81 hj100 => ?_)
        · intro x80
          refine s_putV (j := 3) dX0_join_182 hk79 (by decide) q591 (by decide) ?_
          refine s_hl (fun h82 e83 => ?_)
          refine s_aload_n dX0_join_185 8 rfl ?_
          refine s_chk (fun hk84 => ?_)
          refine s_get (j := 2) 0 (va_rf (h82.R y68 2)) dX0_join_186 hk84 rfl (by decide) q235 (Or.inl rfl) rfl ?_
          refine s_iload dX0_join_189 1 rfl (by decide) ?_
          refine s_ob (r := h82.R y68 2) (fun z => [(9, .int x71), (8, .int x61), (7, .int y62), (6, .int y63), (5, .ref y64), (4, .ref y65), (3, .int y66), (2, .ref y67), (0, .ref y68), (1, .int y69)]) (fun z => [.int x61, z]) (fun a85 => ?_)
          refine s_chk (fun hk88 => ?_)
          refine s_callV_R 2 (kJ2_get G n K hK a85 x61 h82) (by decide) (by decide) dX0_join_191 hk88 rfl rfl q733 q734 q735 q107 q736 hyJ2_get rfl rfl (Nat.le_of_ble_eq_true rfl) (fun r86 h87 => ?_)
          refine s_ob (r := r86) (fun z => [(9, .int x71), (8, .int x61), (7, .int y62), (6, .int y63), (5, .ref y64), (4, .ref y65), (3, .int y66), (2, .ref y67), (0, .ref y68), (1, .int y69)]) (fun z => [z]) (fun a89 => ?_)
          refine s_chk (fun hk90 => ?_)
          refine s_castV dX0_join_194 hk90 q745 ?_
          refine s_iload dX0_join_197 0 rfl (by decide) ?_
          refine s_jn (fun j92 => ∀ (x91 : Int32), Sim G yX0_join.cls yX0_join.name cX0_join 10 (some .int) 9 cvI 214 [(8, .int x61), (7, .int y62), (6, .int y63), (5, .ref y64), (4, .ref y65), (3, .int y66), (2, .ref y67), (0, .ref y68), (1, .int y69)] [.int x91, .ref a89] h87 (j92 x91)) ?_ (fun j92 hj95 => ?_)
          · intro x91
            refine s_putV (j := 4) dX0_join_214 hk90 (by decide) q593 (by decide) ?_
            refine s_hl (fun h93 e94 => ?_)
            refine s_iinc (1 : Int32) [(8, .int (x61 + (1 : Int32))), (7, .int y62), (6, .int y63), (5, .ref y64), (4, .ref y65), (3, .int y66), (2, .ref y67), (0, .ref y68), (1, .int y69)] dX0_join_217 0 rfl (by decide) (by decide) (by decide) rfl ?_
            refine s_goto 129 dX0_join_220 (by decide) ?_
            exact ih (x61 + (1 : Int32)) h93 k hk
          refine s_if_eq 209 dX0_join_199 (by decide) (fun c96 => ?_) (fun c96 => ?_)
          · refine s_aload dX0_join_209 4 rfl (by decide) ?_
            refine s_iload dX0_join_211 1 rfl (by decide) ?_
            refine s_chk (fun hk97 => ?_)
            refine s_chk (fun hi98 => ?_)
            refine s_iald dX0_join_213 hk97 rfl hi98 ?_
            refine s_sub [1, 2, 3, 4, 5, 6, 7, 8, 9] rfl ?_
            exact hj95 (h87.I y64 (ix x61))
          · refine s_aload_n dX0_join_202 7 rfl ?_
            refine s_chk (fun hk99 => ?_)
            refine s_getN (j := 1) 10 (.int (h87.I y67 1)) dX0_join_203 hk99 rfl (by decide) q707 (Or.inl rfl) rfl ?_
            refine s_goto 214 dX0_join_206 (by decide) ?_
            refine s_sub [1, 2, 3, 4, 5, 6, 7, 8, 9] rfl ?_
            exact hj95 (h87.I y67 1)
        refine s_if_eq 177 dX0_join_167 (by decide) (fun c101 => ?_) (fun c101 => ?_)
        · refine s_aload dX0_join_177 5 rfl (by decide) ?_
          refine s_iload dX0_join_179 1 rfl (by decide) ?_
          refine s_chk (fun hk102 => ?_)
          refine s_chk (fun hi103 => ?_)
          refine s_iald dX0_join_181 hk102 rfl hi103 ?_
          exact hj100 (h76.I y65 (ix x61))
        · refine s_aload_n dX0_join_170 7 rfl ?_
          refine s_chk (fun hk104 => ?_)
          refine s_getN (j := 0) 10 (.int (h76.I y67 0)) dX0_join_171 hk104 rfl (by decide) q705 (Or.inl rfl) rfl ?_
          refine s_goto 182 dX0_join_174 (by decide) ?_
          exact hj100 (h76.I y67 0)
      refine s_icmp_ne 150 dX0_join_143 (by decide) (fun c106 => ?_) (fun c106 => ?_)
      · refine s_iconst (0 : Int32) dX0_join_150 (by decide) ?_
        exact hj105 (0 : Int32)
      · refine s_iconst (1 : Int32) dX0_join_146 (by decide) ?_
        refine s_goto 151 dX0_join_147 (by decide) ?_
        exact hj105 (1 : Int32)
theorem sX0_join_L96 (G : Gl) (n : Nat) (K : Nat → Nat) (hK : K = G.ad) (y51 : Nat) (y52 : Nat) (y53 : Int32) (y54 : Nat) (y55 : Nat) (y56 : Int32) : ∀ (f : Nat) (x49 : Int32) (x50 : Int32) (h : AH) (k : Int32 → AH → Option (Int32 × AH)) (hk : ∀ (x50 : Int32) (h : AH), Sim G yX0_join.cls yX0_join.name cX0_join 10 (some .int) 9 cvI 241 [(6, .int x50), (5, .ref y51), (4, .ref y52), (3, .int y53), (0, .ref y55)] [] h (k x50 h)), Sim G yX0_join.cls yX0_join.name cX0_join 10 (some .int) 9 cvI 96 [(7, .int x49), (6, .int x50), (5, .ref y51), (4, .ref y52), (3, .int y53), (2, .ref y54), (0, .ref y55), (1, .int y56)] [] h (F_X0_join_L96 n K y51 y52 y53 y54 y55 y56 f x49 x50 h k) := by
  intro f
  induction f with
  | zero =>
    intro x49 x50 h k hk
    exact s_none
  | succ f ih =>
    intro x49 x50 h k hk
    unfold F_X0_join_L96
    refine s_iload dX0_join_96 0 rfl (by decide) ?_
    refine s_iconst (1 : Int32) dX0_join_98 (by decide) ?_
    refine s_iload_n dX0_join_99 4 rfl ?_
    refine s_ishl dX0_join_100 ?_
    refine s_icmp_ge 241 dX0_join_101 (by decide) (fun c57 => ?_) (fun c57 => ?_)
    · refine s_sub [1, 2, 3, 4, 6] rfl ?_
      exact hk x50 h
    · refine s_iload dX0_join_104 1 rfl (by decide) ?_
      refine s_iconst (-1 : Int32) dX0_join_106 (by decide) ?_
      refine s_jn (fun j59 => ∀ (h58 : AH), Sim G yX0_join.cls yX0_join.name cX0_join 10 (some .int) 9 cvI 126 [(7, .int x49), (6, .int x50), (5, .ref y51), (4, .ref y52), (3, .int y53), (2, .ref y54), (0, .ref y55), (1, .int y56)] [] h58 (j59 h58)) ?_ (fun j59 hj112 => ?_)
      · intro h58
        refine s_iconst (0 : Int32) dX0_join_126 (by decide) ?_
        refine s_istore [(8, .int (0 : Int32)), (7, .int x49), (6, .int x50), (5, .ref y51), (4, .ref y52), (3, .int y53), (2, .ref y54), (0, .ref y55), (1, .int y56)] dX0_join_127 (by decide) (by decide) rfl ?_
        refine sX0_join_L129 G n K hK x49 x50 y51 y52 y53 y54 y55 y56 n (0 : Int32) h58 _ ?_
        intro h107
        refine s_aload_n dX0_join_223 6 rfl ?_
        refine s_iload_n dX0_join_224 7 rfl ?_
        refine s_chk (fun hk110 => ?_)
        refine s_callV_I 0 (kX0_isUnbeaten G n K hK y55 y56 h107) (by decide) (by decide) dX0_join_225 hk110 rfl rfl q1119 q1121 qs44 q103 q1122 hyX0_isUnbeaten rfl rfl (Nat.le_of_ble_eq_true rfl) (fun r108 h109 => ?_)
        refine s_if_eq 235 dX0_join_228 (by decide) (fun c111 => ?_) (fun c111 => ?_)
        · refine s_iinc (1 : Int32) [(7, .int (x49 + (1 : Int32))), (6, .int x50), (5, .ref y51), (4, .ref y52), (3, .int y53), (2, .ref y54), (0, .ref y55), (1, .int y56)] dX0_join_235 0 rfl (by decide) (by decide) (by decide) rfl ?_
          refine s_goto 96 dX0_join_238 (by decide) ?_
          exact ih (x49 + (1 : Int32)) x50 h109 k hk
        · refine s_iload dX0_join_231 0 rfl (by decide) ?_
          refine s_istore [(6, .int x49), (7, .int x49), (5, .ref y51), (4, .ref y52), (3, .int y53), (2, .ref y54), (0, .ref y55), (1, .int y56)] dX0_join_233 (by decide) (by decide) rfl ?_
          refine s_iinc (1 : Int32) [(7, .int (x49 + (1 : Int32))), (6, .int x49), (5, .ref y51), (4, .ref y52), (3, .int y53), (2, .ref y54), (0, .ref y55), (1, .int y56)] dX0_join_235 1 rfl (by decide) (by decide) (by decide) rfl ?_
          refine s_goto 96 dX0_join_238 (by decide) ?_
          exact ih (x49 + (1 : Int32)) x49 h109 k hk
      refine s_icmp_eq 126 dX0_join_107 (by decide) (fun c113 => ?_) (fun c113 => ?_)
      · exact hj112 h
      · refine s_iload dX0_join_110 0 rfl (by decide) ?_
        refine s_callS_I (kJ15_bitCount G n K hK x49 h) (by decide) (by decide) dX0_join_112 q1081 q1082 q130 q1083 hyJ15_bitCount rfl rfl (Nat.le_of_ble_eq_true rfl) (fun r114 h115 => ?_)
        refine s_iload dX0_join_115 1 rfl (by decide) ?_
        refine s_callS_I (kJ15_bitCount G n K hK x50 h115) (by decide) (by decide) dX0_join_117 q1081 q1082 q130 q1083 hyJ15_bitCount rfl rfl (Nat.le_of_ble_eq_true rfl) (fun r116 h117 => ?_)
        refine s_icmp_lt 126 dX0_join_120 (by decide) (fun c118 => ?_) (fun c118 => ?_)
        · exact hj112 h117
        · refine s_goto 235 dX0_join_123 (by decide) ?_
          refine s_iinc (1 : Int32) [(7, .int (x49 + (1 : Int32))), (6, .int x50), (5, .ref y51), (4, .ref y52), (3, .int y53), (2, .ref y54), (0, .ref y55), (1, .int y56)] dX0_join_235 0 rfl (by decide) (by decide) (by decide) rfl ?_
          refine s_goto 96 dX0_join_238 (by decide) ?_
          exact ih (x49 + (1 : Int32)) x50 h117 k hk
theorem sX0_join_L244 (G : Gl) (n : Nat) (K : Nat → Nat) (hK : K = G.ad) (y123 : Int32) (y124 : Nat) (y125 : Nat) (y126 : Int32) (y127 : Nat) : ∀ (f : Nat) (x122 : Int32) (h : AH), Sim G yX0_join.cls yX0_join.name cX0_join 10 (some .int) 9 cvI 244 [(7, .int x122), (6, .int y123), (5, .ref y124), (4, .ref y125), (3, .int y126), (0, .ref y127)] [] h (F_X0_join_L244 n K y123 y124 y125 y126 y127 f x122 h) := by
  intro f
  induction f with
  | zero =>
    intro x122 h
    exact s_none
  | succ f ih =>
    intro x122 h
    unfold F_X0_join_L244
    refine s_iload dX0_join_244 0 rfl (by decide) ?_
    refine s_iload_n dX0_join_246 4 rfl ?_
    refine s_icmp_ge 296 dX0_join_247 (by decide) (fun c128 => ?_) (fun c128 => ?_)
    · refine s_iload dX0_join_296 1 rfl (by decide) ?_
      exact s_iret dX0_join_298 rfl rfl
    · refine s_aload_n dX0_join_250 5 rfl ?_
      refine s_chk (fun hk129 => ?_)
      refine s_get (j := 2) 0 (va_rf (h.R y127 2)) dX0_join_251 hk129 rfl (by decide) q235 (Or.inl rfl) rfl ?_
      refine s_iload dX0_join_254 0 rfl (by decide) ?_
      refine s_ob (r := h.R y127 2) (fun z => [(7, .int x122), (6, .int y123), (5, .ref y124), (4, .ref y125), (3, .int y126), (0, .ref y127)]) (fun z => [.int x122, z]) (fun a130 => ?_)
      refine s_chk (fun hk133 => ?_)
      refine s_callV_R 2 (kJ2_get G n K hK a130 x122 h) (by decide) (by decide) dX0_join_256 hk133 rfl rfl q733 q734 q735 q107 q736 hyJ2_get rfl rfl (Nat.le_of_ble_eq_true rfl) (fun r131 h132 => ?_)
      refine s_ob (r := r131) (fun z => [(7, .int x122), (6, .int y123), (5, .ref y124), (4, .ref y125), (3, .int y126), (0, .ref y127)]) (fun z => [z]) (fun a134 => ?_)
      refine s_chk (fun hk135 => ?_)
      refine s_castV dX0_join_259 hk135 q745 ?_
      refine s_aload dX0_join_262 3 rfl (by decide) ?_
      refine s_iload dX0_join_264 0 rfl (by decide) ?_
      refine s_chk (fun hk136 => ?_)
      refine s_chk (fun hi137 => ?_)
      refine s_iald dX0_join_266 hk136 rfl hi137 ?_
      refine s_putV (j := 3) dX0_join_267 hk135 (by decide) q591 (by decide) ?_
      refine s_hl (fun h138 e139 => ?_)
      refine s_aload_n dX0_join_270 5 rfl ?_
      refine s_chk (fun hk140 => ?_)
      refine s_get (j := 2) 0 (va_rf (h138.R y127 2)) dX0_join_271 hk140 rfl (by decide) q235 (Or.inl rfl) rfl ?_
      refine s_iload dX0_join_274 0 rfl (by decide) ?_
      refine s_ob (r := h138.R y127 2) (fun z => [(7, .int x122), (6, .int y123), (5, .ref y124), (4, .ref y125), (3, .int y126), (0, .ref y127)]) (fun z => [.int x122, z]) (fun a141 => ?_)
      refine s_chk (fun hk144 => ?_)
      refine s_callV_R 2 (kJ2_get G n K hK a141 x122 h138) (by decide) (by decide) dX0_join_276 hk144 rfl rfl q733 q734 q735 q107 q736 hyJ2_get rfl rfl (Nat.le_of_ble_eq_true rfl) (fun r142 h143 => ?_)
      refine s_ob (r := r142) (fun z => [(7, .int x122), (6, .int y123), (5, .ref y124), (4, .ref y125), (3, .int y126), (0, .ref y127)]) (fun z => [z]) (fun a145 => ?_)
      refine s_chk (fun hk146 => ?_)
      refine s_castV dX0_join_279 hk146 q745 ?_
      refine s_aload dX0_join_282 2 rfl (by decide) ?_
      refine s_iload dX0_join_284 0 rfl (by decide) ?_
      refine s_chk (fun hk147 => ?_)
      refine s_chk (fun hi148 => ?_)
      refine s_iald dX0_join_286 hk147 rfl hi148 ?_
      refine s_putV (j := 4) dX0_join_287 hk146 (by decide) q593 (by decide) ?_
      refine s_hl (fun h149 e150 => ?_)
      refine s_iinc (1 : Int32) [(7, .int (x122 + (1 : Int32))), (6, .int y123), (5, .ref y124), (4, .ref y125), (3, .int y126), (0, .ref y127)] dX0_join_290 0 rfl (by decide) (by decide) (by decide) rfl ?_
      refine s_goto 244 dX0_join_293 (by decide) ?_
      exact ih (x122 + (1 : Int32)) h149
theorem kX0_join (G : Gl) (n : Nat) (K : Nat → Nat) (hK : K = G.ad) (p0 : Nat) (p1 : Int32) (h : AH) : OkM G yX0_join cX0_join 10 (some .int) 9 cvI [.ref p0, .int p1] h (F_X0_join n K p0 p1 h) := by
  refine ok_of_sim [(0, .ref p0), (1, .int p1)] (by decide +kernel) (fun r => ⟨_, rfl⟩) (by simp [uns, lv_args, lg_sl, catI, catL, catA, va_rfc]) (by simp [uns, lv_args, lg_sl, catI, catL, catA, va_rfc]) (by simp [uns, lv_args, lg_sl, catI, catL, catA, va_rfc]) ?_
  unfold F_X0_join
  refine s_aload_n dX0_join_0 0 rfl ?_
  refine s_iload_n dX0_join_1 1 rfl ?_
  refine s_chk (fun hk3 => ?_)
  refine s_callV_R 0 (kX0_placeAt G n K hK p0 p1 h) (by decide) (by decide) dX0_join_2 hk3 rfl rfl q779 q781 qs18 q103 q782 hyX0_placeAt rfl rfl (Nat.le_of_ble_eq_true rfl) (fun r1 h2 => ?_)
  refine s_ostore_n [(2, va_rf r1), (0, .ref p0), (1, .int p1)] dX0_join_5 (by decide) (by decide) rfl ?_
  refine s_oload_n dX0_join_6 0 rfl ?_
  refine s_ifnonnull (r := r1) 12 (fun z => [(2, z), (0, .ref p0), (1, .int p1)]) (fun z => []) dX0_join_7 (by decide) ?_ (fun a4 => ?_)
  · refine s_iconst (-1 : Int32) dX0_join_10 (by decide) ?_
    exact s_iret dX0_join_11 rfl rfl
  · refine s_bipush (9 : Int32) dX0_join_12 (by decide) ?_
    refine s_aload_n dX0_join_14 1 rfl ?_
    refine s_chk (fun hk5 => ?_)
    refine s_get (j := 2) 0 (va_rf (h2.R p0 2)) dX0_join_15 hk5 rfl (by decide) q235 (Or.inl rfl) rfl ?_
    refine s_ob (r := h2.R p0 2) (fun z => [(2, .ref a4), (0, .ref p0), (1, .int p1)]) (fun z => [z, .int (9 : Int32)]) (fun a6 => ?_)
    refine s_chk (fun hk9 => ?_)
    refine s_callV_I 2 (kJ2_size G n K hK a6 h2) (by decide) (by decide) dX0_join_18 hk9 rfl rfl q732 q552 q553 q107 q554 hyJ2_size rfl rfl (Nat.le_of_ble_eq_true rfl) (fun r7 h8 => ?_)
    refine s_mmin dX0_join_21 (by decide) q1072 q477 q116 q478 (Nat.le_of_ble_eq_true rfl) ?_
    refine s_istore_n [(3, .int (if r7 < (9 : Int32) then r7 else (9 : Int32))), (2, .ref a4), (0, .ref p0), (1, .int p1)] dX0_join_24 (by decide) (by decide) rfl ?_
    refine s_iload_n dX0_join_25 0 rfl ?_
    refine s_chk (fun hn10 => ?_)
    refine s_newa 32 dX0_join_26 rfl (by decide) rfl rfl q321 hn10.1 (nab32 hn10) ?_
    refine s_hl (fun h11 e12 => ?_)
    refine s_astore [(4, .ref h8.n), (3, .int (if r7 < (9 : Int32) then r7 else (9 : Int32))), (2, .ref a4), (0, .ref p0), (1, .int p1)] dX0_join_28 (by decide) (by decide) rfl ?_
    refine s_iload_n dX0_join_30 1 rfl ?_
    refine s_chk (fun hn13 => ?_)
    refine s_newa 32 dX0_join_31 rfl (by decide) rfl rfl q321 hn13.1 (nab32 hn13) ?_
    refine s_hl (fun h14 e15 => ?_)
    refine s_astore [(5, .ref h11.n), (4, .ref h8.n), (3, .int (if r7 < (9 : Int32) then r7 else (9 : Int32))), (2, .ref a4), (0, .ref p0), (1, .int p1)] dX0_join_33 (by decide) (by decide) rfl ?_
    refine s_iconst (0 : Int32) dX0_join_35 (by decide) ?_
    refine s_istore [(6, .int (0 : Int32)), (5, .ref h11.n), (4, .ref h8.n), (3, .int (if r7 < (9 : Int32) then r7 else (9 : Int32))), (2, .ref a4), (0, .ref p0), (1, .int p1)] dX0_join_36 (by decide) (by decide) rfl ?_
    refine sX0_join_L38 G n K hK h11.n h8.n (if r7 < (9 : Int32) then r7 else (9 : Int32)) a4 p0 p1 n (0 : Int32) h14 _ ?_
    intro h47
    refine s_iconst (-1 : Int32) dX0_join_90 (by decide) ?_
    refine s_istore [(6, .int (-1 : Int32)), (5, .ref h11.n), (4, .ref h8.n), (3, .int (if r7 < (9 : Int32) then r7 else (9 : Int32))), (2, .ref a4), (0, .ref p0), (1, .int p1)] dX0_join_91 (by decide) (by decide) rfl ?_
    refine s_iconst (0 : Int32) dX0_join_93 (by decide) ?_
    refine s_istore [(7, .int (0 : Int32)), (6, .int (-1 : Int32)), (5, .ref h11.n), (4, .ref h8.n), (3, .int (if r7 < (9 : Int32) then r7 else (9 : Int32))), (2, .ref a4), (0, .ref p0), (1, .int p1)] dX0_join_94 (by decide) (by decide) rfl ?_
    refine sX0_join_L96 G n K hK h11.n h8.n (if r7 < (9 : Int32) then r7 else (9 : Int32)) a4 p0 p1 n (0 : Int32) (-1 : Int32) h47 _ ?_
    intro x119 h120
    refine s_iconst (0 : Int32) dX0_join_241 (by decide) ?_
    refine s_istore [(7, .int (0 : Int32)), (6, .int x119), (5, .ref h11.n), (4, .ref h8.n), (3, .int (if r7 < (9 : Int32) then r7 else (9 : Int32))), (0, .ref p0)] dX0_join_242 (by decide) (by decide) rfl ?_
    exact sX0_join_L244 G n K hK x119 h11.n h8.n (if r7 < (9 : Int32) then r7 else (9 : Int32)) p0 n (0 : Int32) h120
theorem hyX0_surely : yX0_surely.cls ≠ "java/lang/invoke/MethodHandle" ∧ yX0_surely.cls ≠ "java/lang/invoke/VarHandle" ∧ (parseMethodDescriptor yX0_surely.desc).map (fun d => d.parameters.length) = some 4 := by decide +kernel
theorem sX0_surely_L49 (G : Gl) (n : Nat) (K : Nat → Nat) (hK : K = G.ad) (y19 : Int32) (y23 : Nat) (y24 : Int32) (y25 : Option Nat) (y26 : Option Nat) : ∀ (f : Nat) (x18 : Int32) (x20 : Int32) (x21 : Int32) (x22 : Int32) (h : AH) (k : Int32 → Int32 → Int32 → AH → Option (Int32 × AH)) (hk : ∀ (x20 : Int32) (x21 : Int32) (x22 : Int32) (h : AH), Sim G yX0_surely.cls yX0_surely.name cX0_surely 11 (some .int) 3 cvI 141 [(8, .int y19), (7, .int x20), (6, .int x21), (5, .int x22), (1, .ref y23), (2, .int y24), (3, va_rf y25), (4, va_rf y26)] [] h (k x20 x21 x22 h)), Sim G yX0_surely.cls yX0_surely.name cX0_surely 11 (some .int) 3 cvI 49 [(9, .int x18), (8, .int y19), (7, .int x20), (6, .int x21), (5, .int x22), (1, .ref y23), (2, .int y24), (3, va_rf y25), (4, va_rf y26)] [] h (F_X0_surely_L49 n K y19 y23 y24 y25 y26 f x18 x20 x21 x22 h k) := by
  intro f
  induction f with
  | zero =>
    intro x18 x20 x21 x22 h k hk
    exact s_none
  | succ f ih =>
    intro x18 x20 x21 x22 h k hk
    unfold F_X0_surely_L49
    refine s_iload dX0_surely_49 0 rfl (by decide) ?_
    refine s_bipush (99 : Int32) dX0_surely_51 (by decide) ?_
    refine s_aload_n dX0_surely_53 5 rfl ?_
    refine s_chk (fun hk27 => ?_)
    refine s_getV (j := 4) dX0_surely_54 hk27 (by decide) q593 ?_
    refine s_iload_n dX0_surely_57 6 rfl ?_
    refine s_iadd dX0_surely_58 ?_
    refine s_mmin dX0_surely_59 (by decide) q1072 q477 q116 q478 (Nat.le_of_ble_eq_true rfl) ?_
    refine s_icmp_gt 141 dX0_surely_62 (by decide) (fun c28 => ?_) (fun c28 => ?_)
    · refine s_sub [1, 2, 3, 4, 5, 6, 7, 8] rfl ?_
      exact hk x20 x21 x22 h
    · refine s_aload_n dX0_surely_65 5 rfl ?_
      refine s_iload dX0_surely_66 1 rfl (by decide) ?_
      refine s_iload dX0_surely_68 0 rfl (by decide) ?_
      refine s_oload dX0_surely_70 8 rfl (by decide) ?_
      refine s_ob (r := y26) (fun z => [(9, .int x18), (8, .int y19), (7, .int x20), (6, .int x21), (5, .int x22), (1, .ref y23), (2, .int y24), (3, va_rf y25), (4, va_rf y26)]) (fun z => [z, .int x18, .int y19, .ref y23]) (fun a29 => ?_)
      refine s_chk (fun hk30 => ?_)
      refine s_getN (j := 0) 10 (.int (h.I a29 0)) dX0_surely_72 hk30 rfl (by decide) q705 (Or.inl rfl) rfl ?_
      refine s_oload dX0_surely_75 8 rfl (by decide) ?_
      refine s_ob (r := y26) (fun z => [(9, .int x18), (8, .int y19), (7, .int x20), (6, .int x21), (5, .int x22), (1, .ref y23), (2, .int y24), (3, va_rf y25), (4, va_rf y26)]) (fun z => [z, .int (h.I a29 0), .int x18, .int y19, .ref y23]) (fun a31 => ?_)
      refine s_chk (fun hk32 => ?_)
      refine s_getN (j := 1) 10 (.int (h.I a31 1)) dX0_surely_77 hk32 rfl (by decide) q707 (Or.inl rfl) rfl ?_
      refine s_callUV (n := 4) (kX5_wayFrom G n K hK y23 y19 x18 (h.I a29 0) (h.I a31 1) h) (by decide) (by decide) dX0_surely_80 hk27 q1148 q806 q807 q810 q808 q809 q805 q120 q811 (by decide +kernel) rfl rfl (Nat.le_of_ble_eq_true rfl) (fun r33 h34 => ?_)
      refine s_aload_n dX0_surely_83 5 rfl ?_
      refine s_iload dX0_surely_84 1 rfl (by decide) ?_
      refine s_iload dX0_surely_86 0 rfl (by decide) ?_
      refine s_oload_n dX0_surely_88 7 rfl ?_
      refine s_ob (r := y25) (fun z => [(9, .int x18), (8, .int y19), (7, .int x20), (6, .int x21), (5, .int x22), (1, .ref y23), (2, .int y24), (3, va_rf y25), (4, va_rf y26)]) (fun z => [z, .int x18, .int y19, .ref y23, .int r33]) (fun a35 => ?_)
      refine s_chk (fun hk36 => ?_)
      refine s_getN (j := 0) 10 (.int (h34.I a35 0)) dX0_surely_89 hk36 rfl (by decide) q705 (Or.inl rfl) rfl ?_
      refine s_oload_n dX0_surely_92 7 rfl ?_
      refine s_ob (r := y25) (fun z => [(9, .int x18), (8, .int y19), (7, .int x20), (6, .int x21), (5, .int x22), (1, .ref y23), (2, .int y24), (3, va_rf y25), (4, va_rf y26)]) (fun z => [z, .int (h34.I a35 0), .int x18, .int y19, .ref y23, .int r33]) (fun a37 => ?_)
      refine s_chk (fun hk38 => ?_)
      refine s_getN (j := 1) 10 (.int (h34.I a37 1)) dX0_surely_93 hk38 rfl (by decide) q707 (Or.inl rfl) rfl ?_
      refine s_chk (fun hk41 => ?_)
      refine s_callUV (n := 4) (kX5_wayFrom G n K hK y23 y19 x18 (h34.I a35 0) (h34.I a37 1) h34) (by decide) (by decide) dX0_surely_96 hk41 q1148 q806 q807 q810 q808 q809 q805 q120 q811 (by decide +kernel) rfl rfl (Nat.le_of_ble_eq_true rfl) (fun r39 h40 => ?_)
      refine s_isub dX0_surely_99 ?_
      refine s_istore [(10, .int (r33 - r39)), (9, .int x18), (8, .int y19), (7, .int x20), (6, .int x21), (5, .int x22), (1, .ref y23), (2, .int y24), (3, va_rf y25), (4, va_rf y26)] dX0_surely_100 (by decide) (by decide) rfl ?_
      refine s_iinc (1 : Int32) [(7, .int (x20 + (1 : Int32))), (10, .int (r33 - r39)), (9, .int x18), (8, .int y19), (6, .int x21), (5, .int x22), (1, .ref y23), (2, .int y24), (3, va_rf y25), (4, va_rf y26)] dX0_surely_102 3 rfl (by decide) (by decide) (by decide) rfl ?_
      refine s_iload dX0_surely_105 5 rfl (by decide) ?_
      refine s_iload dX0_surely_107 1 rfl (by decide) ?_
      refine s_jn (fun j43 => ∀ (x42 : Int32), Sim G yX0_surely.cls yX0_surely.name cX0_surely 11 (some .int) 3 cvI 117 [(7, .int (x20 + (1 : Int32))), (10, .int (r33 - r39)), (9, .int x18), (8, .int y19), (6, .int x21), (1, .ref y23), (2, .int y24), (3, va_rf y25), (4, va_rf y26)] [.int x42, .int x22] h40 (j43 x42)) ?_ (fun j43 hj45 => ?_)
      · intro x42
        refine s_iadd dX0_surely_117 ?_
        refine s_istore [(5, .int (x22 + x42)), (7, .int (x20 + (1 : Int32))), (10, .int (r33 - r39)), (9, .int x18), (8, .int y19), (6, .int x21), (1, .ref y23), (2, .int y24), (3, va_rf y25), (4, va_rf y26)] dX0_surely_118 (by decide) (by decide) rfl ?_
        refine s_iload dX0_surely_120 5 rfl (by decide) ?_
        refine s_iload dX0_surely_122 2 rfl (by decide) ?_
        refine s_if_ge 131 dX0_surely_124 (by decide) (fun c44 => ?_) (fun c44 => ?_)
        · refine s_iconst (0 : Int32) dX0_surely_131 (by decide) ?_
          refine s_iadd dX0_surely_132 ?_
          refine s_istore [(6, .int (x21 + (0 : Int32))), (5, .int (x22 + x42)), (7, .int (x20 + (1 : Int32))), (10, .int (r33 - r39)), (9, .int x18), (8, .int y19), (1, .ref y23), (2, .int y24), (3, va_rf y25), (4, va_rf y26)] dX0_surely_133 (by decide) (by decide) rfl ?_
          refine s_iinc (1 : Int32) [(9, .int (x18 + (1 : Int32))), (6, .int (x21 + (0 : Int32))), (5, .int (x22 + x42)), (7, .int (x20 + (1 : Int32))), (10, .int (r33 - r39)), (8, .int y19), (1, .ref y23), (2, .int y24), (3, va_rf y25), (4, va_rf y26)] dX0_surely_135 4 rfl (by decide) (by decide) (by decide) rfl ?_
          refine s_goto 49 dX0_surely_138 (by decide) ?_
          refine s_sub [0, 5, 3, 1, 2, 6, 7, 8, 9] rfl ?_
          exact ih (x18 + (1 : Int32)) (x20 + (1 : Int32)) (x21 + (0 : Int32)) (x22 + x42) h40 k hk
        · refine s_iconst (1 : Int32) dX0_surely_127 (by decide) ?_
          refine s_goto 132 dX0_surely_128 (by decide) ?_
          refine s_iadd dX0_surely_132 ?_
          refine s_istore [(6, .int (x21 + (1 : Int32))), (5, .int (x22 + x42)), (7, .int (x20 + (1 : Int32))), (10, .int (r33 - r39)), (9, .int x18), (8, .int y19), (1, .ref y23), (2, .int y24), (3, va_rf y25), (4, va_rf y26)] dX0_surely_133 (by decide) (by decide) rfl ?_
          refine s_iinc (1 : Int32) [(9, .int (x18 + (1 : Int32))), (6, .int (x21 + (1 : Int32))), (5, .int (x22 + x42)), (7, .int (x20 + (1 : Int32))), (10, .int (r33 - r39)), (8, .int y19), (1, .ref y23), (2, .int y24), (3, va_rf y25), (4, va_rf y26)] dX0_surely_135 4 rfl (by decide) (by decide) (by decide) rfl ?_
          refine s_goto 49 dX0_surely_138 (by decide) ?_
          refine s_sub [0, 5, 3, 1, 2, 6, 7, 8, 9] rfl ?_
          exact ih (x18 + (1 : Int32)) (x20 + (1 : Int32)) (x21 + (1 : Int32)) (x22 + x42) h40 k hk
      refine s_if_le 116 dX0_surely_109 (by decide) (fun c46 => ?_) (fun c46 => ?_)
      · refine s_iconst (0 : Int32) dX0_surely_116 (by decide) ?_
        refine s_sub [0, 1, 2, 3, 4, 6, 7, 8, 9] rfl ?_
        exact hj45 (0 : Int32)
      · refine s_iconst (1 : Int32) dX0_surely_112 (by decide) ?_
        refine s_goto 117 dX0_surely_113 (by decide) ?_
        refine s_sub [0, 1, 2, 3, 4, 6, 7, 8, 9] rfl ?_
        exact hj45 (1 : Int32)
theorem sX0_surely_L21 (G : Gl) (n : Nat) (K : Nat → Nat) (hK : K = G.ad) (y8 : Nat) (y9 : Int32) (y10 : Option Nat) (y11 : Option Nat) : ∀ (f : Nat) (x4 : Int32) (x5 : Int32) (x6 : Int32) (x7 : Int32) (h : AH), Sim G yX0_surely.cls yX0_surely.name cX0_surely 11 (some .int) 3 cvI 21 [(8, .int x4), (7, .int x5), (6, .int x6), (5, .int x7), (1, .ref y8), (2, .int y9), (3, va_rf y10), (4, va_rf y11)] [] h (F_X0_surely_L21 n K y8 y9 y10 y11 f x4 x5 x6 x7 h) := by
  intro f
  induction f with
  | zero =>
    intro x4 x5 x6 x7 h
    exact s_none
  | succ f ih =>
    intro x4 x5 x6 x7 h
    unfold F_X0_surely_L21
    refine s_iload dX0_surely_21 0 rfl (by decide) ?_
    refine s_bipush (99 : Int32) dX0_surely_23 (by decide) ?_
    refine s_aload_n dX0_surely_25 4 rfl ?_
    refine s_chk (fun hk12 => ?_)
    refine s_getV (j := 3) dX0_surely_26 hk12 (by decide) q591 ?_
    refine s_iload_n dX0_surely_29 5 rfl ?_
    refine s_iadd dX0_surely_30 ?_
    refine s_mmin dX0_surely_31 (by decide) q1072 q477 q116 q478 (Nat.le_of_ble_eq_true rfl) ?_
    refine s_icmp_gt 147 dX0_surely_34 (by decide) (fun c13 => ?_) (fun c13 => ?_)
    · refine s_iload dX0_surely_147 3 rfl (by decide) ?_
      refine s_iload dX0_surely_149 1 rfl (by decide) ?_
      refine s_icmp_ne 158 dX0_surely_151 (by decide) (fun c14 => ?_) (fun c14 => ?_)
      · refine s_iload dX0_surely_158 2 rfl (by decide) ?_
        refine s_iload dX0_surely_160 1 rfl (by decide) ?_
        refine s_icmp_ne 170 dX0_surely_162 (by decide) (fun c15 => ?_) (fun c15 => ?_)
        · refine s_iload dX0_surely_170 3 rfl (by decide) ?_
          refine s_iload dX0_surely_172 2 rfl (by decide) ?_
          refine s_iadd dX0_surely_174 ?_
          refine s_if_ne 182 dX0_surely_175 (by decide) (fun c16 => ?_) (fun c16 => ?_)
          · refine s_iconst (1 : Int32) dX0_surely_182 (by decide) ?_
            exact s_iret dX0_surely_183 rfl rfl
          · refine s_iconst (0 : Int32) dX0_surely_178 (by decide) ?_
            refine s_goto 183 dX0_surely_179 (by decide) ?_
            exact s_iret dX0_surely_183 rfl rfl
        · refine s_bipush (-2 : Int32) dX0_surely_165 (by decide) ?_
          refine s_goto 183 dX0_surely_167 (by decide) ?_
          exact s_iret dX0_surely_183 rfl rfl
      · refine s_iconst (2 : Int32) dX0_surely_154 (by decide) ?_
        refine s_goto 183 dX0_surely_155 (by decide) ?_
        exact s_iret dX0_surely_183 rfl rfl
    · refine s_iconst (0 : Int32) dX0_surely_37 (by decide) ?_
      refine s_aload_n dX0_surely_38 4 rfl ?_
      refine s_getV (j := 4) dX0_surely_39 hk12 (by decide) q593 ?_
      refine s_iload_n dX0_surely_42 5 rfl ?_
      refine s_isub dX0_surely_43 ?_
      refine s_mmax dX0_surely_44 (by decide) q984 q474 q116 q475 (Nat.le_of_ble_eq_true rfl) ?_
      refine s_istore [(9, .int (if (0 : Int32) < ((h.I y8 4) - y9) then ((h.I y8 4) - y9) else (0 : Int32))), (8, .int x4), (7, .int x5), (6, .int x6), (5, .int x7), (1, .ref y8), (2, .int y9), (3, va_rf y10), (4, va_rf y11)] dX0_surely_47 (by decide) (by decide) rfl ?_
      refine sX0_surely_L49 G n K hK x4 y8 y9 y10 y11 n (if (0 : Int32) < ((h.I y8 4) - y9) then ((h.I y8 4) - y9) else (0 : Int32)) x5 x6 x7 h _ ?_
      intro x47 x48 x49 h50
      refine s_iinc (1 : Int32) [(8, .int (x4 + (1 : Int32))), (7, .int x47), (6, .int x48), (5, .int x49), (1, .ref y8), (2, .int y9), (3, va_rf y10), (4, va_rf y11)] dX0_surely_141 0 rfl (by decide) (by decide) (by decide) rfl ?_
      refine s_goto 21 dX0_surely_144 (by decide) ?_
      exact ih (x4 + (1 : Int32)) x47 x48 x49 h50
theorem kX0_surely (G : Gl) (n : Nat) (K : Nat → Nat) (hK : K = G.ad) (p0 : Nat) (p1 : Option Nat) (p2 : Int32) (p3 : Option Nat) (p4 : Option Nat) (h : AH) : OkM G yX0_surely cX0_surely 11 (some .int) 3 cvI [.ref p0, va_rf p1, .int p2, va_rf p3, va_rf p4] h (F_X0_surely n K p0 p1 p2 p3 p4 h) := by
  refine ok_of_sim [(0, .ref p0), (1, va_rf p1), (2, .int p2), (3, va_rf p3), (4, va_rf p4)] (by decide +kernel) (fun r => ⟨_, rfl⟩) (by simp [uns, lv_args, lg_sl, catI, catL, catA, va_rfc]) (by simp [uns, lv_args, lg_sl, catI, catL, catA, va_rfc]) (by simp [uns, lv_args, lg_sl, catI, catL, catA, va_rfc]) ?_
  unfold F_X0_surely
  refine s_iconst (0 : Int32) dX0_surely_0 (by decide) ?_
  refine s_istore [(5, .int (0 : Int32)), (0, .ref p0), (1, va_rf p1), (2, .int p2), (3, va_rf p3), (4, va_rf p4)] dX0_surely_1 (by decide) (by decide) rfl ?_
  refine s_iconst (0 : Int32) dX0_surely_3 (by decide) ?_
  refine s_istore [(6, .int (0 : Int32)), (5, .int (0 : Int32)), (0, .ref p0), (1, va_rf p1), (2, .int p2), (3, va_rf p3), (4, va_rf p4)] dX0_surely_4 (by decide) (by decide) rfl ?_
  refine s_iconst (0 : Int32) dX0_surely_6 (by decide) ?_
  refine s_istore [(7, .int (0 : Int32)), (6, .int (0 : Int32)), (5, .int (0 : Int32)), (0, .ref p0), (1, va_rf p1), (2, .int p2), (3, va_rf p3), (4, va_rf p4)] dX0_surely_7 (by decide) (by decide) rfl ?_
  refine s_iconst (0 : Int32) dX0_surely_9 (by decide) ?_
  refine s_oload_n dX0_surely_10 4 rfl ?_
  refine s_ob (r := p1) (fun z => [(7, .int (0 : Int32)), (6, .int (0 : Int32)), (5, .int (0 : Int32)), (0, .ref p0), (1, z), (2, .int p2), (3, va_rf p3), (4, va_rf p4)]) (fun z => [z, .int (0 : Int32)]) (fun a1 => ?_)
  refine s_chk (fun hk2 => ?_)
  refine s_getV (j := 3) dX0_surely_11 hk2 (by decide) q591 ?_
  refine s_iload_n dX0_surely_14 5 rfl ?_
  refine s_isub dX0_surely_15 ?_
  refine s_mmax dX0_surely_16 (by decide) q984 q474 q116 q475 (Nat.le_of_ble_eq_true rfl) ?_
  refine s_istore [(8, .int (if (0 : Int32) < ((h.I a1 3) - p2) then ((h.I a1 3) - p2) else (0 : Int32))), (7, .int (0 : Int32)), (6, .int (0 : Int32)), (5, .int (0 : Int32)), (0, .ref p0), (1, .ref a1), (2, .int p2), (3, va_rf p3), (4, va_rf p4)] dX0_surely_19 (by decide) (by decide) rfl ?_
  refine s_sub [0, 1, 2, 3, 5, 6, 7, 8] rfl ?_
  exact sX0_surely_L21 G n K hK a1 p2 p3 p4 n (if (0 : Int32) < ((h.I a1 3) - p2) then ((h.I a1 3) - p2) else (0 : Int32)) (0 : Int32) (0 : Int32) (0 : Int32) h
