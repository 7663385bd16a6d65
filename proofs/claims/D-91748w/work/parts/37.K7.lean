set_option maxRecDepth 100000
theorem hyX0_rest : yX0_rest.cls ≠ "java/lang/invoke/MethodHandle" ∧ yX0_rest.cls ≠ "java/lang/invoke/VarHandle" ∧ (parseMethodDescriptor yX0_rest.desc).map (fun d => d.parameters.length) = some 0 := by decide +kernel
theorem sX0_rest_L17 (G : Gl) (n : Nat) (K : Nat → Nat) (hK : K = G.ad) (y12 : Int32) (y13 : Int32) (y14 : Nat) (h : AH) : ∀ (f : Nat) (x10 : Int32) (x11 : Int32) (k : Int32 → Option (Int32 × AH)) (hk : ∀ (x11 : Int32), Sim G yX0_rest.cls yX0_rest.name cX0_rest 5 (some .int) 8 cvI 51 [(3, .int x11), (2, .int y12), (1, .int y13), (0, .ref y14)] [] h (k x11)), Sim G yX0_rest.cls yX0_rest.name cX0_rest 5 (some .int) 8 cvI 17 [(4, .int x10), (3, .int x11), (2, .int y12), (1, .int y13), (0, .ref y14)] [] h (F_X0_rest_L17 n K y12 y13 y14 h f x10 x11 k) := by
  intro f
  induction f with
  | zero =>
    intro x10 x11 k hk
    exact s_none
  | succ f ih =>
    intro x10 x11 k hk
    unfold F_X0_rest_L17
    refine s_iload dX0_rest_17 0 rfl (by decide) ?_
    refine s_iload_n dX0_rest_19 3 rfl ?_
    refine s_icmp_ge 51 dX0_rest_20 (by decide) (fun c15 => ?_) (fun c15 => ?_)
    · refine s_sub [1, 2, 3, 4] rfl ?_
      exact hk x11
    · refine s_iload_n dX0_rest_23 1 rfl ?_
      refine s_if_eq 43 dX0_rest_24 (by decide) (fun c16 => ?_) (fun c16 => ?_)
      · refine s_iconst (0 : Int32) dX0_rest_43 (by decide) ?_
        refine s_istore_n [(3, .int (0 : Int32)), (4, .int x10), (2, .int y12), (1, .int y13), (0, .ref y14)] dX0_rest_44 (by decide) (by decide) rfl ?_
        refine s_iinc (1 : Int32) [(4, .int (x10 + (1 : Int32))), (3, .int (0 : Int32)), (2, .int y12), (1, .int y13), (0, .ref y14)] dX0_rest_45 1 rfl (by decide) (by decide) (by decide) rfl ?_
        refine s_goto 17 dX0_rest_48 (by decide) ?_
        exact ih (x10 + (1 : Int32)) (0 : Int32) k hk
      · refine s_aload_n dX0_rest_27 4 rfl ?_
        refine s_chk (fun hk17 => ?_)
        refine s_get (j := 26) 0 (va_rf (h.R y14 26)) dX0_rest_28 hk17 rfl (by decide) q259 (Or.inl rfl) rfl ?_
        refine s_iload dX0_rest_31 0 rfl (by decide) ?_
        refine s_ob (r := h.R y14 26) (fun z => [(4, .int x10), (3, .int x11), (2, .int y12), (1, .int y13), (0, .ref y14)]) (fun z => [.int x10, z]) (fun a18 => ?_)
        refine s_chk (fun hk19 => ?_)
        refine s_chk (fun hi20 => ?_)
        refine s_aald dX0_rest_33 hk19 rfl rfl rfl hi20 ?_
        refine s_iload_n dX0_rest_34 2 rfl ?_
        refine s_ob (r := h.R a18 (ix x10)) (fun z => [(4, .int x10), (3, .int x11), (2, .int y12), (1, .int y13), (0, .ref y14)]) (fun z => [.int y12, z]) (fun a21 => ?_)
        refine s_chk (fun hk22 => ?_)
        refine s_chk (fun hi23 => ?_)
        refine s_iald dX0_rest_35 hk22 rfl hi23 ?_
        refine s_if_gt 43 dX0_rest_36 (by decide) (fun c24 => ?_) (fun c24 => ?_)
        · refine s_iconst (0 : Int32) dX0_rest_43 (by decide) ?_
          refine s_istore_n [(3, .int (0 : Int32)), (4, .int x10), (2, .int y12), (1, .int y13), (0, .ref y14)] dX0_rest_44 (by decide) (by decide) rfl ?_
          refine s_iinc (1 : Int32) [(4, .int (x10 + (1 : Int32))), (3, .int (0 : Int32)), (2, .int y12), (1, .int y13), (0, .ref y14)] dX0_rest_45 1 rfl (by decide) (by decide) (by decide) rfl ?_
          refine s_goto 17 dX0_rest_48 (by decide) ?_
          exact ih (x10 + (1 : Int32)) (0 : Int32) k hk
        · refine s_iconst (1 : Int32) dX0_rest_39 (by decide) ?_
          refine s_goto 44 dX0_rest_40 (by decide) ?_
          refine s_istore_n [(3, .int (1 : Int32)), (4, .int x10), (2, .int y12), (1, .int y13), (0, .ref y14)] dX0_rest_44 (by decide) (by decide) rfl ?_
          refine s_iinc (1 : Int32) [(4, .int (x10 + (1 : Int32))), (3, .int (1 : Int32)), (2, .int y12), (1, .int y13), (0, .ref y14)] dX0_rest_45 1 rfl (by decide) (by decide) (by decide) rfl ?_
          refine s_goto 17 dX0_rest_48 (by decide) ?_
          exact ih (x10 + (1 : Int32)) (1 : Int32) k hk
theorem sX0_rest_L7 (G : Gl) (n : Nat) (K : Nat → Nat) (hK : K = G.ad) (y6 : Int32) (y7 : Nat) (h : AH) : ∀ (f : Nat) (x5 : Int32), Sim G yX0_rest.cls yX0_rest.name cX0_rest 5 (some .int) 8 cvI 7 [(2, .int x5), (1, .int y6), (0, .ref y7)] [] h (F_X0_rest_L7 n K y6 y7 h f x5) := by
  intro f
  induction f with
  | zero =>
    intro x5
    exact s_none
  | succ f ih =>
    intro x5
    unfold F_X0_rest_L7
    refine s_iload_n dX0_rest_7 0 rfl ?_
    refine s_iload_n dX0_rest_8 1 rfl ?_
    refine s_icmp_ge 63 dX0_rest_9 (by decide) (fun c8 => ?_) (fun c8 => ?_)
    · refine s_iconst (-1 : Int32) dX0_rest_63 (by decide) ?_
      exact s_iret dX0_rest_64 rfl rfl
    · refine s_iconst (1 : Int32) dX0_rest_12 (by decide) ?_
      refine s_istore_n [(3, .int (1 : Int32)), (2, .int x5), (1, .int y6), (0, .ref y7)] dX0_rest_13 (by decide) (by decide) rfl ?_
      refine s_iconst (0 : Int32) dX0_rest_14 (by decide) ?_
      refine s_istore [(4, .int (0 : Int32)), (3, .int (1 : Int32)), (2, .int x5), (1, .int y6), (0, .ref y7)] dX0_rest_15 (by decide) (by decide) rfl ?_
      refine sX0_rest_L17 G n K hK x5 y6 y7 h n (0 : Int32) (1 : Int32) _ ?_
      intro x25
      refine s_iload_n dX0_rest_51 0 rfl ?_
      refine s_if_eq 57 dX0_rest_52 (by decide) (fun c26 => ?_) (fun c26 => ?_)
      · refine s_iinc (1 : Int32) [(2, .int (x5 + (1 : Int32))), (3, .int x25), (1, .int y6), (0, .ref y7)] dX0_rest_57 1 rfl (by decide) (by decide) (by decide) rfl ?_
        refine s_goto 7 dX0_rest_60 (by decide) ?_
        refine s_sub [0, 2, 3] rfl ?_
        exact ih (x5 + (1 : Int32))
      · refine s_iload_n dX0_rest_55 1 rfl ?_
        exact s_iret dX0_rest_56 rfl rfl
theorem kX0_rest (G : Gl) (n : Nat) (K : Nat → Nat) (hK : K = G.ad) (p0 : Nat) (h : AH) : OkM G yX0_rest cX0_rest 5 (some .int) 8 cvI [.ref p0] h (F_X0_rest n K p0 h) := by
  refine ok_of_sim [(0, .ref p0)] (by decide +kernel) (fun r => ⟨_, rfl⟩) (by simp [uns, lv_args, lg_sl, catI, catL, catA, va_rfc]) (by simp [uns, lv_args, lg_sl, catI, catL, catA, va_rfc]) (by simp [uns, lv_args, lg_sl, catI, catL, catA, va_rfc]) ?_
  unfold F_X0_rest
  refine s_aload_n dX0_rest_0 0 rfl ?_
  refine s_chk (fun hk3 => ?_)
  refine s_callV_I 0 (kX0_gains G n K hK p0 h) (by decide) (by decide) dX0_rest_1 hk3 rfl rfl q1068 q1070 qs38 q103 q1071 hyX0_gains rfl rfl (Nat.le_of_ble_eq_true rfl) (fun r1 h2 => ?_)
  refine s_istore_n [(1, .int r1), (0, .ref p0)] dX0_rest_4 (by decide) (by decide) rfl ?_
  refine s_iconst (0 : Int32) dX0_rest_5 (by decide) ?_
  refine s_istore_n [(2, .int (0 : Int32)), (1, .int r1), (0, .ref p0)] dX0_rest_6 (by decide) (by decide) rfl ?_
  exact sX0_rest_L7 G n K hK r1 p0 h2 n (0 : Int32)
theorem hyJ15_bitCount : yJ15_bitCount.cls ≠ "java/lang/invoke/MethodHandle" ∧ yJ15_bitCount.cls ≠ "java/lang/invoke/VarHandle" ∧ (parseMethodDescriptor yJ15_bitCount.desc).map (fun d => d.parameters.length) = some 1 := by decide +kernel
theorem kJ15_bitCount (G : Gl) (n : Nat) (K : Nat → Nat) (hK : K = G.ad) (p0 : Int32) (h : AH) : OkM G yJ15_bitCount cJ15_bitCount 1 (some .int) 1 cvI [.int p0] h (F_J15_bitCount n K p0 h) := by
  refine ok_of_sim [(0, .int p0)] (by decide +kernel) (fun r => ⟨_, rfl⟩) (by simp [uns, lv_args, lg_sl, catI, catL, catA, va_rfc]) (by simp [uns, lv_args, lg_sl, catI, catL, catA, va_rfc]) (by simp [uns, lv_args, lg_sl, catI, catL, catA, va_rfc]) ?_
  unfold F_J15_bitCount
  refine s_iload_n dJ15_bitCount_0 0 rfl ?_
  refine s_iload_n dJ15_bitCount_1 0 rfl ?_
  refine s_iconst (1 : Int32) dJ15_bitCount_2 (by decide) ?_
  refine s_iushr dJ15_bitCount_3 ?_
  refine s_ldcw (v := (1431655765 : Int32)) dJ15_bitCount_4 q1084 ?_
  refine s_iand dJ15_bitCount_7 ?_
  refine s_isub dJ15_bitCount_8 ?_
  refine s_istore_n [(0, .int (p0 - (((p0.toUInt32 >>> ((1 : Int32).toUInt32 &&& Int32.toUInt32 31)).toInt32) &&& (1431655765 : Int32))))] dJ15_bitCount_9 (by decide) (by decide) rfl ?_
  refine s_iload_n dJ15_bitCount_10 0 rfl ?_
  refine s_ldcw (v := (858993459 : Int32)) dJ15_bitCount_11 q1085 ?_
  refine s_iand dJ15_bitCount_14 ?_
  refine s_iload_n dJ15_bitCount_15 0 rfl ?_
  refine s_iconst (2 : Int32) dJ15_bitCount_16 (by decide) ?_
  refine s_iushr dJ15_bitCount_17 ?_
  refine s_ldcw (v := (858993459 : Int32)) dJ15_bitCount_18 q1085 ?_
  refine s_iand dJ15_bitCount_21 ?_
  refine s_iadd dJ15_bitCount_22 ?_
  refine s_istore_n [(0, .int (((p0 - (((p0.toUInt32 >>> ((1 : Int32).toUInt32 &&& Int32.toUInt32 31)).toInt32) &&& (1431655765 : Int32))) &&& (858993459 : Int32)) + ((((p0 - (((p0.toUInt32 >>> ((1 : Int32).toUInt32 &&& Int32.toUInt32 31)).toInt32) &&& (1431655765 : Int32))).toUInt32 >>> ((2 : Int32).toUInt32 &&& Int32.toUInt32 31)).toInt32) &&& (858993459 : Int32))))] dJ15_bitCount_23 (by decide) (by decide) rfl ?_
  refine s_iload_n dJ15_bitCount_24 0 rfl ?_
  refine s_iload_n dJ15_bitCount_25 0 rfl ?_
  refine s_iconst (4 : Int32) dJ15_bitCount_26 (by decide) ?_
  refine s_iushr dJ15_bitCount_27 ?_
  refine s_iadd dJ15_bitCount_28 ?_
  refine s_ldcw (v := (252645135 : Int32)) dJ15_bitCount_29 q1086 ?_
  refine s_iand dJ15_bitCount_32 ?_
  refine s_istore_n [(0, .int (((((p0 - (((p0.toUInt32 >>> ((1 : Int32).toUInt32 &&& Int32.toUInt32 31)).toInt32) &&& (1431655765 : Int32))) &&& (858993459 : Int32)) + ((((p0 - (((p0.toUInt32 >>> ((1 : Int32).toUInt32 &&& Int32.toUInt32 31)).toInt32) &&& (1431655765 : Int32))).toUInt32 >>> ((2 : Int32).toUInt32 &&& Int32.toUInt32 31)).toInt32) &&& (858993459 : Int32))) + (((((p0 - (((p0.toUInt32 >>> ((1 : Int32).toUInt32 &&& Int32.toUInt32 31)).toInt32) &&& (1431655765 : Int32))) &&& (858993459 : Int32)) + ((((p0 - (((p0.toUInt32 >>> ((1 : Int32).toUInt32 &&& Int32.toUInt32 31)).toInt32) &&& (1431655765 : Int32))).toUInt32 >>> ((2 : Int32).toUInt32 &&& Int32.toUInt32 31)).toInt32) &&& (858993459 : Int32))).toUInt32 >>> ((4 : Int32).toUInt32 &&& Int32.toUInt32 31)).toInt32)) &&& (252645135 : Int32)))] dJ15_bitCount_33 (by decide) (by decide) rfl ?_
  refine s_iload_n dJ15_bitCount_34 0 rfl ?_
  refine s_iload_n dJ15_bitCount_35 0 rfl ?_
  refine s_bipush (8 : Int32) dJ15_bitCount_36 (by decide) ?_
  refine s_iushr dJ15_bitCount_38 ?_
  refine s_iadd dJ15_bitCount_39 ?_
  refine s_istore_n [(0, .int ((((((p0 - (((p0.toUInt32 >>> ((1 : Int32).toUInt32 &&& Int32.toUInt32 31)).toInt32) &&& (1431655765 : Int32))) &&& (858993459 : Int32)) + ((((p0 - (((p0.toUInt32 >>> ((1 : Int32).toUInt32 &&& Int32.toUInt32 31)).toInt32) &&& (1431655765 : Int32))).toUInt32 >>> ((2 : Int32).toUInt32 &&& Int32.toUInt32 31)).toInt32) &&& (858993459 : Int32))) + (((((p0 - (((p0.toUInt32 >>> ((1 : Int32).toUInt32 &&& Int32.toUInt32 31)).toInt32) &&& (1431655765 : Int32))) &&& (858993459 : Int32)) + ((((p0 - (((p0.toUInt32 >>> ((1 : Int32).toUInt32 &&& Int32.toUInt32 31)).toInt32) &&& (1431655765 : Int32))).toUInt32 >>> ((2 : Int32).toUInt32 &&& Int32.toUInt32 31)).toInt32) &&& (858993459 : Int32))).toUInt32 >>> ((4 : Int32).toUInt32 &&& Int32.toUInt32 31)).toInt32)) &&& (252645135 : Int32)) + (((((((p0 - (((p0.toUInt32 >>> ((1 : Int32).toUInt32 &&& Int32.toUInt32 31)).toInt32) &&& (1431655765 : Int32))) &&& (858993459 : Int32)) + ((((p0 - (((p0.toUInt32 >>> ((1 : Int32).toUInt32 &&& Int32.toUInt32 31)).toInt32) &&& (1431655765 : Int32))).toUInt32 >>> ((2 : Int32).toUInt32 &&& Int32.toUInt32 31)).toInt32) &&& (858993459 : Int32))) + (((((p0 - (((p0.toUInt32 >>> ((1 : Int32).toUInt32 &&& Int32.toUInt32 31)).toInt32) &&& (1431655765 : Int32))) &&& (858993459 : Int32)) + ((((p0 - (((p0.toUInt32 >>> ((1 : Int32).toUInt32 &&& Int32.toUInt32 31)).toInt32) &&& (1431655765 : Int32))).toUInt32 >>> ((2 : Int32).toUInt32 &&& Int32.toUInt32 31)).toInt32) &&& (858993459 : Int32))).toUInt32 >>> ((4 : Int32).toUInt32 &&& Int32.toUInt32 31)).toInt32)) &&& (252645135 : Int32)).toUInt32 >>> ((8 : Int32).toUInt32 &&& Int32.toUInt32 31)).toInt32)))] dJ15_bitCount_40 (by decide) (by decide) rfl ?_
  refine s_iload_n dJ15_bitCount_41 0 rfl ?_
  refine s_iload_n dJ15_bitCount_42 0 rfl ?_
  refine s_bipush (16 : Int32) dJ15_bitCount_43 (by decide) ?_
  refine s_iushr dJ15_bitCount_45 ?_
  refine s_iadd dJ15_bitCount_46 ?_
  refine s_istore_n [(0, .int (((((((p0 - (((p0.toUInt32 >>> ((1 : Int32).toUInt32 &&& Int32.toUInt32 31)).toInt32) &&& (1431655765 : Int32))) &&& (858993459 : Int32)) + ((((p0 - (((p0.toUInt32 >>> ((1 : Int32).toUInt32 &&& Int32.toUInt32 31)).toInt32) &&& (1431655765 : Int32))).toUInt32 >>> ((2 : Int32).toUInt32 &&& Int32.toUInt32 31)).toInt32) &&& (858993459 : Int32))) + (((((p0 - (((p0.toUInt32 >>> ((1 : Int32).toUInt32 &&& Int32.toUInt32 31)).toInt32) &&& (1431655765 : Int32))) &&& (858993459 : Int32)) + ((((p0 - (((p0.toUInt32 >>> ((1 : Int32).toUInt32 &&& Int32.toUInt32 31)).toInt32) &&& (1431655765 : Int32))).toUInt32 >>> ((2 : Int32).toUInt32 &&& Int32.toUInt32 31)).toInt32) &&& (858993459 : Int32))).toUInt32 >>> ((4 : Int32).toUInt32 &&& Int32.toUInt32 31)).toInt32)) &&& (252645135 : Int32)) + (((((((p0 - (((p0.toUInt32 >>> ((1 : Int32).toUInt32 &&& Int32.toUInt32 31)).toInt32) &&& (1431655765 : Int32))) &&& (858993459 : Int32)) + ((((p0 - (((p0.toUInt32 >>> ((1 : Int32).toUInt32 &&& Int32.toUInt32 31)).toInt32) &&& (1431655765 : Int32))).toUInt32 >>> ((2 : Int32).toUInt32 &&& Int32.toUInt32 31)).toInt32) &&& (858993459 : Int32))) + (((((p0 - (((p0.toUInt32 >>> ((1 : Int32).toUInt32 &&& Int32.toUInt32 31)).toInt32) &&& (1431655765 : Int32))) &&& (858993459 : Int32)) + ((((p0 - (((p0.toUInt32 >>> ((1 : Int32).toUInt32 &&& Int32.toUInt32 31)).toInt32) &&& (1431655765 : Int32))).toUInt32 >>> ((2 : Int32).toUInt32 &&& Int32.toUInt32 31)).toInt32) &&& (858993459 : Int32))).toUInt32 >>> ((4 : Int32).toUInt32 &&& Int32.toUInt32 31)).toInt32)) &&& (252645135 : Int32)).toUInt32 >>> ((8 : Int32).toUInt32 &&& Int32.toUInt32 31)).toInt32)) + ((((((((p0 - (((p0.toUInt32 >>> ((1 : Int32).toUInt32 &&& Int32.toUInt32 31)).toInt32) &&& (1431655765 : Int32))) &&& (858993459 : Int32)) + ((((p0 - (((p0.toUInt32 >>> ((1 : Int32).toUInt32 &&& Int32.toUInt32 31)).toInt32) &&& (1431655765 : Int32))).toUInt32 >>> ((2 : Int32).toUInt32 &&& Int32.toUInt32 31)).toInt32) &&& (858993459 : Int32))) + (((((p0 - (((p0.toUInt32 >>> ((1 : Int32).toUInt32 &&& Int32.toUInt32 31)).toInt32) &&& (1431655765 : Int32))) &&& (858993459 : Int32)) + ((((p0 - (((p0.toUInt32 >>> ((1 : Int32).toUInt32 &&& Int32.toUInt32 31)).toInt32) &&& (1431655765 : Int32))).toUInt32 >>> ((2 : Int32).toUInt32 &&& Int32.toUInt32 31)).toInt32) &&& (858993459 : Int32))).toUInt32 >>> ((4 : Int32).toUInt32 &&& Int32.toUInt32 31)).toInt32)) &&& (252645135 : Int32)) + (((((((p0 - (((p0.toUInt32 >>> ((1 : Int32).toUInt32 &&& Int32.toUInt32 31)).toInt32) &&& (1431655765 : Int32))) &&& (858993459 : Int32)) + ((((p0 - (((p0.toUInt32 >>> ((1 : Int32).toUInt32 &&& Int32.toUInt32 31)).toInt32) &&& (1431655765 : Int32))).toUInt32 >>> ((2 : Int32).toUInt32 &&& Int32.toUInt32 31)).toInt32) &&& (858993459 : Int32))) + (((((p0 - (((p0.toUInt32 >>> ((1 : Int32).toUInt32 &&& Int32.toUInt32 31)).toInt32) &&& (1431655765 : Int32))) &&& (858993459 : Int32)) + ((((p0 - (((p0.toUInt32 >>> ((1 : Int32).toUInt32 &&& Int32.toUInt32 31)).toInt32) &&& (1431655765 : Int32))).toUInt32 >>> ((2 : Int32).toUInt32 &&& Int32.toUInt32 31)).toInt32) &&& (858993459 : Int32))).toUInt32 >>> ((4 : Int32).toUInt32 &&& Int32.toUInt32 31)).toInt32)) &&& (252645135 : Int32)).toUInt32 >>> ((8 : Int32).toUInt32 &&& Int32.toUInt32 31)).toInt32)).toUInt32 >>> ((16 : Int32).toUInt32 &&& Int32.toUInt32 31)).toInt32)))] dJ15_bitCount_47 (by decide) (by decide) rfl ?_
  refine s_iload_n dJ15_bitCount_48 0 rfl ?_
  refine s_bipush (63 : Int32) dJ15_bitCount_49 (by decide) ?_
  refine s_iand dJ15_bitCount_51 ?_
  exact s_iret dJ15_bitCount_52 rfl rfl
theorem hyJ15_numberOfTrailingZeros : yJ15_numberOfTrailingZeros.cls ≠ "java/lang/invoke/MethodHandle" ∧ yJ15_numberOfTrailingZeros.cls ≠ "java/lang/invoke/VarHandle" ∧ (parseMethodDescriptor yJ15_numberOfTrailingZeros.desc).map (fun d => d.parameters.length) = some 1 := by decide +kernel
theorem kJ15_numberOfTrailingZeros (G : Gl) (n : Nat) (K : Nat → Nat) (hK : K = G.ad) (p0 : Int32) (h : AH) : OkM G yJ15_numberOfTrailingZeros cJ15_numberOfTrailingZeros 2 (some .int) 1 cvI [.int p0] h (F_J15_numberOfTrailingZeros n K p0 h) := by
  refine ok_of_sim [(0, .int p0)] (by decide +kernel) (fun r => ⟨_, rfl⟩) (by simp [uns, lv_args, lg_sl, catI, catL, catA, va_rfc]) (by simp [uns, lv_args, lg_sl, catI, catL, catA, va_rfc]) (by simp [uns, lv_args, lg_sl, catI, catL, catA, va_rfc]) ?_
  unfold F_J15_numberOfTrailingZeros
  refine s_iload_n dJ15_numberOfTrailingZeros_0 0 rfl ?_
  refine s_iconst (-1 : Int32) dJ15_numberOfTrailingZeros_1 (by decide) ?_
  refine s_ixor dJ15_numberOfTrailingZeros_2 ?_
  refine s_iload_n dJ15_numberOfTrailingZeros_3 0 rfl ?_
  refine s_iconst (1 : Int32) dJ15_numberOfTrailingZeros_4 (by decide) ?_
  refine s_isub dJ15_numberOfTrailingZeros_5 ?_
  refine s_iand dJ15_numberOfTrailingZeros_6 ?_
  refine s_istore_n [(0, .int ((p0 ^^^ (-1 : Int32)) &&& (p0 - (1 : Int32))))] dJ15_numberOfTrailingZeros_7 (by decide) (by decide) rfl ?_
  refine s_iload_n dJ15_numberOfTrailingZeros_8 0 rfl ?_
  refine s_if_gt 17 dJ15_numberOfTrailingZeros_9 (by decide) (fun c1 => ?_) (fun c1 => ?_)
  · refine s_iconst (1 : Int32) dJ15_numberOfTrailingZeros_17 (by decide) ?_
    refine s_istore_n [(1, .int (1 : Int32)), (0, .int ((p0 ^^^ (-1 : Int32)) &&& (p0 - (1 : Int32))))] dJ15_numberOfTrailingZeros_18 (by decide) (by decide) rfl ?_
    refine s_iload_n dJ15_numberOfTrailingZeros_19 1 rfl ?_
    refine s_ldcw (v := (65536 : Int32)) dJ15_numberOfTrailingZeros_20 q1102 ?_
    refine s_jn (fun j4 => ∀ (x2 : Int32) (x3 : Int32), Sim G yJ15_numberOfTrailingZeros.cls yJ15_numberOfTrailingZeros.name cJ15_numberOfTrailingZeros 2 (some .int) 1 cvI 34 [(0, .int x2), (1, .int x3)] [] h (j4 x2 x3)) ?_ (fun j4 hj16 => ?_)
    · intro x2 x3
      refine s_iload_n dJ15_numberOfTrailingZeros_34 0 rfl ?_
      refine s_sipush (256 : Int32) dJ15_numberOfTrailingZeros_35 (by decide) ?_
      refine s_jn (fun j7 => ∀ (x5 : Int32) (x6 : Int32), Sim G yJ15_numberOfTrailingZeros.cls yJ15_numberOfTrailingZeros.name cJ15_numberOfTrailingZeros 2 (some .int) 1 cvI 49 [(0, .int x5), (1, .int x6)] [] h (j7 x5 x6)) ?_ (fun j7 hj14 => ?_)
      · intro x5 x6
        refine s_iload_n dJ15_numberOfTrailingZeros_49 0 rfl ?_
        refine s_bipush (16 : Int32) dJ15_numberOfTrailingZeros_50 (by decide) ?_
        refine s_jn (fun j10 => ∀ (x8 : Int32) (x9 : Int32), Sim G yJ15_numberOfTrailingZeros.cls yJ15_numberOfTrailingZeros.name cJ15_numberOfTrailingZeros 2 (some .int) 1 cvI 62 [(0, .int x8), (1, .int x9)] [] h (j10 x8 x9)) ?_ (fun j10 hj12 => ?_)
        · intro x8 x9
          refine s_iload_n dJ15_numberOfTrailingZeros_62 0 rfl ?_
          refine s_iconst (4 : Int32) dJ15_numberOfTrailingZeros_63 (by decide) ?_
          refine s_icmp_le 74 dJ15_numberOfTrailingZeros_64 (by decide) (fun c11 => ?_) (fun c11 => ?_)
          · refine s_iload_n dJ15_numberOfTrailingZeros_74 1 rfl ?_
            refine s_iload_n dJ15_numberOfTrailingZeros_75 0 rfl ?_
            refine s_iconst (1 : Int32) dJ15_numberOfTrailingZeros_76 (by decide) ?_
            refine s_iushr dJ15_numberOfTrailingZeros_77 ?_
            refine s_iadd dJ15_numberOfTrailingZeros_78 ?_
            exact s_iret dJ15_numberOfTrailingZeros_79 rfl rfl
          · refine s_iinc (2 : Int32) [(1, .int (x9 + (2 : Int32))), (0, .int x8)] dJ15_numberOfTrailingZeros_67 1 rfl (by decide) (by decide) (by decide) rfl ?_
            refine s_iload_n dJ15_numberOfTrailingZeros_70 1 rfl ?_
            refine s_iconst (2 : Int32) dJ15_numberOfTrailingZeros_71 (by decide) ?_
            refine s_iushr dJ15_numberOfTrailingZeros_72 ?_
            refine s_istore_n [(0, .int ((x8.toUInt32 >>> ((2 : Int32).toUInt32 &&& Int32.toUInt32 31)).toInt32)), (1, .int (x9 + (2 : Int32)))] dJ15_numberOfTrailingZeros_73 (by decide) (by decide) rfl ?_
            refine s_iload_n dJ15_numberOfTrailingZeros_74 1 rfl ?_
            refine s_iload_n dJ15_numberOfTrailingZeros_75 0 rfl ?_
            refine s_iconst (1 : Int32) dJ15_numberOfTrailingZeros_76 (by decide) ?_
            refine s_iushr dJ15_numberOfTrailingZeros_77 ?_
            refine s_iadd dJ15_numberOfTrailingZeros_78 ?_
            exact s_iret dJ15_numberOfTrailingZeros_79 rfl rfl
        refine s_icmp_le 62 dJ15_numberOfTrailingZeros_52 (by decide) (fun c13 => ?_) (fun c13 => ?_)
        · exact hj12 x5 x6
        · refine s_iinc (4 : Int32) [(1, .int (x6 + (4 : Int32))), (0, .int x5)] dJ15_numberOfTrailingZeros_55 1 rfl (by decide) (by decide) (by decide) rfl ?_
          refine s_iload_n dJ15_numberOfTrailingZeros_58 1 rfl ?_
          refine s_iconst (4 : Int32) dJ15_numberOfTrailingZeros_59 (by decide) ?_
          refine s_iushr dJ15_numberOfTrailingZeros_60 ?_
          refine s_istore_n [(0, .int ((x5.toUInt32 >>> ((4 : Int32).toUInt32 &&& Int32.toUInt32 31)).toInt32)), (1, .int (x6 + (4 : Int32)))] dJ15_numberOfTrailingZeros_61 (by decide) (by decide) rfl ?_
          exact hj12 ((x5.toUInt32 >>> ((4 : Int32).toUInt32 &&& Int32.toUInt32 31)).toInt32) (x6 + (4 : Int32))
      refine s_icmp_le 49 dJ15_numberOfTrailingZeros_38 (by decide) (fun c15 => ?_) (fun c15 => ?_)
      · exact hj14 x2 x3
      · refine s_iinc (8 : Int32) [(1, .int (x3 + (8 : Int32))), (0, .int x2)] dJ15_numberOfTrailingZeros_41 1 rfl (by decide) (by decide) (by decide) rfl ?_
        refine s_iload_n dJ15_numberOfTrailingZeros_44 1 rfl ?_
        refine s_bipush (8 : Int32) dJ15_numberOfTrailingZeros_45 (by decide) ?_
        refine s_iushr dJ15_numberOfTrailingZeros_47 ?_
        refine s_istore_n [(0, .int ((x2.toUInt32 >>> ((8 : Int32).toUInt32 &&& Int32.toUInt32 31)).toInt32)), (1, .int (x3 + (8 : Int32)))] dJ15_numberOfTrailingZeros_48 (by decide) (by decide) rfl ?_
        exact hj14 ((x2.toUInt32 >>> ((8 : Int32).toUInt32 &&& Int32.toUInt32 31)).toInt32) (x3 + (8 : Int32))
    refine s_icmp_le 34 dJ15_numberOfTrailingZeros_23 (by decide) (fun c17 => ?_) (fun c17 => ?_)
    · refine s_sub [1, 0] rfl ?_
      exact hj16 ((p0 ^^^ (-1 : Int32)) &&& (p0 - (1 : Int32))) (1 : Int32)
    · refine s_iinc (16 : Int32) [(1, .int ((1 : Int32) + (16 : Int32))), (0, .int ((p0 ^^^ (-1 : Int32)) &&& (p0 - (1 : Int32))))] dJ15_numberOfTrailingZeros_26 0 rfl (by decide) (by decide) (by decide) rfl ?_
      refine s_iload_n dJ15_numberOfTrailingZeros_29 1 rfl ?_
      refine s_bipush (16 : Int32) dJ15_numberOfTrailingZeros_30 (by decide) ?_
      refine s_iushr dJ15_numberOfTrailingZeros_32 ?_
      refine s_istore_n [(0, .int ((((p0 ^^^ (-1 : Int32)) &&& (p0 - (1 : Int32))).toUInt32 >>> ((16 : Int32).toUInt32 &&& Int32.toUInt32 31)).toInt32)), (1, .int ((1 : Int32) + (16 : Int32)))] dJ15_numberOfTrailingZeros_33 (by decide) (by decide) rfl ?_
      exact hj16 ((((p0 ^^^ (-1 : Int32)) &&& (p0 - (1 : Int32))).toUInt32 >>> ((16 : Int32).toUInt32 &&& Int32.toUInt32 31)).toInt32) ((1 : Int32) + (16 : Int32))
  · refine s_iload_n dJ15_numberOfTrailingZeros_12 0 rfl ?_
    refine s_bipush (32 : Int32) dJ15_numberOfTrailingZeros_13 (by decide) ?_
    refine s_iand dJ15_numberOfTrailingZeros_15 ?_
    exact s_iret dJ15_numberOfTrailingZeros_16 rfl rfl
theorem hyX0_pairs : yX0_pairs.cls ≠ "java/lang/invoke/MethodHandle" ∧ yX0_pairs.cls ≠ "java/lang/invoke/VarHandle" ∧ (parseMethodDescriptor yX0_pairs.desc).map (fun d => d.parameters.length) = some 1 := by decide +kernel
theorem sX0_pairs_L28 (G : Gl) (n : Nat) (K : Nat → Nat) (hK : K = G.ad) (dd : Nat) (rec : Nat → Int32 → AH → Option (Int64 × AH)) (hrec : ∀ (p0 : Nat) (p1 : Int32) (h : AH), OkM G yX0_pairs cX0_pairs 9 (some .long) (dd + 4) cvL [.ref p0, .int p1] h (rec p0 p1 h)) (y8 : Int32) (y9 : Int32) (y10 : Nat) : ∀ (f : Nat) (x5 : Int32) (x6 : Int64) (x7 : Int64) (h : AH), Sim G yX0_pairs.cls yX0_pairs.name cX0_pairs 9 (some .long) (dd + 5) cvL 28 [(8, .int x5), (1006, .long x6), (1004, .long x7), (3, .int y8), (2, .int y9), (0, .ref y10)] [] h (F_X0_pairs_L28 n K rec y8 y9 y10 f x5 x6 x7 h) := by
  intro f
  induction f with
  | zero =>
    intro x5 x6 x7 h
    exact s_none
  | succ f ih =>
    intro x5 x6 x7 h
    unfold F_X0_pairs_L28
    refine s_iload dX0_pairs_28 0 rfl (by decide) ?_
    refine s_bipush (8 : Int32) dX0_pairs_30 (by decide) ?_
    refine s_icmp_ge 101 dX0_pairs_32 (by decide) (fun c11 => ?_) (fun c11 => ?_)
    · refine s_lload dX0_pairs_101 2 rfl ?_
      exact s_lret dX0_pairs_103 rfl rfl
    · refine s_iload_n dX0_pairs_35 3 rfl ?_
      refine s_iload dX0_pairs_36 0 rfl (by decide) ?_
      refine s_ishr dX0_pairs_38 ?_
      refine s_iconst (1 : Int32) dX0_pairs_39 (by decide) ?_
      refine s_iand dX0_pairs_40 ?_
      refine s_if_ne 47 dX0_pairs_41 (by decide) (fun c12 => ?_) (fun c12 => ?_)
      · refine s_aload_n dX0_pairs_47 5 rfl ?_
        refine s_chk (fun hk13 => ?_)
        refine s_get (j := 26) 0 (va_rf (h.R y10 26)) dX0_pairs_48 hk13 rfl (by decide) q259 (Or.inl rfl) rfl ?_
        refine s_iload_n dX0_pairs_51 4 rfl ?_
        refine s_ob (r := h.R y10 26) (fun z => [(8, .int x5), (1006, .long x6), (1004, .long x7), (3, .int y8), (2, .int y9), (0, .ref y10)]) (fun z => [.int y9, z]) (fun a14 => ?_)
        refine s_chk (fun hk15 => ?_)
        refine s_chk (fun hi16 => ?_)
        refine s_aald dX0_pairs_52 hk15 rfl rfl rfl hi16 ?_
        refine s_iload dX0_pairs_53 0 rfl (by decide) ?_
        refine s_ob (r := h.R a14 (ix y9)) (fun z => [(8, .int x5), (1006, .long x6), (1004, .long x7), (3, .int y8), (2, .int y9), (0, .ref y10)]) (fun z => [.int x5, z]) (fun a17 => ?_)
        refine s_chk (fun hk18 => ?_)
        refine s_chk (fun hi19 => ?_)
        refine s_iald dX0_pairs_55 hk18 rfl hi19 ?_
        refine s_if_eq 90 dX0_pairs_56 (by decide) (fun c20 => ?_) (fun c20 => ?_)
        · refine s_lload dX0_pairs_90 1 rfl ?_
          refine s_lneg dX0_pairs_92 ?_
          refine s_lstore [(1006, .long (-x6)), (8, .int x5), (1004, .long x7), (3, .int y8), (2, .int y9), (0, .ref y10)] dX0_pairs_93 (by decide) (by decide) rfl ?_
          refine s_iinc (1 : Int32) [(8, .int (x5 + (1 : Int32))), (1006, .long (-x6)), (1004, .long x7), (3, .int y8), (2, .int y9), (0, .ref y10)] dX0_pairs_95 1 rfl (by decide) (by decide) (by decide) rfl ?_
          refine s_goto 28 dX0_pairs_98 (by decide) ?_
          exact ih (x5 + (1 : Int32)) (-x6) x7 h
        · refine s_lload dX0_pairs_59 2 rfl ?_
          refine s_lload dX0_pairs_61 1 rfl ?_
          refine s_aload_n dX0_pairs_63 5 rfl ?_
          refine s_get (j := 26) 0 (va_rf (h.R y10 26)) dX0_pairs_64 hk13 rfl (by decide) q259 (Or.inl rfl) rfl ?_
          refine s_iload_n dX0_pairs_67 4 rfl ?_
          refine s_ob (r := h.R y10 26) (fun z => [(8, .int x5), (1006, .long x6), (1004, .long x7), (3, .int y8), (2, .int y9), (0, .ref y10)]) (fun z => [.int y9, z, .long x6, .long x7]) (fun a21 => ?_)
          refine s_chk (fun hk22 => ?_)
          refine s_chk (fun hi23 => ?_)
          refine s_aald dX0_pairs_68 hk22 rfl rfl rfl hi23 ?_
          refine s_iload dX0_pairs_69 0 rfl (by decide) ?_
          refine s_ob (r := h.R a21 (ix y9)) (fun z => [(8, .int x5), (1006, .long x6), (1004, .long x7), (3, .int y8), (2, .int y9), (0, .ref y10)]) (fun z => [.int x5, z, .long x6, .long x7]) (fun a24 => ?_)
          refine s_chk (fun hk25 => ?_)
          refine s_chk (fun hi26 => ?_)
          refine s_iald dX0_pairs_71 hk25 rfl hi26 ?_
          refine s_i2l dX0_pairs_72 ?_
          refine s_lmul dX0_pairs_73 ?_
          refine s_aload_n dX0_pairs_74 5 rfl ?_
          refine s_iload_n dX0_pairs_75 3 rfl ?_
          refine s_iconst (1 : Int32) dX0_pairs_76 (by decide) ?_
          refine s_iload dX0_pairs_77 0 rfl (by decide) ?_
          refine s_ishl dX0_pairs_79 ?_
          refine s_iconst (-1 : Int32) dX0_pairs_80 (by decide) ?_
          refine s_ixor dX0_pairs_81 ?_
          refine s_iand dX0_pairs_82 ?_
          refine s_callV_L 0 (hrec y10 (y8 &&& (((1 : Int32) <<< (x5 &&& 31)) ^^^ (-1 : Int32))) h) (by omega) (by decide) dX0_pairs_83 hk13 rfl rfl q1095 q1097 qs42 q103 q1098 hyX0_pairs rfl rfl (Nat.le_of_ble_eq_true rfl) (fun r27 h28 => ?_)
          refine s_lmul dX0_pairs_86 ?_
          refine s_ladd dX0_pairs_87 ?_
          refine s_lstore [(1004, .long (x7 + ((x6 * ((h.I a24 (ix x5)).toInt64)) * r27))), (8, .int x5), (1006, .long x6), (3, .int y8), (2, .int y9), (0, .ref y10)] dX0_pairs_88 (by decide) (by decide) rfl ?_
          refine s_lload dX0_pairs_90 2 rfl ?_
          refine s_lneg dX0_pairs_92 ?_
          refine s_lstore [(1006, .long (-x6)), (1004, .long (x7 + ((x6 * ((h.I a24 (ix x5)).toInt64)) * r27))), (8, .int x5), (3, .int y8), (2, .int y9), (0, .ref y10)] dX0_pairs_93 (by decide) (by decide) rfl ?_
          refine s_iinc (1 : Int32) [(8, .int (x5 + (1 : Int32))), (1006, .long (-x6)), (1004, .long (x7 + ((x6 * ((h.I a24 (ix x5)).toInt64)) * r27))), (3, .int y8), (2, .int y9), (0, .ref y10)] dX0_pairs_95 2 rfl (by decide) (by decide) (by decide) rfl ?_
          refine s_goto 28 dX0_pairs_98 (by decide) ?_
          exact ih (x5 + (1 : Int32)) (-x6) (x7 + ((x6 * ((h.I a24 (ix x5)).toInt64)) * r27)) h28
      · refine s_goto 95 dX0_pairs_44 (by decide) ?_
        refine s_iinc (1 : Int32) [(8, .int (x5 + (1 : Int32))), (1006, .long x6), (1004, .long x7), (3, .int y8), (2, .int y9), (0, .ref y10)] dX0_pairs_95 0 rfl (by decide) (by decide) (by decide) rfl ?_
        refine s_goto 28 dX0_pairs_98 (by decide) ?_
        exact ih (x5 + (1 : Int32)) x6 x7 h
theorem kX0_pairs_B (G : Gl) (n : Nat) (K : Nat → Nat) (hK : K = G.ad) (dd : Nat) (rec : Nat → Int32 → AH → Option (Int64 × AH)) (hrec : ∀ (p0 : Nat) (p1 : Int32) (h : AH), OkM G yX0_pairs cX0_pairs 9 (some .long) (dd + 4) cvL [.ref p0, .int p1] h (rec p0 p1 h)) (p0 : Nat) (p1 : Int32) (h : AH) : OkM G yX0_pairs cX0_pairs 9 (some .long) (dd + 5) cvL [.ref p0, .int p1] h (F_X0_pairs_B n K rec p0 p1 h) := by
  refine ok_of_sim [(0, .ref p0), (1, .int p1)] (by decide +kernel) (fun r => ⟨_, rfl⟩) (by simp [uns, lv_args, lg_sl, catI, catL, catA, va_rfc]) (by simp [uns, lv_args, lg_sl, catI, catL, catA, va_rfc]) (by simp [uns, lv_args, lg_sl, catI, catL, catA, va_rfc]) ?_
  unfold F_X0_pairs_B
  refine s_iload_n dX0_pairs_0 1 rfl ?_
  refine s_if_ne 6 dX0_pairs_1 (by decide) (fun c1 => ?_) (fun c1 => ?_)
  · refine s_iload_n dX0_pairs_6 1 rfl ?_
    refine s_callS_I (kJ15_numberOfTrailingZeros G n K hK p1 h) (by omega) (by decide) dX0_pairs_7 q1099 q1100 q130 q1101 hyJ15_numberOfTrailingZeros rfl rfl (Nat.le_of_ble_eq_true rfl) (fun r2 h3 => ?_)
    refine s_istore_n [(2, .int r2), (0, .ref p0), (1, .int p1)] dX0_pairs_10 (by decide) (by decide) rfl ?_
    refine s_iload_n dX0_pairs_11 2 rfl ?_
    refine s_iload_n dX0_pairs_12 2 rfl ?_
    refine s_iconst (1 : Int32) dX0_pairs_13 (by decide) ?_
    refine s_isub dX0_pairs_14 ?_
    refine s_iand dX0_pairs_15 ?_
    refine s_istore_n [(3, .int (p1 &&& (p1 - (1 : Int32)))), (2, .int r2), (0, .ref p0), (1, .int p1)] dX0_pairs_16 (by decide) (by decide) rfl ?_
    refine s_lconst (0 : Int64) dX0_pairs_17 (by decide) ?_
    refine s_lstore [(1004, .long (0 : Int64)), (3, .int (p1 &&& (p1 - (1 : Int32)))), (2, .int r2), (0, .ref p0), (1, .int p1)] dX0_pairs_18 (by decide) (by decide) rfl ?_
    refine s_lconst (1 : Int64) dX0_pairs_20 (by decide) ?_
    refine s_lstore [(1006, .long (1 : Int64)), (1004, .long (0 : Int64)), (3, .int (p1 &&& (p1 - (1 : Int32)))), (2, .int r2), (0, .ref p0), (1, .int p1)] dX0_pairs_21 (by decide) (by decide) rfl ?_
    refine s_iload_n dX0_pairs_23 3 rfl ?_
    refine s_iconst (1 : Int32) dX0_pairs_24 (by decide) ?_
    refine s_iadd dX0_pairs_25 ?_
    refine s_istore [(8, .int (r2 + (1 : Int32))), (1006, .long (1 : Int64)), (1004, .long (0 : Int64)), (3, .int (p1 &&& (p1 - (1 : Int32)))), (2, .int r2), (0, .ref p0), (1, .int p1)] dX0_pairs_26 (by decide) (by decide) rfl ?_
    refine s_sub [0, 1, 2, 3, 4, 5] rfl ?_
    exact sX0_pairs_L28 G n K hK dd rec hrec (p1 &&& (p1 - (1 : Int32))) r2 p0 n (r2 + (1 : Int32)) (1 : Int64) (0 : Int64) h3
  · refine s_lconst (1 : Int64) dX0_pairs_4 (by decide) ?_
    exact s_lret dX0_pairs_5 rfl rfl
theorem kX0_pairs (G : Gl) (n : Nat) (K : Nat → Nat) (hK : K = G.ad) : ∀ (dd : Nat) (p0 : Nat) (p1 : Int32) (h : AH), OkM G yX0_pairs cX0_pairs 9 (some .long) (dd + 4) cvL [.ref p0, .int p1] h (F_X0_pairs n K dd p0 p1 h) := by
  intro dd
  induction dd with
  | zero =>
    intro p0 p1 h r h' hf
    cases hf
  | succ dd ih =>
    intro p0 p1 h
    exact (show (dd + 5) = (dd + 1 + 4) by omega) ▸ kX0_pairs_B G n K hK dd (F_X0_pairs n K dd) ih p0 p1 h
theorem hyX0_hasShares : yX0_hasShares.cls ≠ "java/lang/invoke/MethodHandle" ∧ yX0_hasShares.cls ≠ "java/lang/invoke/VarHandle" ∧ (parseMethodDescriptor yX0_hasShares.desc).map (fun d => d.parameters.length) = some 1 := by decide +kernel
theorem sX0_hasShares_L14 (G : Gl) (n : Nat) (K : Nat → Nat) (hK : K = G.ad) (y7 : Nat) (y8 : Int32) : ∀ (f : Nat) (x2 : Int32) (x3 : Int32) (x4 : Int32) (x5 : Int64) (x6 : Int64) (h : AH) (k : Int32 → Int32 → Int64 → AH → Option (Int32 × AH)) (hk : ∀ (x3 : Int32) (x4 : Int32) (x5 : Int64) (h : AH), Sim G yX0_hasShares.cls yX0_hasShares.name cX0_hasShares 9 (some .boolean) 13 cvI 129 [(7, .int x3), (6, .int x4), (1004, .long x5), (0, .ref y7), (1, .int y8)] [] h (k x3 x4 x5 h)), Sim G yX0_hasShares.cls yX0_hasShares.name cX0_hasShares 9 (some .boolean) 13 cvI 14 [(8, .int x2), (7, .int x3), (6, .int x4), (1004, .long x5), (1002, .long x6), (0, .ref y7), (1, .int y8)] [] h (F_X0_hasShares_L14 n K y7 y8 f x2 x3 x4 x5 x6 h k) := by
  intro f
  induction f with
  | zero =>
    intro x2 x3 x4 x5 x6 h k hk
    exact s_none
  | succ f ih =>
    intro x2 x3 x4 x5 x6 h k hk
    unfold F_X0_hasShares_L14
    refine s_iload dX0_hasShares_14 0 rfl (by decide) ?_
    refine s_bipush (8 : Int32) dX0_hasShares_16 (by decide) ?_
    refine s_icmp_ge 129 dX0_hasShares_18 (by decide) (fun c9 => ?_) (fun c9 => ?_)
    · refine s_sub [1, 2, 3, 5, 6] rfl ?_
      exact hk x3 x4 x5 h
    · refine s_aload_n dX0_hasShares_21 5 rfl ?_
      refine s_chk (fun hk10 => ?_)
      refine s_get (j := 28) 0 (va_rf (h.R y7 28)) dX0_hasShares_22 hk10 rfl (by decide) q261 (Or.inl rfl) rfl ?_
      refine s_iload dX0_hasShares_25 0 rfl (by decide) ?_
      refine s_lconst (0 : Int64) dX0_hasShares_27 (by decide) ?_
      refine s_ob (r := h.R y7 28) (fun z => [(8, .int x2), (7, .int x3), (6, .int x4), (1004, .long x5), (1002, .long x6), (0, .ref y7), (1, .int y8)]) (fun z => [.long (0 : Int64), .int x2, z]) (fun a11 => ?_)
      refine s_chk (fun hk12 => ?_)
      refine s_chk (fun hi13 => ?_)
      refine s_last dX0_hasShares_28 hk12 rfl (by decide) hi13 ?_
      refine s_hl (fun h14 e15 => ?_)
      refine s_iload_n dX0_hasShares_29 6 rfl ?_
      refine s_iload dX0_hasShares_30 0 rfl (by decide) ?_
      refine s_ishr dX0_hasShares_32 ?_
      refine s_iconst (1 : Int32) dX0_hasShares_33 (by decide) ?_
      refine s_iand dX0_hasShares_34 ?_
      refine s_if_ne 41 dX0_hasShares_35 (by decide) (fun c16 => ?_) (fun c16 => ?_)
      · refine s_aload_n dX0_hasShares_41 5 rfl ?_
        refine s_get (j := 28) 0 (va_rf (h14.R y7 28)) dX0_hasShares_42 (show h14.kind y7 = 1 by rw [e15]; exact hk10) rfl (by decide) q261 (Or.inl rfl) rfl ?_
        refine s_iload dX0_hasShares_45 0 rfl (by decide) ?_
        refine s_lload_n dX0_hasShares_47 4 rfl ?_
        refine s_aload_n dX0_hasShares_48 5 rfl ?_
        refine s_iload_n dX0_hasShares_49 6 rfl ?_
        refine s_iconst (1 : Int32) dX0_hasShares_50 (by decide) ?_
        refine s_iload dX0_hasShares_51 0 rfl (by decide) ?_
        refine s_ishl dX0_hasShares_53 ?_
        refine s_iconst (-1 : Int32) dX0_hasShares_54 (by decide) ?_
        refine s_ixor dX0_hasShares_55 ?_
        refine s_iand dX0_hasShares_56 ?_
        refine s_callV_L 0 (kX0_pairs G n K hK 8 y7 (y8 &&& (((1 : Int32) <<< (x2 &&& 31)) ^^^ (-1 : Int32))) h14) (by decide) (by decide) dX0_hasShares_57 (show h14.kind y7 = 1 by rw [e15]; exact hk10) rfl rfl q1095 q1097 qs42 q103 q1098 hyX0_pairs rfl rfl (by simp [catI, catL, catA, va_rfc]) (fun r17 h18 => ?_)
        refine s_lmul dX0_hasShares_60 ?_
        refine s_ob (r := h14.R y7 28) (fun z => [(8, .int x2), (7, .int x3), (6, .int x4), (1004, .long x5), (1002, .long x6), (0, .ref y7), (1, .int y8)]) (fun z => [.long (x6 * r17), .int x2, z]) (fun a19 => ?_)
        refine s_chk (fun hk20 => ?_)
        refine s_chk (fun hi21 => ?_)
        refine s_last dX0_hasShares_61 hk20 rfl (by decide) hi21 ?_
        refine s_hl (fun h22 e23 => ?_)
        refine s_lload_n dX0_hasShares_62 4 rfl ?_
        refine s_lneg dX0_hasShares_63 ?_
        refine s_lstore_n [(1002, .long (-x6)), (8, .int x2), (7, .int x3), (6, .int x4), (1004, .long x5), (0, .ref y7), (1, .int y8)] dX0_hasShares_64 (by decide) (by decide) rfl ?_
        refine s_iload dX0_hasShares_65 3 rfl (by decide) ?_
        refine s_aload_n dX0_hasShares_67 5 rfl ?_
        refine s_chk (fun hk24 => ?_)
        refine s_get (j := 28) 0 (va_rf (h22.R y7 28)) dX0_hasShares_68 hk24 rfl (by decide) q261 (Or.inl rfl) rfl ?_
        refine s_iload dX0_hasShares_71 1 rfl (by decide) ?_
        refine s_ob (r := h22.R y7 28) (fun z => [(1002, .long (-x6)), (8, .int x2), (7, .int x3), (6, .int x4), (1004, .long x5), (0, .ref y7), (1, .int y8)]) (fun z => [.int x2, z, .int x4]) (fun a25 => ?_)
        refine s_chk (fun hk26 => ?_)
        refine s_chk (fun hi27 => ?_)
        refine s_lald dX0_hasShares_73 hk26 rfl hi27 ?_
        refine s_lconst (0 : Int64) dX0_hasShares_74 (by decide) ?_
        refine s_lcmp dX0_hasShares_75 ?_
        refine s_jn (fun j29 => ∀ (x28 : Int32), Sim G yX0_hasShares.cls yX0_hasShares.name cX0_hasShares 9 (some .boolean) 13 cvI 84 [(1002, .long (-x6)), (8, .int x2), (7, .int x3), (1004, .long x5), (0, .ref y7), (1, .int y8)] [.int x28, .int x4] h22 (j29 x28)) ?_ (fun j29 hj42 => ?_)
        · intro x28
          refine s_iadd dX0_hasShares_84 ?_
          refine s_istore [(6, .int (x4 + x28)), (1002, .long (-x6)), (8, .int x2), (7, .int x3), (1004, .long x5), (0, .ref y7), (1, .int y8)] dX0_hasShares_85 (by decide) (by decide) rfl ?_
          refine s_iload dX0_hasShares_87 3 rfl (by decide) ?_
          refine s_aload_n dX0_hasShares_89 5 rfl ?_
          refine s_get (j := 28) 0 (va_rf (h22.R y7 28)) dX0_hasShares_90 hk24 rfl (by decide) q261 (Or.inl rfl) rfl ?_
          refine s_iload dX0_hasShares_93 2 rfl (by decide) ?_
          refine s_ob (r := h22.R y7 28) (fun z => [(6, .int (x4 + x28)), (1002, .long (-x6)), (8, .int x2), (7, .int x3), (1004, .long x5), (0, .ref y7), (1, .int y8)]) (fun z => [.int x2, z, .int x3]) (fun a30 => ?_)
          refine s_chk (fun hk31 => ?_)
          refine s_chk (fun hi32 => ?_)
          refine s_lald dX0_hasShares_95 hk31 rfl hi32 ?_
          refine s_lconst (0 : Int64) dX0_hasShares_96 (by decide) ?_
          refine s_lcmp dX0_hasShares_97 ?_
          refine s_jn (fun j34 => ∀ (x33 : Int32), Sim G yX0_hasShares.cls yX0_hasShares.name cX0_hasShares 9 (some .boolean) 13 cvI 106 [(6, .int (x4 + x28)), (1002, .long (-x6)), (8, .int x2), (1004, .long x5), (0, .ref y7), (1, .int y8)] [.int x33, .int x3] h22 (j34 x33)) ?_ (fun j34 hj40 => ?_)
          · intro x33
            refine s_iadd dX0_hasShares_106 ?_
            refine s_istore [(7, .int (x3 + x33)), (6, .int (x4 + x28)), (1002, .long (-x6)), (8, .int x2), (1004, .long x5), (0, .ref y7), (1, .int y8)] dX0_hasShares_107 (by decide) (by decide) rfl ?_
            refine s_lload dX0_hasShares_109 4 rfl ?_
            refine s_aload_n dX0_hasShares_111 5 rfl ?_
            refine s_get (j := 28) 0 (va_rf (h22.R y7 28)) dX0_hasShares_112 hk24 rfl (by decide) q261 (Or.inl rfl) rfl ?_
            refine s_iload dX0_hasShares_115 3 rfl (by decide) ?_
            refine s_ob (r := h22.R y7 28) (fun z => [(7, .int (x3 + x33)), (6, .int (x4 + x28)), (1002, .long (-x6)), (8, .int x2), (1004, .long x5), (0, .ref y7), (1, .int y8)]) (fun z => [.int x2, z, .long x5]) (fun a35 => ?_)
            refine s_chk (fun hk36 => ?_)
            refine s_chk (fun hi37 => ?_)
            refine s_lald dX0_hasShares_117 hk36 rfl hi37 ?_
            refine s_callS_L (kX0_common G n K hK x5 (h22.L a35 (ix x2)) h22) (by decide) (by decide) dX0_hasShares_118 q1015 q890 q103 q891 hyX0_common rfl rfl (Nat.le_of_ble_eq_true rfl) (fun r38 h39 => ?_)
            refine s_lstore [(1004, .long r38), (7, .int (x3 + x33)), (6, .int (x4 + x28)), (1002, .long (-x6)), (8, .int x2), (0, .ref y7), (1, .int y8)] dX0_hasShares_121 (by decide) (by decide) rfl ?_
            refine s_iinc (1 : Int32) [(8, .int (x2 + (1 : Int32))), (1004, .long r38), (7, .int (x3 + x33)), (6, .int (x4 + x28)), (1002, .long (-x6)), (0, .ref y7), (1, .int y8)] dX0_hasShares_123 4 rfl (by decide) (by decide) (by decide) rfl ?_
            refine s_goto 14 dX0_hasShares_126 (by decide) ?_
            refine s_sub [0, 2, 3, 1, 4, 5, 6] rfl ?_
            exact ih (x2 + (1 : Int32)) (x3 + x33) (x4 + x28) r38 (-x6) h39 k hk
          refine s_if_ge 105 dX0_hasShares_98 (by decide) (fun c41 => ?_) (fun c41 => ?_)
          · refine s_iconst (0 : Int32) dX0_hasShares_105 (by decide) ?_
            refine s_sub [0, 1, 2, 4, 5, 6] rfl ?_
            exact hj40 (0 : Int32)
          · refine s_iconst (1 : Int32) dX0_hasShares_101 (by decide) ?_
            refine s_goto 106 dX0_hasShares_102 (by decide) ?_
            refine s_sub [0, 1, 2, 4, 5, 6] rfl ?_
            exact hj40 (1 : Int32)
        refine s_if_le 83 dX0_hasShares_76 (by decide) (fun c43 => ?_) (fun c43 => ?_)
        · refine s_iconst (0 : Int32) dX0_hasShares_83 (by decide) ?_
          refine s_sub [0, 1, 2, 4, 5, 6] rfl ?_
          exact hj42 (0 : Int32)
        · refine s_iconst (1 : Int32) dX0_hasShares_79 (by decide) ?_
          refine s_goto 84 dX0_hasShares_80 (by decide) ?_
          refine s_sub [0, 1, 2, 4, 5, 6] rfl ?_
          exact hj42 (1 : Int32)
      · refine s_goto 123 dX0_hasShares_38 (by decide) ?_
        refine s_iinc (1 : Int32) [(8, .int (x2 + (1 : Int32))), (7, .int x3), (6, .int x4), (1004, .long x5), (1002, .long x6), (0, .ref y7), (1, .int y8)] dX0_hasShares_123 0 rfl (by decide) (by decide) (by decide) rfl ?_
        refine s_goto 14 dX0_hasShares_126 (by decide) ?_
        exact ih (x2 + (1 : Int32)) x3 x4 x5 x6 h14 k hk
theorem sX0_hasShares_L152 (G : Gl) (n : Nat) (K : Nat → Nat) (hK : K = G.ad) (y54 : Int64) (y55 : Nat) : ∀ (f : Nat) (x53 : Int32) (h : AH), Sim G yX0_hasShares.cls yX0_hasShares.name cX0_hasShares 9 (some .boolean) 13 cvI 152 [(8, .int x53), (1004, .long y54), (0, .ref y55)] [] h (F_X0_hasShares_L152 n K y54 y55 f x53 h) := by
  intro f
  induction f with
  | zero =>
    intro x53 h
    exact s_none
  | succ f ih =>
    intro x53 h
    unfold F_X0_hasShares_L152
    refine s_iload dX0_hasShares_152 0 rfl (by decide) ?_
    refine s_bipush (8 : Int32) dX0_hasShares_154 (by decide) ?_
    refine s_icmp_ge 185 dX0_hasShares_156 (by decide) (fun c56 => ?_) (fun c56 => ?_)
    · refine s_iconst (1 : Int32) dX0_hasShares_185 (by decide) ?_
      exact s_zret dX0_hasShares_186 rfl rfl rfl
    · refine s_aload_n dX0_hasShares_159 2 rfl ?_
      refine s_chk (fun hk57 => ?_)
      refine s_get (j := 28) 0 (va_rf (h.R y55 28)) dX0_hasShares_160 hk57 rfl (by decide) q261 (Or.inl rfl) rfl ?_
      refine s_iload dX0_hasShares_163 0 rfl (by decide) ?_
      refine s_aload_n dX0_hasShares_165 2 rfl ?_
      refine s_get (j := 28) 0 (va_rf (h.R y55 28)) dX0_hasShares_166 hk57 rfl (by decide) q261 (Or.inl rfl) rfl ?_
      refine s_iload dX0_hasShares_169 0 rfl (by decide) ?_
      refine s_ob (r := h.R y55 28) (fun z => [(8, .int x53), (1004, .long y54), (0, .ref y55)]) (fun z => [.int x53, z, .int x53, z]) (fun a58 => ?_)
      refine s_chk (fun hk59 => ?_)
      refine s_chk (fun hi60 => ?_)
      refine s_lald dX0_hasShares_171 hk59 rfl hi60 ?_
      refine s_mabsL dX0_hasShares_172 (by decide) q892 q893 q116 q894 (Nat.le_of_ble_eq_true rfl) ?_
      refine s_lload dX0_hasShares_175 1 rfl ?_
      refine s_chk (fun hz61 => ?_)
      refine s_ldiv dX0_hasShares_177 hz61 ?_
      refine s_chk (fun hi62 => ?_)
      refine s_last dX0_hasShares_178 hk59 rfl (by decide) hi62 ?_
      refine s_hl (fun h63 e64 => ?_)
      refine s_iinc (1 : Int32) [(8, .int (x53 + (1 : Int32))), (1004, .long y54), (0, .ref y55)] dX0_hasShares_179 0 rfl (by decide) (by decide) (by decide) rfl ?_
      refine s_goto 152 dX0_hasShares_182 (by decide) ?_
      exact ih (x53 + (1 : Int32)) h63
theorem kX0_hasShares (G : Gl) (n : Nat) (K : Nat → Nat) (hK : K = G.ad) (p0 : Nat) (p1 : Int32) (h : AH) : OkM G yX0_hasShares cX0_hasShares 9 (some .boolean) 13 cvI [.ref p0, .int p1] h (F_X0_hasShares n K p0 p1 h) := by
  refine ok_of_sim [(0, .ref p0), (1, .int p1)] (by decide +kernel) (fun r => ⟨_, rfl⟩) (by simp [uns, lv_args, lg_sl, catI, catL, catA, va_rfc]) (by simp [uns, lv_args, lg_sl, catI, catL, catA, va_rfc]) (by simp [uns, lv_args, lg_sl, catI, catL, catA, va_rfc]) ?_
  unfold F_X0_hasShares
  refine s_lconst (1 : Int64) dX0_hasShares_0 (by decide) ?_
  refine s_lstore_n [(1002, .long (1 : Int64)), (0, .ref p0), (1, .int p1)] dX0_hasShares_1 (by decide) (by decide) rfl ?_
  refine s_lconst (0 : Int64) dX0_hasShares_2 (by decide) ?_
  refine s_lstore [(1004, .long (0 : Int64)), (1002, .long (1 : Int64)), (0, .ref p0), (1, .int p1)] dX0_hasShares_3 (by decide) (by decide) rfl ?_
  refine s_iconst (0 : Int32) dX0_hasShares_5 (by decide) ?_
  refine s_istore [(6, .int (0 : Int32)), (1004, .long (0 : Int64)), (1002, .long (1 : Int64)), (0, .ref p0), (1, .int p1)] dX0_hasShares_6 (by decide) (by decide) rfl ?_
  refine s_iconst (0 : Int32) dX0_hasShares_8 (by decide) ?_
  refine s_istore [(7, .int (0 : Int32)), (6, .int (0 : Int32)), (1004, .long (0 : Int64)), (1002, .long (1 : Int64)), (0, .ref p0), (1, .int p1)] dX0_hasShares_9 (by decide) (by decide) rfl ?_
  refine s_iconst (0 : Int32) dX0_hasShares_11 (by decide) ?_
  refine s_istore [(8, .int (0 : Int32)), (7, .int (0 : Int32)), (6, .int (0 : Int32)), (1004, .long (0 : Int64)), (1002, .long (1 : Int64)), (0, .ref p0), (1, .int p1)] dX0_hasShares_12 (by decide) (by decide) rfl ?_
  refine sX0_hasShares_L14 G n K hK p0 p1 n (0 : Int32) (0 : Int32) (0 : Int32) (0 : Int64) (1 : Int64) h _ ?_
  intro x44 x45 x46 h47
  refine s_iload dX0_hasShares_129 1 rfl (by decide) ?_
  refine s_iload_n dX0_hasShares_131 4 rfl ?_
  refine s_callS_I (kJ15_bitCount G n K hK p1 h47) (by decide) (by decide) dX0_hasShares_132 q1081 q1082 q130 q1083 hyJ15_bitCount rfl rfl (Nat.le_of_ble_eq_true rfl) (fun r48 h49 => ?_)
  refine s_jn (fun j51 => ∀ (h50 : AH), Sim G yX0_hasShares.cls yX0_hasShares.name cX0_hasShares 9 (some .boolean) 13 cvI 149 [(1004, .long x46), (0, .ref p0)] [] h50 (j51 h50)) ?_ (fun j51 hj65 => ?_)
  · intro h50
    refine s_iconst (0 : Int32) dX0_hasShares_149 (by decide) ?_
    refine s_istore [(8, .int (0 : Int32)), (1004, .long x46), (0, .ref p0)] dX0_hasShares_150 (by decide) (by decide) rfl ?_
    exact sX0_hasShares_L152 G n K hK x46 p0 n (0 : Int32) h50
  refine s_icmp_eq 149 dX0_hasShares_135 (by decide) (fun c66 => ?_) (fun c66 => ?_)
  · refine s_sub [2, 3] rfl ?_
    exact hj65 h49
  · refine s_iload dX0_hasShares_138 0 rfl (by decide) ?_
    refine s_iload_n dX0_hasShares_140 4 rfl ?_
    refine s_callS_I (kJ15_bitCount G n K hK p1 h49) (by decide) (by decide) dX0_hasShares_141 q1081 q1082 q130 q1083 hyJ15_bitCount rfl rfl (Nat.le_of_ble_eq_true rfl) (fun r67 h68 => ?_)
    refine s_icmp_eq 149 dX0_hasShares_144 (by decide) (fun c69 => ?_) (fun c69 => ?_)
    · refine s_sub [2, 3] rfl ?_
      exact hj65 h68
    · refine s_iconst (0 : Int32) dX0_hasShares_147 (by decide) ?_
      exact s_zret dX0_hasShares_148 rfl rfl rfl
theorem hyX0_isLots : yX0_isLots.cls ≠ "java/lang/invoke/MethodHandle" ∧ yX0_isLots.cls ≠ "java/lang/invoke/VarHandle" ∧ (parseMethodDescriptor yX0_isLots.desc).map (fun d => d.parameters.length) = some 2 := by decide +kernel
theorem sX0_isLots_L23 (G : Gl) (n : Nat) (K : Nat → Nat) (hK : K = G.ad) (y13 : Int32) (y14 : Nat) (y15 : Int32) (h : AH) : ∀ (f : Nat) (x11 : Int32) (x12 : Int64) (k : Int64 → Option (Int32 × AH)) (hk : ∀ (x12 : Int64), Sim G yX0_isLots.cls yX0_isLots.name cX0_isLots 7 (some .boolean) 14 cvI 58 [(1004, .long x12), (3, .int y13), (0, .ref y14), (2, .int y15)] [] h (k x12)), Sim G yX0_isLots.cls yX0_isLots.name cX0_isLots 7 (some .boolean) 14 cvI 23 [(6, .int x11), (1004, .long x12), (3, .int y13), (0, .ref y14), (2, .int y15)] [] h (F_X0_isLots_L23 n K y13 y14 y15 h f x11 x12 k) := by
  intro f
  induction f with
  | zero =>
    intro x11 x12 k hk
    exact s_none
  | succ f ih =>
    intro x11 x12 k hk
    unfold F_X0_isLots_L23
    refine s_iload dX0_isLots_23 0 rfl (by decide) ?_
    refine s_iload_n dX0_isLots_25 4 rfl ?_
    refine s_icmp_ge 58 dX0_isLots_26 (by decide) (fun c16 => ?_) (fun c16 => ?_)
    · refine s_sub [1, 2, 3, 4] rfl ?_
      exact hk x12
    · refine s_lload dX0_isLots_29 1 rfl ?_
      refine s_aload_n dX0_isLots_31 3 rfl ?_
      refine s_chk (fun hk17 => ?_)
      refine s_get (j := 28) 0 (va_rf (h.R y14 28)) dX0_isLots_32 hk17 rfl (by decide) q261 (Or.inl rfl) rfl ?_
      refine s_iload dX0_isLots_35 0 rfl (by decide) ?_
      refine s_ob (r := h.R y14 28) (fun z => [(6, .int x11), (1004, .long x12), (3, .int y13), (0, .ref y14), (2, .int y15)]) (fun z => [.int x11, z, .long x12]) (fun a18 => ?_)
      refine s_chk (fun hk19 => ?_)
      refine s_chk (fun hi20 => ?_)
      refine s_lald dX0_isLots_37 hk19 rfl hi20 ?_
      refine s_aload_n dX0_isLots_38 3 rfl ?_
      refine s_get (j := 26) 0 (va_rf (h.R y14 26)) dX0_isLots_39 hk17 rfl (by decide) q259 (Or.inl rfl) rfl ?_
      refine s_iload_n dX0_isLots_42 2 rfl ?_
      refine s_ob (r := h.R y14 26) (fun z => [(6, .int x11), (1004, .long x12), (3, .int y13), (0, .ref y14), (2, .int y15)]) (fun z => [.int y13, z, .long (h.L a18 (ix x11)), .long x12]) (fun a21 => ?_)
      refine s_chk (fun hk22 => ?_)
      refine s_chk (fun hi23 => ?_)
      refine s_aald dX0_isLots_43 hk22 rfl rfl rfl hi23 ?_
      refine s_iload dX0_isLots_44 0 rfl (by decide) ?_
      refine s_ob (r := h.R a21 (ix y13)) (fun z => [(6, .int x11), (1004, .long x12), (3, .int y13), (0, .ref y14), (2, .int y15)]) (fun z => [.int x11, z, .long (h.L a18 (ix x11)), .long x12]) (fun a24 => ?_)
      refine s_chk (fun hk25 => ?_)
      refine s_chk (fun hi26 => ?_)
      refine s_iald dX0_isLots_46 hk25 rfl hi26 ?_
      refine s_i2l dX0_isLots_47 ?_
      refine s_lmul dX0_isLots_48 ?_
      refine s_ladd dX0_isLots_49 ?_
      refine s_lstore [(1004, .long (x12 + ((h.L a18 (ix x11)) * ((h.I a24 (ix x11)).toInt64)))), (6, .int x11), (3, .int y13), (0, .ref y14), (2, .int y15)] dX0_isLots_50 (by decide) (by decide) rfl ?_
      refine s_iinc (1 : Int32) [(6, .int (x11 + (1 : Int32))), (1004, .long (x12 + ((h.L a18 (ix x11)) * ((h.I a24 (ix x11)).toInt64)))), (3, .int y13), (0, .ref y14), (2, .int y15)] dX0_isLots_52 1 rfl (by decide) (by decide) (by decide) rfl ?_
      refine s_goto 23 dX0_isLots_55 (by decide) ?_
      exact ih (x11 + (1 : Int32)) (x12 + ((h.L a18 (ix x11)) * ((h.I a24 (ix x11)).toInt64))) k hk
theorem sX0_isLots_L12 (G : Gl) (n : Nat) (K : Nat → Nat) (hK : K = G.ad) (y7 : Nat) (y8 : Int32) (h : AH) : ∀ (f : Nat) (x6 : Int32), Sim G yX0_isLots.cls yX0_isLots.name cX0_isLots 7 (some .boolean) 14 cvI 12 [(3, .int x6), (0, .ref y7), (2, .int y8)] [] h (F_X0_isLots_L12 n K y7 y8 h f x6) := by
  intro f
  induction f with
  | zero =>
    intro x6
    exact s_none
  | succ f ih =>
    intro x6
    unfold F_X0_isLots_L12
    refine s_iload_n dX0_isLots_12 0 rfl ?_
    refine s_iload_n dX0_isLots_13 2 rfl ?_
    refine s_icmp_ge 73 dX0_isLots_14 (by decide) (fun c9 => ?_) (fun c9 => ?_)
    · refine s_iconst (1 : Int32) dX0_isLots_73 (by decide) ?_
      exact s_zret dX0_isLots_74 rfl rfl rfl
    · refine s_lconst (0 : Int64) dX0_isLots_17 (by decide) ?_
      refine s_lstore [(1004, .long (0 : Int64)), (3, .int x6), (0, .ref y7), (2, .int y8)] dX0_isLots_18 (by decide) (by decide) rfl ?_
      refine s_iconst (0 : Int32) dX0_isLots_20 (by decide) ?_
      refine s_istore [(6, .int (0 : Int32)), (1004, .long (0 : Int64)), (3, .int x6), (0, .ref y7), (2, .int y8)] dX0_isLots_21 (by decide) (by decide) rfl ?_
      refine sX0_isLots_L23 G n K hK x6 y7 y8 h n (0 : Int32) (0 : Int64) _ ?_
      intro x27
      refine s_lload dX0_isLots_58 0 rfl ?_
      refine s_lconst (0 : Int64) dX0_isLots_60 (by decide) ?_
      refine s_lcmp dX0_isLots_61 ?_
      refine s_if_le 67 dX0_isLots_62 (by decide) (fun c28 => ?_) (fun c28 => ?_)
      · refine s_iinc (1 : Int32) [(3, .int (x6 + (1 : Int32))), (1004, .long x27), (0, .ref y7), (2, .int y8)] dX0_isLots_67 1 rfl (by decide) (by decide) (by decide) rfl ?_
        refine s_goto 12 dX0_isLots_70 (by decide) ?_
        refine s_sub [0, 2, 3] rfl ?_
        exact ih (x6 + (1 : Int32))
      · refine s_iconst (0 : Int32) dX0_isLots_65 (by decide) ?_
        exact s_zret dX0_isLots_66 rfl rfl rfl
theorem kX0_isLots (G : Gl) (n : Nat) (K : Nat → Nat) (hK : K = G.ad) (p0 : Nat) (p1 : Int32) (p2 : Int32) (h : AH) : OkM G yX0_isLots cX0_isLots 7 (some .boolean) 14 cvI [.ref p0, .int p1, .int p2] h (F_X0_isLots n K p0 p1 p2 h) := by
  refine ok_of_sim [(0, .ref p0), (1, .int p1), (2, .int p2)] (by decide +kernel) (fun r => ⟨_, rfl⟩) (by simp [uns, lv_args, lg_sl, catI, catL, catA, va_rfc]) (by simp [uns, lv_args, lg_sl, catI, catL, catA, va_rfc]) (by simp [uns, lv_args, lg_sl, catI, catL, catA, va_rfc]) ?_
  unfold F_X0_isLots
  refine s_aload_n dX0_isLots_0 0 rfl ?_
  refine s_iload_n dX0_isLots_1 1 rfl ?_
  refine s_chk (fun hk3 => ?_)
  refine s_callV_I 0 (kX0_hasShares G n K hK p0 p1 h) (by decide) (by decide) dX0_isLots_2 hk3 rfl rfl q1091 q1093 qs41 q103 q1094 hyX0_hasShares rfl rfl (Nat.le_of_ble_eq_true rfl) (fun r1 h2 => ?_)
  refine s_if_ne 10 dX0_isLots_5 (by decide) (fun c4 => ?_) (fun c4 => ?_)
  · refine s_iconst (0 : Int32) dX0_isLots_10 (by decide) ?_
    refine s_istore_n [(3, .int (0 : Int32)), (0, .ref p0), (1, .int p1), (2, .int p2)] dX0_isLots_11 (by decide) (by decide) rfl ?_
    refine s_sub [0, 1, 3] rfl ?_
    exact sX0_isLots_L12 G n K hK p0 p2 h2 n (0 : Int32)
  · refine s_iconst (0 : Int32) dX0_isLots_8 (by decide) ?_
    exact s_zret dX0_isLots_9 rfl rfl rfl
theorem hyX0_findLots : yX0_findLots.cls ≠ "java/lang/invoke/MethodHandle" ∧ yX0_findLots.cls ≠ "java/lang/invoke/VarHandle" ∧ (parseMethodDescriptor yX0_findLots.desc).map (fun d => d.parameters.length) = some 0 := by decide +kernel
theorem sX0_findLots_L14 (G : Gl) (n : Nat) (K : Nat → Nat) (hK : K = G.ad) (y11 : Int32) (y12 : Int32) (y13 : Nat) : ∀ (f : Nat) (x10 : Int32) (h : AH) (k : AH → Option (Int32 × AH)) (hk : ∀ (h : AH), Sim G yX0_findLots.cls yX0_findLots.name cX0_findLots 4 (some .boolean) 15 cvI 46 [(2, .int y11), (1, .int y12), (0, .ref y13)] [] h (k h)), Sim G yX0_findLots.cls yX0_findLots.name cX0_findLots 4 (some .boolean) 15 cvI 14 [(3, .int x10), (2, .int y11), (1, .int y12), (0, .ref y13)] [] h (F_X0_findLots_L14 n K y11 y12 y13 f x10 h k) := by
  intro f
  induction f with
  | zero =>
    intro x10 h k hk
    exact s_none
  | succ f ih =>
    intro x10 h k hk
    unfold F_X0_findLots_L14
    refine s_iload_n dX0_findLots_14 0 rfl ?_
    refine s_iconst (1 : Int32) dX0_findLots_15 (by decide) ?_
    refine s_iload_n dX0_findLots_16 2 rfl ?_
    refine s_ishl dX0_findLots_17 ?_
    refine s_icmp_ge 46 dX0_findLots_18 (by decide) (fun c14 => ?_) (fun c14 => ?_)
    · refine s_sub [1, 2, 3] rfl ?_
      exact hk h
    · refine s_iload_n dX0_findLots_21 0 rfl ?_
      refine s_callS_I (kJ15_bitCount G n K hK x10 h) (by decide) (by decide) dX0_findLots_22 q1081 q1082 q130 q1083 hyJ15_bitCount rfl rfl (Nat.le_of_ble_eq_true rfl) (fun r15 h16 => ?_)
      refine s_iload_n dX0_findLots_25 1 rfl ?_
      refine s_icmp_ne 40 dX0_findLots_26 (by decide) (fun c17 => ?_) (fun c17 => ?_)
      · refine s_iinc (1 : Int32) [(3, .int (x10 + (1 : Int32))), (2, .int y11), (1, .int y12), (0, .ref y13)] dX0_findLots_40 0 rfl (by decide) (by decide) (by decide) rfl ?_
        refine s_goto 14 dX0_findLots_43 (by decide) ?_
        exact ih (x10 + (1 : Int32)) h16 k hk
      · refine s_aload_n dX0_findLots_29 3 rfl ?_
        refine s_iload_n dX0_findLots_30 0 rfl ?_
        refine s_iload_n dX0_findLots_31 2 rfl ?_
        refine s_chk (fun hk20 => ?_)
        refine s_callV_I 0 (kX0_isLots G n K hK y13 x10 y12 h16) (by decide) (by decide) dX0_findLots_32 hk20 rfl rfl q1087 q1089 qs40 q103 q1090 hyX0_isLots rfl rfl (Nat.le_of_ble_eq_true rfl) (fun r18 h19 => ?_)
        refine s_if_eq 40 dX0_findLots_35 (by decide) (fun c21 => ?_) (fun c21 => ?_)
        · refine s_iinc (1 : Int32) [(3, .int (x10 + (1 : Int32))), (2, .int y11), (1, .int y12), (0, .ref y13)] dX0_findLots_40 0 rfl (by decide) (by decide) (by decide) rfl ?_
          refine s_goto 14 dX0_findLots_43 (by decide) ?_
          exact ih (x10 + (1 : Int32)) h19 k hk
        · refine s_iconst (1 : Int32) dX0_findLots_38 (by decide) ?_
          exact s_zret dX0_findLots_39 rfl rfl rfl
theorem sX0_findLots_L7 (G : Gl) (n : Nat) (K : Nat → Nat) (hK : K = G.ad) (y6 : Int32) (y7 : Nat) : ∀ (f : Nat) (x5 : Int32) (h : AH), Sim G yX0_findLots.cls yX0_findLots.name cX0_findLots 4 (some .boolean) 15 cvI 7 [(2, .int x5), (1, .int y6), (0, .ref y7)] [] h (F_X0_findLots_L7 n K y6 y7 f x5 h) := by
  intro f
  induction f with
  | zero =>
    intro x5 h
    exact s_none
  | succ f ih =>
    intro x5 h
    unfold F_X0_findLots_L7
    refine s_iload_n dX0_findLots_7 0 rfl ?_
    refine s_iload_n dX0_findLots_8 1 rfl ?_
    refine s_icmp_gt 52 dX0_findLots_9 (by decide) (fun c8 => ?_) (fun c8 => ?_)
    · refine s_iconst (0 : Int32) dX0_findLots_52 (by decide) ?_
      exact s_zret dX0_findLots_53 rfl rfl rfl
    · refine s_iconst (1 : Int32) dX0_findLots_12 (by decide) ?_
      refine s_istore_n [(3, .int (1 : Int32)), (2, .int x5), (1, .int y6), (0, .ref y7)] dX0_findLots_13 (by decide) (by decide) rfl ?_
      refine sX0_findLots_L14 G n K hK x5 y6 y7 n (1 : Int32) h _ ?_
      intro h22
      refine s_iinc (2 : Int32) [(2, .int (x5 + (2 : Int32))), (1, .int y6), (0, .ref y7)] dX0_findLots_46 0 rfl (by decide) (by decide) (by decide) rfl ?_
      refine s_goto 7 dX0_findLots_49 (by decide) ?_
      exact ih (x5 + (2 : Int32)) h22
theorem kX0_findLots (G : Gl) (n : Nat) (K : Nat → Nat) (hK : K = G.ad) (p0 : Nat) (h : AH) : OkM G yX0_findLots cX0_findLots 4 (some .boolean) 15 cvI [.ref p0] h (F_X0_findLots n K p0 h) := by
  refine ok_of_sim [(0, .ref p0)] (by decide +kernel) (fun r => ⟨_, rfl⟩) (by simp [uns, lv_args, lg_sl, catI, catL, catA, va_rfc]) (by simp [uns, lv_args, lg_sl, catI, catL, catA, va_rfc]) (by simp [uns, lv_args, lg_sl, catI, catL, catA, va_rfc]) ?_
  unfold F_X0_findLots
  refine s_aload_n dX0_findLots_0 0 rfl ?_
  refine s_chk (fun hk3 => ?_)
  refine s_callV_I 0 (kX0_gains G n K hK p0 h) (by decide) (by decide) dX0_findLots_1 hk3 rfl rfl q1068 q1070 qs38 q103 q1071 hyX0_gains rfl rfl (Nat.le_of_ble_eq_true rfl) (fun r1 h2 => ?_)
  refine s_istore_n [(1, .int r1), (0, .ref p0)] dX0_findLots_4 (by decide) (by decide) rfl ?_
  refine s_iconst (1 : Int32) dX0_findLots_5 (by decide) ?_
  refine s_istore_n [(2, .int (1 : Int32)), (1, .int r1), (0, .ref p0)] dX0_findLots_6 (by decide) (by decide) rfl ?_
  exact sX0_findLots_L7 G n K hK r1 p0 n (1 : Int32) h2
theorem hyX0_lot : yX0_lot.cls ≠ "java/lang/invoke/MethodHandle" ∧ yX0_lot.cls ≠ "java/lang/invoke/VarHandle" ∧ (parseMethodDescriptor yX0_lot.desc).map (fun d => d.parameters.length) = some 1 := by decide +kernel
theorem sX0_lot_L36 (G : Gl) (n : Nat) (K : Nat → Nat) (hK : K = G.ad) (y16 : Nat) (y17 : Int32) (h : AH) : ∀ (f : Nat) (x14 : Int32) (x15 : Int64), Sim G yX0_lot.cls yX0_lot.name cX0_lot 5 (some .int) 16 cvI 36 [(4, .int x14), (1002, .long x15), (0, .ref y16), (1, .int y17)] [] h (F_X0_lot_L36 n K y16 y17 h f x14 x15) := by
  intro f
  induction f with
  | zero =>
    intro x14 x15
    exact s_none
  | succ f ih =>
    intro x14 x15
    unfold F_X0_lot_L36
    refine s_iload dX0_lot_36 0 rfl (by decide) ?_
    refine s_bipush (8 : Int32) dX0_lot_38 (by decide) ?_
    refine s_icmp_ge 59 dX0_lot_40 (by decide) (fun c18 => ?_) (fun c18 => ?_)
    · refine s_iload_n dX0_lot_59 3 rfl ?_
      refine s_iconst (-1 : Int32) dX0_lot_60 (by decide) ?_
      refine s_icmp_ne 68 dX0_lot_61 (by decide) (fun c19 => ?_) (fun c19 => ?_)
      · refine s_aload_n dX0_lot_68 2 rfl ?_
        refine s_chk (fun hk20 => ?_)
        refine s_get (j := 28) 0 (va_rf (h.R y16 28)) dX0_lot_69 hk20 rfl (by decide) q261 (Or.inl rfl) rfl ?_
        refine s_iload_n dX0_lot_72 3 rfl ?_
        refine s_ob (r := h.R y16 28) (fun z => [(4, .int x14), (1002, .long x15), (0, .ref y16), (1, .int y17)]) (fun z => [.int y17, z]) (fun a21 => ?_)
        refine s_chk (fun hk22 => ?_)
        refine s_chk (fun hi23 => ?_)
        refine s_lald dX0_lot_73 hk22 rfl hi23 ?_
        refine s_l2i dX0_lot_74 ?_
        exact s_iret dX0_lot_75 rfl rfl
      · refine s_lload_n dX0_lot_64 1 rfl ?_
        refine s_goto 74 dX0_lot_65 (by decide) ?_
        refine s_l2i dX0_lot_74 ?_
        exact s_iret dX0_lot_75 rfl rfl
    · refine s_lload_n dX0_lot_43 1 rfl ?_
      refine s_aload_n dX0_lot_44 2 rfl ?_
      refine s_chk (fun hk24 => ?_)
      refine s_get (j := 28) 0 (va_rf (h.R y16 28)) dX0_lot_45 hk24 rfl (by decide) q261 (Or.inl rfl) rfl ?_
      refine s_iload dX0_lot_48 0 rfl (by decide) ?_
      refine s_ob (r := h.R y16 28) (fun z => [(4, .int x14), (1002, .long x15), (0, .ref y16), (1, .int y17)]) (fun z => [.int x14, z, .long x15]) (fun a25 => ?_)
      refine s_chk (fun hk26 => ?_)
      refine s_chk (fun hi27 => ?_)
      refine s_lald dX0_lot_50 hk26 rfl hi27 ?_
      refine s_ladd dX0_lot_51 ?_
      refine s_lstore_n [(1002, .long (x15 + (h.L a25 (ix x14)))), (4, .int x14), (0, .ref y16), (1, .int y17)] dX0_lot_52 (by decide) (by decide) rfl ?_
      refine s_iinc (1 : Int32) [(4, .int (x14 + (1 : Int32))), (1002, .long (x15 + (h.L a25 (ix x14)))), (0, .ref y16), (1, .int y17)] dX0_lot_53 1 rfl (by decide) (by decide) (by decide) rfl ?_
      refine s_goto 36 dX0_lot_56 (by decide) ?_
      exact ih (x14 + (1 : Int32)) (x15 + (h.L a25 (ix x14)))
theorem kX0_lot (G : Gl) (n : Nat) (K : Nat → Nat) (hK : K = G.ad) (p0 : Nat) (p1 : Int32) (h : AH) : OkM G yX0_lot cX0_lot 5 (some .int) 16 cvI [.ref p0, .int p1] h (F_X0_lot n K p0 p1 h) := by
  refine ok_of_sim [(0, .ref p0), (1, .int p1)] (by decide +kernel) (fun r => ⟨_, rfl⟩) (by simp [uns, lv_args, lg_sl, catI, catL, catA, va_rfc]) (by simp [uns, lv_args, lg_sl, catI, catL, catA, va_rfc]) (by simp [uns, lv_args, lg_sl, catI, catL, catA, va_rfc]) ?_
  unfold F_X0_lot
  refine s_iload_n dX0_lot_0 1 rfl ?_
  refine s_iconst (-1 : Int32) dX0_lot_1 (by decide) ?_
  refine s_bipush (8 : Int32) dX0_lot_2 (by decide) ?_
  refine s_aload_n dX0_lot_4 0 rfl ?_
  refine s_chk (fun hk1 => ?_)
  refine s_get (j := 3) 0 (va_rf (h.R p0 3)) dX0_lot_5 hk1 rfl (by decide) q236 (Or.inl rfl) rfl ?_
  refine s_ob (r := h.R p0 3) (fun z => [(0, .ref p0), (1, .int p1)]) (fun z => [z, .int (8 : Int32), .int (-1 : Int32), .int p1]) (fun a2 => ?_)
  refine s_chk (fun hk5 => ?_)
  refine s_callV_I 2 (kJ2_size G n K hK a2 h) (by decide) (by decide) dX0_lot_8 hk5 rfl rfl q732 q552 q553 q107 q554 hyJ2_size rfl rfl (Nat.le_of_ble_eq_true rfl) (fun r3 h4 => ?_)
  refine s_mmin dX0_lot_11 (by decide) q1072 q477 q116 q478 (Nat.le_of_ble_eq_true rfl) ?_
  refine s_iconst (1 : Int32) dX0_lot_14 (by decide) ?_
  refine s_isub dX0_lot_15 ?_
  refine s_callS_I (kX0_in G n K hK p1 (-1 : Int32) ((if r3 < (8 : Int32) then r3 else (8 : Int32)) - (1 : Int32)) h4) (by decide) (by decide) dX0_lot_16 q335 q336 q103 q337 hyX0_in rfl rfl (Nat.le_of_ble_eq_true rfl) (fun r6 h7 => ?_)
  refine s_if_eq 29 dX0_lot_19 (by decide) (fun c8 => ?_) (fun c8 => ?_)
  · refine s_iconst (-1 : Int32) dX0_lot_29 (by decide) ?_
    exact s_iret dX0_lot_30 rfl rfl
  · refine s_aload_n dX0_lot_22 0 rfl ?_
    refine s_chk (fun hk11 => ?_)
    refine s_callV_I 0 (kX0_findLots G n K hK p0 h7) (by decide) (by decide) dX0_lot_23 hk11 rfl rfl q1077 q1079 qs39 q103 q1080 hyX0_findLots rfl rfl (Nat.le_of_ble_eq_true rfl) (fun r9 h10 => ?_)
    refine s_if_ne 31 dX0_lot_26 (by decide) (fun c12 => ?_) (fun c12 => ?_)
    · refine s_lconst (0 : Int64) dX0_lot_31 (by decide) ?_
      refine s_lstore_n [(1002, .long (0 : Int64)), (0, .ref p0), (1, .int p1)] dX0_lot_32 (by decide) (by decide) rfl ?_
      refine s_iconst (0 : Int32) dX0_lot_33 (by decide) ?_
      refine s_istore [(4, .int (0 : Int32)), (1002, .long (0 : Int64)), (0, .ref p0), (1, .int p1)] dX0_lot_34 (by decide) (by decide) rfl ?_
      exact sX0_lot_L36 G n K hK p0 p1 h10 n (0 : Int32) (0 : Int64)
    · refine s_iconst (-1 : Int32) dX0_lot_29 (by decide) ?_
      exact s_iret dX0_lot_30 rfl rfl
theorem hyX0_needOf : yX0_needOf.cls ≠ "java/lang/invoke/MethodHandle" ∧ yX0_needOf.cls ≠ "java/lang/invoke/VarHandle" ∧ (parseMethodDescriptor yX0_needOf.desc).map (fun d => d.parameters.length) = some 1 := by decide +kernel
theorem sX0_needOf_L4 (G : Gl) (n : Nat) (K : Nat → Nat) (hK : K = G.ad) (y4 : Nat) (y5 : Int32) : ∀ (f : Nat) (x2 : Int32) (x3 : Int32) (h : AH), Sim G yX0_needOf.cls yX0_needOf.name cX0_needOf 4 (some .int) 7 cvI 4 [(3, .int x2), (2, .int x3), (0, .ref y4), (1, .int y5)] [] h (F_X0_needOf_L4 n K y4 y5 f x2 x3 h) := by
  intro f
  induction f with
  | zero =>
    intro x2 x3 h
    exact s_none
  | succ f ih =>
    intro x2 x3 h
    unfold F_X0_needOf_L4
    refine s_iload_n dX0_needOf_4 0 rfl ?_
    refine s_aload_n dX0_needOf_5 2 rfl ?_
    refine s_chk (fun hk6 => ?_)
    refine s_get (j := 3) 0 (va_rf (h.R y4 3)) dX0_needOf_6 hk6 rfl (by decide) q236 (Or.inl rfl) rfl ?_
    refine s_ob (r := h.R y4 3) (fun z => [(3, .int x2), (2, .int x3), (0, .ref y4), (1, .int y5)]) (fun z => [z, .int x2]) (fun a7 => ?_)
    refine s_chk (fun hk10 => ?_)
    refine s_callV_I 2 (kJ2_size G n K hK a7 h) (by decide) (by decide) dX0_needOf_9 hk10 rfl rfl q732 q552 q553 q107 q554 hyJ2_size rfl rfl (Nat.le_of_ble_eq_true rfl) (fun r8 h9 => ?_)
    refine s_icmp_ge 57 dX0_needOf_12 (by decide) (fun c11 => ?_) (fun c11 => ?_)
    · refine s_iload_n dX0_needOf_57 1 rfl ?_
      exact s_iret dX0_needOf_58 rfl rfl
    · refine s_iload_n dX0_needOf_15 0 rfl ?_
      refine s_iload_n dX0_needOf_16 3 rfl ?_
      refine s_icmp_eq 51 dX0_needOf_17 (by decide) (fun c12 => ?_) (fun c12 => ?_)
      · refine s_iinc (1 : Int32) [(3, .int (x2 + (1 : Int32))), (2, .int x3), (0, .ref y4), (1, .int y5)] dX0_needOf_51 0 rfl (by decide) (by decide) (by decide) rfl ?_
        refine s_goto 4 dX0_needOf_54 (by decide) ?_
        exact ih (x2 + (1 : Int32)) x3 h9
      · refine s_iload_n dX0_needOf_20 1 rfl ?_
        refine s_aload_n dX0_needOf_21 2 rfl ?_
        refine s_aload_n dX0_needOf_22 2 rfl ?_
        refine s_chk (fun hk13 => ?_)
        refine s_get (j := 3) 0 (va_rf (h9.R y4 3)) dX0_needOf_23 hk13 rfl (by decide) q236 (Or.inl rfl) rfl ?_
        refine s_iload_n dX0_needOf_26 0 rfl ?_
        refine s_ob (r := h9.R y4 3) (fun z => [(3, .int x2), (2, .int x3), (0, .ref y4), (1, .int y5)]) (fun z => [.int x2, z, .ref y4, .int x3]) (fun a14 => ?_)
        refine s_chk (fun hk17 => ?_)
        refine s_callV_R 2 (kJ2_get G n K hK a14 x2 h9) (by decide) (by decide) dX0_needOf_27 hk17 rfl rfl q733 q734 q735 q107 q736 hyJ2_get rfl rfl (Nat.le_of_ble_eq_true rfl) (fun r15 h16 => ?_)
        refine s_ob (r := r15) (fun z => [(3, .int x2), (2, .int x3), (0, .ref y4), (1, .int y5)]) (fun z => [z, .ref y4, .int x3]) (fun a18 => ?_)
        refine s_chk (fun hk19 => ?_)
        refine s_cast 10 dX0_needOf_30 hk19 rfl q747 ?_
        refine s_aload_n dX0_needOf_33 2 rfl ?_
        refine s_chk (fun hk20 => ?_)
        refine s_get (j := 3) 0 (va_rf (h16.R y4 3)) dX0_needOf_34 hk20 rfl (by decide) q236 (Or.inl rfl) rfl ?_
        refine s_iload_n dX0_needOf_37 3 rfl ?_
        refine s_ob (r := h16.R y4 3) (fun z => [(3, .int x2), (2, .int x3), (0, .ref y4), (1, .int y5)]) (fun z => [.int y5, z, .ref a18, .ref y4, .int x3]) (fun a21 => ?_)
        refine s_chk (fun hk24 => ?_)
        refine s_callV_R 2 (kJ2_get G n K hK a21 y5 h16) (by decide) (by decide) dX0_needOf_38 hk24 rfl rfl q733 q734 q735 q107 q736 hyJ2_get rfl rfl (Nat.le_of_ble_eq_true rfl) (fun r22 h23 => ?_)
        refine s_ob (r := r22) (fun z => [(3, .int x2), (2, .int x3), (0, .ref y4), (1, .int y5)]) (fun z => [z, .ref a18, .ref y4, .int x3]) (fun a25 => ?_)
        refine s_chk (fun hk26 => ?_)
        refine s_cast 10 dX0_needOf_41 hk26 rfl q747 ?_
        refine s_chk (fun hk29 => ?_)
        refine s_callV_I 0 (kX0_votesOf G n K hK y4 (some a18) (some a25) h23) (by decide) (by decide) dX0_needOf_44 hk29 rfl rfl q835 q837 qs19 q103 q838 hyX0_votesOf rfl rfl (Nat.le_of_ble_eq_true rfl) (fun r27 h28 => ?_)
        refine s_mmax dX0_needOf_47 (by decide) q984 q474 q116 q475 (Nat.le_of_ble_eq_true rfl) ?_
        refine s_istore_n [(2, .int (if x3 < r27 then r27 else x3)), (3, .int x2), (0, .ref y4), (1, .int y5)] dX0_needOf_50 (by decide) (by decide) rfl ?_
        refine s_iinc (1 : Int32) [(3, .int (x2 + (1 : Int32))), (2, .int (if x3 < r27 then r27 else x3)), (0, .ref y4), (1, .int y5)] dX0_needOf_51 1 rfl (by decide) (by decide) (by decide) rfl ?_
        refine s_goto 4 dX0_needOf_54 (by decide) ?_
        exact ih (x2 + (1 : Int32)) (if x3 < r27 then r27 else x3) h28
theorem kX0_needOf (G : Gl) (n : Nat) (K : Nat → Nat) (hK : K = G.ad) (p0 : Nat) (p1 : Int32) (h : AH) : OkM G yX0_needOf cX0_needOf 4 (some .int) 7 cvI [.ref p0, .int p1] h (F_X0_needOf n K p0 p1 h) := by
  refine ok_of_sim [(0, .ref p0), (1, .int p1)] (by decide +kernel) (fun r => ⟨_, rfl⟩) (by simp [uns, lv_args, lg_sl, catI, catL, catA, va_rfc]) (by simp [uns, lv_args, lg_sl, catI, catL, catA, va_rfc]) (by simp [uns, lv_args, lg_sl, catI, catL, catA, va_rfc]) ?_
  unfold F_X0_needOf
  refine s_iconst (0 : Int32) dX0_needOf_0 (by decide) ?_
  refine s_istore_n [(2, .int (0 : Int32)), (0, .ref p0), (1, .int p1)] dX0_needOf_1 (by decide) (by decide) rfl ?_
  refine s_iconst (0 : Int32) dX0_needOf_2 (by decide) ?_
  refine s_istore_n [(3, .int (0 : Int32)), (2, .int (0 : Int32)), (0, .ref p0), (1, .int p1)] dX0_needOf_3 (by decide) (by decide) rfl ?_
  exact sX0_needOf_L4 G n K hK p0 p1 n (0 : Int32) (0 : Int32) h
