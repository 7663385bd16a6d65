set_option maxRecDepth 100000
theorem hyX3_most : yX3_most.cls ≠ "java/lang/invoke/MethodHandle" ∧ yX3_most.cls ≠ "java/lang/invoke/VarHandle" ∧ (parseMethodDescriptor yX3_most.desc).map (fun d => d.parameters.length) = some 2 := by decide +kernel
theorem sX3_most_L22 (G : Gl) (n : Nat) (K : Nat → Nat) (hK : K = G.ad) (y11 : Nat) (y12 : Int32) (y13 : Int32) : ∀ (f : Nat) (x9 : Int32) (x10 : Int32) (h : AH), Sim G yX3_most.cls yX3_most.name cX3_most 5 (some .int) 4 cvI 22 [(4, .int x9), (3, .int x10), (0, .ref y11), (1, .int y12), (2, .int y13)] [] h (F_X3_most_L22 n K y11 y12 y13 f x9 x10 h) := by
  intro f
  induction f with
  | zero =>
    intro x9 x10 h
    exact s_none
  | succ f ih =>
    intro x9 x10 h
    unfold F_X3_most_L22
    refine s_iload dX3_most_22 0 rfl (by decide) ?_
    refine s_sipush (10000 : Int32) dX3_most_24 (by decide) ?_
    refine s_icmp_ge 57 dX3_most_27 (by decide) (fun c14 => ?_) (fun c14 => ?_)
    · refine s_iload_n dX3_most_57 1 rfl ?_
      exact s_iret dX3_most_58 rfl rfl
    · refine s_iload_n dX3_most_30 1 rfl ?_
      refine s_aload_n dX3_most_31 2 rfl ?_
      refine s_iload dX3_most_32 0 rfl (by decide) ?_
      refine s_bipush (100 : Int32) dX3_most_34 (by decide) ?_
      refine s_idiv dX3_most_36 (by decide) ?_
      refine s_iload dX3_most_37 0 rfl (by decide) ?_
      refine s_bipush (100 : Int32) dX3_most_39 (by decide) ?_
      refine s_irem dX3_most_41 (by decide) ?_
      refine s_iload_n dX3_most_42 3 rfl ?_
      refine s_iload_n dX3_most_43 4 rfl ?_
      refine s_chk (fun hk17 => ?_)
      refine s_callV_I 4 (kX3_forOf G n K hK y11 (x9 / (100 : Int32)) (x9 - x9 / (100 : Int32) * (100 : Int32)) y12 y13 h) (by decide) (by decide) dX3_most_44 hk17 rfl rfl q1528 q1530 qs69 q109 q1531 hyX3_forOf rfl rfl (Nat.le_of_ble_eq_true rfl) (fun r15 h16 => ?_)
      refine s_mmax dX3_most_47 (by decide) q1469 q474 q116 q475 (Nat.le_of_ble_eq_true rfl) ?_
      refine s_istore_n [(3, .int (if x10 < r15 then r15 else x10)), (4, .int x9), (0, .ref y11), (1, .int y12), (2, .int y13)] dX3_most_50 (by decide) (by decide) rfl ?_
      refine s_iinc (1 : Int32) [(4, .int (x9 + (1 : Int32))), (3, .int (if x10 < r15 then r15 else x10)), (0, .ref y11), (1, .int y12), (2, .int y13)] dX3_most_51 1 rfl (by decide) (by decide) (by decide) rfl ?_
      refine s_goto 22 dX3_most_54 (by decide) ?_
      exact ih (x9 + (1 : Int32)) (if x10 < r15 then r15 else x10) h16
theorem kX3_most (G : Gl) (n : Nat) (K : Nat → Nat) (hK : K = G.ad) (p0 : Nat) (p1 : Int32) (p2 : Int32) (h : AH) : OkM G yX3_most cX3_most 5 (some .int) 4 cvI [.ref p0, .int p1, .int p2] h (F_X3_most n K p0 p1 p2 h) := by
  refine ok_of_sim [(0, .ref p0), (1, .int p1), (2, .int p2)] (by decide +kernel) (fun r => ⟨_, rfl⟩) (by simp [uns, lv_args, lg_sl, catI, catL, catA, va_rfc]) (by simp [uns, lv_args, lg_sl, catI, catL, catA, va_rfc]) (by simp [uns, lv_args, lg_sl, catI, catL, catA, va_rfc]) ?_
  unfold F_X3_most
  refine s_aload_n dX3_most_0 0 rfl ?_
  refine s_chk (fun hk3 => ?_)
  refine s_callV_I 4 (kX3_voters G n K hK p0 h) (by decide) (by decide) dX3_most_1 hk3 rfl rfl q1475 q1477 qs62 q109 q1478 hyX3_voters rfl rfl (Nat.le_of_ble_eq_true rfl) (fun r1 h2 => ?_)
  refine s_if_eq 15 dX3_most_4 (by decide) (fun c4 => ?_) (fun c4 => ?_)
  · refine s_iconst (-1 : Int32) dX3_most_15 (by decide) ?_
    exact s_iret dX3_most_16 rfl rfl
  · refine s_iload_n dX3_most_7 1 rfl ?_
    refine s_iload_n dX3_most_8 2 rfl ?_
    refine s_callS_I (kX3_isPoint G n K hK p1 p2 h2) (by decide) (by decide) dX3_most_9 q1503 q1504 q109 q1505 hyX3_isPoint rfl rfl (Nat.le_of_ble_eq_true rfl) (fun r5 h6 => ?_)
    refine s_if_ne 17 dX3_most_12 (by decide) (fun c7 => ?_) (fun c7 => ?_)
    · refine s_iconst (0 : Int32) dX3_most_17 (by decide) ?_
      refine s_istore_n [(3, .int (0 : Int32)), (0, .ref p0), (1, .int p1), (2, .int p2)] dX3_most_18 (by decide) (by decide) rfl ?_
      refine s_iconst (0 : Int32) dX3_most_19 (by decide) ?_
      refine s_istore [(4, .int (0 : Int32)), (3, .int (0 : Int32)), (0, .ref p0), (1, .int p1), (2, .int p2)] dX3_most_20 (by decide) (by decide) rfl ?_
      exact sX3_most_L22 G n K hK p0 p1 p2 n (0 : Int32) (0 : Int32) h6
    · refine s_iconst (-1 : Int32) dX3_most_15 (by decide) ?_
      exact s_iret dX3_most_16 rfl rfl
theorem hyX3_isUnbeaten : yX3_isUnbeaten.cls ≠ "java/lang/invoke/MethodHandle" ∧ yX3_isUnbeaten.cls ≠ "java/lang/invoke/VarHandle" ∧ (parseMethodDescriptor yX3_isUnbeaten.desc).map (fun d => d.parameters.length) = some 1 := by decide +kernel
theorem sX3_isUnbeaten_L2 (G : Gl) (n : Nat) (K : Nat → Nat) (hK : K = G.ad) (y3 : Nat) (y4 : Int32) : ∀ (f : Nat) (x2 : Int32) (h : AH), Sim G yX3_isUnbeaten.cls yX3_isUnbeaten.name cX3_isUnbeaten 3 (some .boolean) 6 cvI 2 [(2, .int x2), (0, .ref y3), (1, .int y4)] [] h (F_X3_isUnbeaten_L2 n K y3 y4 f x2 h) := by
  intro f
  induction f with
  | zero =>
    intro x2 h
    exact s_none
  | succ f ih =>
    intro x2 h
    unfold F_X3_isUnbeaten_L2
    refine s_iload_n dX3_isUnbeaten_2 0 rfl ?_
    refine s_aload_n dX3_isUnbeaten_3 1 rfl ?_
    refine s_chk (fun hk7 => ?_)
    refine s_callV_I 4 (kX3_places G n K hK y3 h) (by decide) (by decide) dX3_isUnbeaten_4 hk7 rfl rfl q1495 q1497 qs65 q109 q1498 hyX3_places rfl rfl (Nat.le_of_ble_eq_true rfl) (fun r5 h6 => ?_)
    refine s_icmp_ge 32 dX3_isUnbeaten_7 (by decide) (fun c8 => ?_) (fun c8 => ?_)
    · refine s_iconst (1 : Int32) dX3_isUnbeaten_32 (by decide) ?_
      exact s_zret dX3_isUnbeaten_33 rfl rfl rfl
    · refine s_iload_n dX3_isUnbeaten_10 0 rfl ?_
      refine s_iload_n dX3_isUnbeaten_11 2 rfl ?_
      refine s_icmp_eq 26 dX3_isUnbeaten_12 (by decide) (fun c9 => ?_) (fun c9 => ?_)
      · refine s_iinc (1 : Int32) [(2, .int (x2 + (1 : Int32))), (0, .ref y3), (1, .int y4)] dX3_isUnbeaten_26 0 rfl (by decide) (by decide) (by decide) rfl ?_
        refine s_goto 2 dX3_isUnbeaten_29 (by decide) ?_
        exact ih (x2 + (1 : Int32)) h6
      · refine s_aload_n dX3_isUnbeaten_15 1 rfl ?_
        refine s_iload_n dX3_isUnbeaten_16 0 rfl ?_
        refine s_iload_n dX3_isUnbeaten_17 2 rfl ?_
        refine s_chk (fun hk12 => ?_)
        refine s_callV_I 4 (kX3_beatsOf G n K hK y3 x2 y4 h6) (by decide) (by decide) dX3_isUnbeaten_18 hk12 rfl rfl q1536 q1538 qs70 q109 q1539 hyX3_beatsOf rfl rfl (Nat.le_of_ble_eq_true rfl) (fun r10 h11 => ?_)
        refine s_if_eq 26 dX3_isUnbeaten_21 (by decide) (fun c13 => ?_) (fun c13 => ?_)
        · refine s_iinc (1 : Int32) [(2, .int (x2 + (1 : Int32))), (0, .ref y3), (1, .int y4)] dX3_isUnbeaten_26 0 rfl (by decide) (by decide) (by decide) rfl ?_
          refine s_goto 2 dX3_isUnbeaten_29 (by decide) ?_
          exact ih (x2 + (1 : Int32)) h11
        · refine s_iconst (0 : Int32) dX3_isUnbeaten_24 (by decide) ?_
          exact s_zret dX3_isUnbeaten_25 rfl rfl rfl
theorem kX3_isUnbeaten (G : Gl) (n : Nat) (K : Nat → Nat) (hK : K = G.ad) (p0 : Nat) (p1 : Int32) (h : AH) : OkM G yX3_isUnbeaten cX3_isUnbeaten 3 (some .boolean) 6 cvI [.ref p0, .int p1] h (F_X3_isUnbeaten n K p0 p1 h) := by
  refine ok_of_sim [(0, .ref p0), (1, .int p1)] (by decide +kernel) (fun r => ⟨_, rfl⟩) (by simp [uns, lv_args, lg_sl, catI, catL, catA, va_rfc]) (by simp [uns, lv_args, lg_sl, catI, catL, catA, va_rfc]) (by simp [uns, lv_args, lg_sl, catI, catL, catA, va_rfc]) ?_
  unfold F_X3_isUnbeaten
  refine s_iconst (0 : Int32) dX3_isUnbeaten_0 (by decide) ?_
  refine s_istore_n [(2, .int (0 : Int32)), (0, .ref p0), (1, .int p1)] dX3_isUnbeaten_1 (by decide) (by decide) rfl ?_
  exact sX3_isUnbeaten_L2 G n K hK p0 p1 n (0 : Int32) h
theorem hyX3_peace : yX3_peace.cls ≠ "java/lang/invoke/MethodHandle" ∧ yX3_peace.cls ≠ "java/lang/invoke/VarHandle" ∧ (parseMethodDescriptor yX3_peace.desc).map (fun d => d.parameters.length) = some 0 := by decide +kernel
theorem sX3_peace_L2 (G : Gl) (n : Nat) (K : Nat → Nat) (hK : K = G.ad) (y3 : Nat) : ∀ (f : Nat) (x2 : Int32) (h : AH), Sim G yX3_peace.cls yX3_peace.name cX3_peace 2 (some .int) 7 cvI 2 [(1, .int x2), (0, .ref y3)] [] h (F_X3_peace_L2 n K y3 f x2 h) := by
  intro f
  induction f with
  | zero =>
    intro x2 h
    exact s_none
  | succ f ih =>
    intro x2 h
    unfold F_X3_peace_L2
    refine s_iload_n dX3_peace_2 0 rfl ?_
    refine s_aload_n dX3_peace_3 1 rfl ?_
    refine s_chk (fun hk6 => ?_)
    refine s_callV_I 4 (kX3_places G n K hK y3 h) (by decide) (by decide) dX3_peace_4 hk6 rfl rfl q1495 q1497 qs65 q109 q1498 hyX3_places rfl rfl (Nat.le_of_ble_eq_true rfl) (fun r4 h5 => ?_)
    refine s_icmp_ge 26 dX3_peace_7 (by decide) (fun c7 => ?_) (fun c7 => ?_)
    · refine s_iconst (-1 : Int32) dX3_peace_26 (by decide) ?_
      exact s_iret dX3_peace_27 rfl rfl
    · refine s_aload_n dX3_peace_10 1 rfl ?_
      refine s_iload_n dX3_peace_11 0 rfl ?_
      refine s_chk (fun hk10 => ?_)
      refine s_callV_I 4 (kX3_isUnbeaten G n K hK y3 x2 h5) (by decide) (by decide) dX3_peace_12 hk10 rfl rfl q1714 q1716 qs97 q109 q1717 hyX3_isUnbeaten rfl rfl (Nat.le_of_ble_eq_true rfl) (fun r8 h9 => ?_)
      refine s_if_eq 20 dX3_peace_15 (by decide) (fun c11 => ?_) (fun c11 => ?_)
      · refine s_iinc (1 : Int32) [(1, .int (x2 + (1 : Int32))), (0, .ref y3)] dX3_peace_20 0 rfl (by decide) (by decide) (by decide) rfl ?_
        refine s_goto 2 dX3_peace_23 (by decide) ?_
        exact ih (x2 + (1 : Int32)) h9
      · refine s_iload_n dX3_peace_18 0 rfl ?_
        exact s_iret dX3_peace_19 rfl rfl
theorem kX3_peace (G : Gl) (n : Nat) (K : Nat → Nat) (hK : K = G.ad) (p0 : Nat) (h : AH) : OkM G yX3_peace cX3_peace 2 (some .int) 7 cvI [.ref p0] h (F_X3_peace n K p0 h) := by
  refine ok_of_sim [(0, .ref p0)] (by decide +kernel) (fun r => ⟨_, rfl⟩) (by simp [uns, lv_args, lg_sl, catI, catL, catA, va_rfc]) (by simp [uns, lv_args, lg_sl, catI, catL, catA, va_rfc]) (by simp [uns, lv_args, lg_sl, catI, catL, catA, va_rfc]) ?_
  unfold F_X3_peace
  refine s_iconst (0 : Int32) dX3_peace_0 (by decide) ?_
  refine s_istore_n [(1, .int (0 : Int32)), (0, .ref p0)] dX3_peace_1 (by decide) (by decide) rfl ?_
  exact sX3_peace_L2 G n K hK p0 n (0 : Int32) h
theorem hyX3_make : yX3_make.cls ≠ "java/lang/invoke/MethodHandle" ∧ yX3_make.cls ≠ "java/lang/invoke/VarHandle" ∧ (parseMethodDescriptor yX3_make.desc).map (fun d => d.parameters.length) = some 1 := by decide +kernel
theorem sX3_make_L58 (G : Gl) (n : Nat) (K : Nat → Nat) (hK : K = G.ad) (y33 : Int32) (y34 : Int32) (y35 : Int32) (y39 : Nat) (y40 : Int32) : ∀ (f : Nat) (x32 : Int32) (x36 : Int32) (x37 : Int32) (x38 : Int32) (h : AH) (k : Int32 → Int32 → Int32 → AH → Option (Int32 × AH)) (hk : ∀ (x36 : Int32) (x37 : Int32) (x38 : Int32) (h : AH), Sim G yX3_make.cls yX3_make.name cX3_make 12 (some .int) 8 cvI 215 [(5, .int y35), (4, .int x36), (3, .int x37), (2, .int x38), (0, .ref y39), (1, .int y40)] [] h (k x36 x37 x38 h)), Sim G yX3_make.cls yX3_make.name cX3_make 12 (some .int) 8 cvI 58 [(8, .int x32), (7, .int y33), (6, .int y34), (5, .int y35), (4, .int x36), (3, .int x37), (2, .int x38), (0, .ref y39), (1, .int y40)] [] h (F_X3_make_L58 n K y33 y34 y35 y39 y40 f x32 x36 x37 x38 h k) := by
  intro f
  induction f with
  | zero =>
    intro x32 x36 x37 x38 h k hk
    exact s_none
  | succ f ih =>
    intro x32 x36 x37 x38 h k hk
    unfold F_X3_make_L58
    refine s_iload dX3_make_58 0 rfl (by decide) ?_
    refine s_aload_n dX3_make_60 7 rfl ?_
    refine s_chk (fun hk43 => ?_)
    refine s_callV_I 4 (kX3_places G n K hK y39 h) (by decide) (by decide) dX3_make_61 hk43 rfl rfl q1495 q1497 qs65 q109 q1498 hyX3_places rfl rfl (Nat.le_of_ble_eq_true rfl) (fun r41 h42 => ?_)
    refine s_icmp_ge 215 dX3_make_64 (by decide) (fun c44 => ?_) (fun c44 => ?_)
    · refine s_sub [3, 4, 5, 6, 7, 8] rfl ?_
      exact hk x36 x37 x38 h42
    · refine s_aload_n dX3_make_67 7 rfl ?_
      refine s_chk (fun hk45 => ?_)
      refine s_get (j := 12) 4 (va_rf (h42.R y39 12)) dX3_make_68 hk45 rfl (by decide) q1249 (Or.inl rfl) rfl ?_
      refine s_iconst (0 : Int32) dX3_make_71 (by decide) ?_
      refine s_ob (r := h42.R y39 12) (fun z => [(8, .int x32), (7, .int y33), (6, .int y34), (5, .int y35), (4, .int x36), (3, .int x37), (2, .int x38), (0, .ref y39), (1, .int y40)]) (fun z => [.int (0 : Int32), z]) (fun a46 => ?_)
      refine s_chk (fun hk47 => ?_)
      refine s_chk (fun hi48 => ?_)
      refine s_aald dX3_make_72 hk47 rfl rfl rfl hi48 ?_
      refine s_iload dX3_make_73 0 rfl (by decide) ?_
      refine s_ob (r := h42.R a46 (ix (0 : Int32))) (fun z => [(8, .int x32), (7, .int y33), (6, .int y34), (5, .int y35), (4, .int x36), (3, .int x37), (2, .int x38), (0, .ref y39), (1, .int y40)]) (fun z => [.int x32, z]) (fun a49 => ?_)
      refine s_chk (fun hk50 => ?_)
      refine s_chk (fun hi51 => ?_)
      refine s_iald dX3_make_75 hk50 rfl hi51 ?_
      refine s_iload dX3_make_76 2 rfl (by decide) ?_
      refine s_isub dX3_make_78 ?_
      refine s_istore [(9, .int ((h42.I a49 (ix x32)) - y34)), (8, .int x32), (7, .int y33), (6, .int y34), (5, .int y35), (4, .int x36), (3, .int x37), (2, .int x38), (0, .ref y39), (1, .int y40)] dX3_make_79 (by decide) (by decide) rfl ?_
      refine s_aload_n dX3_make_81 8 rfl ?_
      refine s_get (j := 13) 4 (va_rf (h42.R y39 13)) dX3_make_82 hk45 rfl (by decide) q1250 (Or.inl rfl) rfl ?_
      refine s_iconst (0 : Int32) dX3_make_85 (by decide) ?_
      refine s_ob (r := h42.R y39 13) (fun z => [(9, .int ((h42.I a49 (ix x32)) - y34)), (8, .int x32), (7, .int y33), (6, .int y34), (5, .int y35), (4, .int x36), (3, .int x37), (2, .int x38), (0, .ref y39), (1, .int y40)]) (fun z => [.int (0 : Int32), z]) (fun a52 => ?_)
      refine s_chk (fun hk53 => ?_)
      refine s_chk (fun hi54 => ?_)
      refine s_aald dX3_make_86 hk53 rfl rfl rfl hi54 ?_
      refine s_iload dX3_make_87 1 rfl (by decide) ?_
      refine s_ob (r := h42.R a52 (ix (0 : Int32))) (fun z => [(9, .int ((h42.I a49 (ix x32)) - y34)), (8, .int x32), (7, .int y33), (6, .int y34), (5, .int y35), (4, .int x36), (3, .int x37), (2, .int x38), (0, .ref y39), (1, .int y40)]) (fun z => [.int x32, z]) (fun a55 => ?_)
      refine s_chk (fun hk56 => ?_)
      refine s_chk (fun hi57 => ?_)
      refine s_iald dX3_make_89 hk56 rfl hi57 ?_
      refine s_iload dX3_make_90 2 rfl (by decide) ?_
      refine s_isub dX3_make_92 ?_
      refine s_istore [(10, .int ((h42.I a55 (ix x32)) - y33)), (9, .int ((h42.I a49 (ix x32)) - y34)), (8, .int x32), (7, .int y33), (6, .int y34), (5, .int y35), (4, .int x36), (3, .int x37), (2, .int x38), (0, .ref y39), (1, .int y40)] dX3_make_93 (by decide) (by decide) rfl ?_
      refine s_iload dX3_make_95 1 rfl (by decide) ?_
      refine s_iload dX3_make_97 1 rfl (by decide) ?_
      refine s_imul dX3_make_99 ?_
      refine s_iload dX3_make_100 0 rfl (by decide) ?_
      refine s_iload dX3_make_102 0 rfl (by decide) ?_
      refine s_imul dX3_make_104 ?_
      refine s_iadd dX3_make_105 ?_
      refine s_aload_n dX3_make_106 9 rfl ?_
      refine s_get (j := 8) 4 (va_rf (h42.R y39 8)) dX3_make_107 hk45 rfl (by decide) q1245 (Or.inl rfl) rfl ?_
      refine s_iconst (0 : Int32) dX3_make_110 (by decide) ?_
      refine s_ob (r := h42.R y39 8) (fun z => [(10, .int ((h42.I a55 (ix x32)) - y33)), (9, .int ((h42.I a49 (ix x32)) - y34)), (8, .int x32), (7, .int y33), (6, .int y34), (5, .int y35), (4, .int x36), (3, .int x37), (2, .int x38), (0, .ref y39), (1, .int y40)]) (fun z => [.int (0 : Int32), z, .int ((((h42.I a49 (ix x32)) - y34) * ((h42.I a49 (ix x32)) - y34)) + (((h42.I a55 (ix x32)) - y33) * ((h42.I a55 (ix x32)) - y33)))]) (fun a58 => ?_)
      refine s_chk (fun hk59 => ?_)
      refine s_chk (fun hi60 => ?_)
      refine s_aald dX3_make_111 hk59 rfl rfl rfl hi60 ?_
      refine s_iload dX3_make_112 5 rfl (by decide) ?_
      refine s_ob (r := h42.R a58 (ix (0 : Int32))) (fun z => [(10, .int ((h42.I a55 (ix x32)) - y33)), (9, .int ((h42.I a49 (ix x32)) - y34)), (8, .int x32), (7, .int y33), (6, .int y34), (5, .int y35), (4, .int x36), (3, .int x37), (2, .int x38), (0, .ref y39), (1, .int y40)]) (fun z => [.int y35, z, .int ((((h42.I a49 (ix x32)) - y34) * ((h42.I a49 (ix x32)) - y34)) + (((h42.I a55 (ix x32)) - y33) * ((h42.I a55 (ix x32)) - y33)))]) (fun a61 => ?_)
      refine s_chk (fun hk62 => ?_)
      refine s_chk (fun hi63 => ?_)
      refine s_iald dX3_make_114 hk62 rfl hi63 ?_
      refine s_imul dX3_make_115 ?_
      refine s_istore [(11, .int (((((h42.I a49 (ix x32)) - y34) * ((h42.I a49 (ix x32)) - y34)) + (((h42.I a55 (ix x32)) - y33) * ((h42.I a55 (ix x32)) - y33))) * (h42.I a61 (ix y35)))), (10, .int ((h42.I a55 (ix x32)) - y33)), (9, .int ((h42.I a49 (ix x32)) - y34)), (8, .int x32), (7, .int y33), (6, .int y34), (5, .int y35), (4, .int x36), (3, .int x37), (2, .int x38), (0, .ref y39), (1, .int y40)] dX3_make_116 (by decide) (by decide) rfl ?_
      refine s_iload_n dX3_make_118 9 rfl ?_
      refine s_iconst (-1 : Int32) dX3_make_119 (by decide) ?_
      refine s_jn (fun j64 => Sim G yX3_make.cls yX3_make.name cX3_make 12 (some .int) 8 cvI 133 [(11, .int (((((h42.I a49 (ix x32)) - y34) * ((h42.I a49 (ix x32)) - y34)) + (((h42.I a55 (ix x32)) - y33) * ((h42.I a55 (ix x32)) - y33))) * (h42.I a61 (ix y35)))), (8, .int x32), (7, .int y33), (6, .int y34), (5, .int y35), (4, .int x36), (3, .int x37), (2, .int x38), (0, .ref y39), (1, .int y40)] [] h42 (j64 )) ?_ (fun j64 hj118 => ?_)
      · skip
        refine s_aload_n dX3_make_133 8 rfl ?_
        refine s_get (j := 6) 4 (va_rf (h42.R y39 6)) dX3_make_134 hk45 rfl (by decide) q1243 (Or.inl rfl) rfl ?_
        refine s_iconst (0 : Int32) dX3_make_137 (by decide) ?_
        refine s_ob (r := h42.R y39 6) (fun z => [(11, .int (((((h42.I a49 (ix x32)) - y34) * ((h42.I a49 (ix x32)) - y34)) + (((h42.I a55 (ix x32)) - y33) * ((h42.I a55 (ix x32)) - y33))) * (h42.I a61 (ix y35)))), (8, .int x32), (7, .int y33), (6, .int y34), (5, .int y35), (4, .int x36), (3, .int x37), (2, .int x38), (0, .ref y39), (1, .int y40)]) (fun z => [.int (0 : Int32), z]) (fun a65 => ?_)
        refine s_chk (fun hk66 => ?_)
        refine s_chk (fun hi67 => ?_)
        refine s_aald dX3_make_138 hk66 rfl rfl rfl hi67 ?_
        refine s_iload dX3_make_139 4 rfl (by decide) ?_
        refine s_aload_n dX3_make_141 8 rfl ?_
        refine s_get (j := 12) 4 (va_rf (h42.R y39 12)) dX3_make_142 hk45 rfl (by decide) q1249 (Or.inl rfl) rfl ?_
        refine s_iconst (0 : Int32) dX3_make_145 (by decide) ?_
        refine s_ob (r := h42.R y39 12) (fun z => [(11, .int (((((h42.I a49 (ix x32)) - y34) * ((h42.I a49 (ix x32)) - y34)) + (((h42.I a55 (ix x32)) - y33) * ((h42.I a55 (ix x32)) - y33))) * (h42.I a61 (ix y35)))), (8, .int x32), (7, .int y33), (6, .int y34), (5, .int y35), (4, .int x36), (3, .int x37), (2, .int x38), (0, .ref y39), (1, .int y40)]) (fun z => [.int (0 : Int32), z, .int y35, va_rf (h42.R a65 (ix (0 : Int32)))]) (fun a68 => ?_)
        refine s_chk (fun hk69 => ?_)
        refine s_chk (fun hi70 => ?_)
        refine s_aald dX3_make_146 hk69 rfl rfl rfl hi70 ?_
        refine s_iload dX3_make_147 1 rfl (by decide) ?_
        refine s_ob (r := h42.R a68 (ix (0 : Int32))) (fun z => [(11, .int (((((h42.I a49 (ix x32)) - y34) * ((h42.I a49 (ix x32)) - y34)) + (((h42.I a55 (ix x32)) - y33) * ((h42.I a55 (ix x32)) - y33))) * (h42.I a61 (ix y35)))), (8, .int x32), (7, .int y33), (6, .int y34), (5, .int y35), (4, .int x36), (3, .int x37), (2, .int x38), (0, .ref y39), (1, .int y40)]) (fun z => [.int x32, z, .int y35, va_rf (h42.R a65 (ix (0 : Int32)))]) (fun a71 => ?_)
        refine s_chk (fun hk72 => ?_)
        refine s_chk (fun hi73 => ?_)
        refine s_iald dX3_make_149 hk72 rfl hi73 ?_
        refine s_ob (r := h42.R a65 (ix (0 : Int32))) (fun z => [(11, .int (((((h42.I a49 (ix x32)) - y34) * ((h42.I a49 (ix x32)) - y34)) + (((h42.I a55 (ix x32)) - y33) * ((h42.I a55 (ix x32)) - y33))) * (h42.I a61 (ix y35)))), (8, .int x32), (7, .int y33), (6, .int y34), (5, .int y35), (4, .int x36), (3, .int x37), (2, .int x38), (0, .ref y39), (1, .int y40)]) (fun z => [.int (h42.I a71 (ix x32)), .int y35, z]) (fun a74 => ?_)
        refine s_chk (fun hk75 => ?_)
        refine s_chk (fun hi76 => ?_)
        refine s_iast dX3_make_150 hk75 rfl (by decide) hi76 ?_
        refine s_hl (fun h77 e78 => ?_)
        refine s_aload_n dX3_make_151 8 rfl ?_
        refine s_get (j := 7) 4 (va_rf (h77.R y39 7)) dX3_make_152 (show h77.kind y39 = 5 by rw [e78]; exact hk45) rfl (by decide) q1244 (Or.inl rfl) rfl ?_
        refine s_iconst (0 : Int32) dX3_make_155 (by decide) ?_
        refine s_ob (r := h77.R y39 7) (fun z => [(11, .int (((((h42.I a49 (ix x32)) - y34) * ((h42.I a49 (ix x32)) - y34)) + (((h42.I a55 (ix x32)) - y33) * ((h42.I a55 (ix x32)) - y33))) * (h42.I a61 (ix y35)))), (8, .int x32), (7, .int y33), (6, .int y34), (5, .int y35), (4, .int x36), (3, .int x37), (2, .int x38), (0, .ref y39), (1, .int y40)]) (fun z => [.int (0 : Int32), z]) (fun a79 => ?_)
        refine s_chk (fun hk80 => ?_)
        refine s_chk (fun hi81 => ?_)
        refine s_aald dX3_make_156 hk80 rfl rfl rfl hi81 ?_
        refine s_iload dX3_make_157 4 rfl (by decide) ?_
        refine s_aload_n dX3_make_159 8 rfl ?_
        refine s_get (j := 13) 4 (va_rf (h77.R y39 13)) dX3_make_160 (show h77.kind y39 = 5 by rw [e78]; exact hk45) rfl (by decide) q1250 (Or.inl rfl) rfl ?_
        refine s_iconst (0 : Int32) dX3_make_163 (by decide) ?_
        refine s_ob (r := h77.R y39 13) (fun z => [(11, .int (((((h42.I a49 (ix x32)) - y34) * ((h42.I a49 (ix x32)) - y34)) + (((h42.I a55 (ix x32)) - y33) * ((h42.I a55 (ix x32)) - y33))) * (h42.I a61 (ix y35)))), (8, .int x32), (7, .int y33), (6, .int y34), (5, .int y35), (4, .int x36), (3, .int x37), (2, .int x38), (0, .ref y39), (1, .int y40)]) (fun z => [.int (0 : Int32), z, .int y35, va_rf (h77.R a79 (ix (0 : Int32)))]) (fun a82 => ?_)
        refine s_chk (fun hk83 => ?_)
        refine s_chk (fun hi84 => ?_)
        refine s_aald dX3_make_164 hk83 rfl rfl rfl hi84 ?_
        refine s_iload dX3_make_165 1 rfl (by decide) ?_
        refine s_ob (r := h77.R a82 (ix (0 : Int32))) (fun z => [(11, .int (((((h42.I a49 (ix x32)) - y34) * ((h42.I a49 (ix x32)) - y34)) + (((h42.I a55 (ix x32)) - y33) * ((h42.I a55 (ix x32)) - y33))) * (h42.I a61 (ix y35)))), (8, .int x32), (7, .int y33), (6, .int y34), (5, .int y35), (4, .int x36), (3, .int x37), (2, .int x38), (0, .ref y39), (1, .int y40)]) (fun z => [.int x32, z, .int y35, va_rf (h77.R a79 (ix (0 : Int32)))]) (fun a85 => ?_)
        refine s_chk (fun hk86 => ?_)
        refine s_chk (fun hi87 => ?_)
        refine s_iald dX3_make_167 hk86 rfl hi87 ?_
        refine s_ob (r := h77.R a79 (ix (0 : Int32))) (fun z => [(11, .int (((((h42.I a49 (ix x32)) - y34) * ((h42.I a49 (ix x32)) - y34)) + (((h42.I a55 (ix x32)) - y33) * ((h42.I a55 (ix x32)) - y33))) * (h42.I a61 (ix y35)))), (8, .int x32), (7, .int y33), (6, .int y34), (5, .int y35), (4, .int x36), (3, .int x37), (2, .int x38), (0, .ref y39), (1, .int y40)]) (fun z => [.int (h77.I a85 (ix x32)), .int y35, z]) (fun a88 => ?_)
        refine s_chk (fun hk89 => ?_)
        refine s_chk (fun hi90 => ?_)
        refine s_iast dX3_make_168 hk89 rfl (by decide) hi90 ?_
        refine s_hl (fun h91 e92 => ?_)
        refine s_aload_n dX3_make_169 8 rfl ?_
        refine s_callV_I 4 (kX3_peace G n K hK y39 h91) (by decide) (by decide) dX3_make_170 (show h91.kind y39 = 5 by rw [e92, e78]; exact hk45) rfl rfl q1722 q1711 q1712 q109 q1713 hyX3_peace rfl rfl (Nat.le_of_ble_eq_true rfl) (fun r93 h94 => ?_)
        refine s_iconst (-1 : Int32) dX3_make_173 (by decide) ?_
        refine s_jn (fun j98 => ∀ (x95 : Int32) (x96 : Int32) (x97 : Int32), Sim G yX3_make.cls yX3_make.name cX3_make 12 (some .int) 8 cvI 187 [(8, .int x32), (7, .int y33), (6, .int y34), (5, .int y35), (0, .ref y39), (1, .int y40), (2, .int x95), (3, .int x96), (4, .int x97)] [] h94 (j98 x95 x96 x97)) ?_ (fun j98 hj116 => ?_)
        · intro x95 x96 x97
          refine s_aload_n dX3_make_187 4 rfl ?_
          refine s_chk (fun hk99 => ?_)
          refine s_get (j := 6) 4 (va_rf (h94.R y39 6)) dX3_make_188 hk99 rfl (by decide) q1243 (Or.inl rfl) rfl ?_
          refine s_iconst (0 : Int32) dX3_make_191 (by decide) ?_
          refine s_ob (r := h94.R y39 6) (fun z => [(8, .int x32), (7, .int y33), (6, .int y34), (5, .int y35), (0, .ref y39), (1, .int y40), (2, .int x95), (3, .int x96), (4, .int x97)]) (fun z => [.int (0 : Int32), z]) (fun a100 => ?_)
          refine s_chk (fun hk101 => ?_)
          refine s_chk (fun hi102 => ?_)
          refine s_aald dX3_make_192 hk101 rfl rfl rfl hi102 ?_
          refine s_iload dX3_make_193 3 rfl (by decide) ?_
          refine s_iload dX3_make_195 2 rfl (by decide) ?_
          refine s_ob (r := h94.R a100 (ix (0 : Int32))) (fun z => [(8, .int x32), (7, .int y33), (6, .int y34), (5, .int y35), (0, .ref y39), (1, .int y40), (2, .int x95), (3, .int x96), (4, .int x97)]) (fun z => [.int y34, .int y35, z]) (fun a103 => ?_)
          refine s_chk (fun hk104 => ?_)
          refine s_chk (fun hi105 => ?_)
          refine s_iast dX3_make_197 hk104 rfl (by decide) hi105 ?_
          refine s_hl (fun h106 e107 => ?_)
          refine s_aload_n dX3_make_198 4 rfl ?_
          refine s_get (j := 7) 4 (va_rf (h106.R y39 7)) dX3_make_199 (show h106.kind y39 = 5 by rw [e107]; exact hk99) rfl (by decide) q1244 (Or.inl rfl) rfl ?_
          refine s_iconst (0 : Int32) dX3_make_202 (by decide) ?_
          refine s_ob (r := h106.R y39 7) (fun z => [(8, .int x32), (7, .int y33), (6, .int y34), (5, .int y35), (0, .ref y39), (1, .int y40), (2, .int x95), (3, .int x96), (4, .int x97)]) (fun z => [.int (0 : Int32), z]) (fun a108 => ?_)
          refine s_chk (fun hk109 => ?_)
          refine s_chk (fun hi110 => ?_)
          refine s_aald dX3_make_203 hk109 rfl rfl rfl hi110 ?_
          refine s_iload dX3_make_204 3 rfl (by decide) ?_
          refine s_iload dX3_make_206 1 rfl (by decide) ?_
          refine s_ob (r := h106.R a108 (ix (0 : Int32))) (fun z => [(8, .int x32), (7, .int y33), (6, .int y34), (5, .int y35), (0, .ref y39), (1, .int y40), (2, .int x95), (3, .int x96), (4, .int x97)]) (fun z => [.int y33, .int y35, z]) (fun a111 => ?_)
          refine s_chk (fun hk112 => ?_)
          refine s_chk (fun hi113 => ?_)
          refine s_iast dX3_make_208 hk112 rfl (by decide) hi113 ?_
          refine s_hl (fun h114 e115 => ?_)
          refine s_iinc (1 : Int32) [(8, .int (x32 + (1 : Int32))), (7, .int y33), (6, .int y34), (5, .int y35), (0, .ref y39), (1, .int y40), (2, .int x95), (3, .int x96), (4, .int x97)] dX3_make_209 0 rfl (by decide) (by decide) (by decide) rfl ?_
          refine s_goto 58 dX3_make_212 (by decide) ?_
          refine s_sub [0, 1, 2, 3, 8, 7, 6, 4, 5] rfl ?_
          exact ih (x32 + (1 : Int32)) x97 x96 x95 h114 k hk
        refine s_icmp_eq 187 dX3_make_174 (by decide) (fun c117 => ?_) (fun c117 => ?_)
        · refine s_sub [1, 2, 3, 4, 8, 9, 7, 6, 5] rfl ?_
          exact hj116 x38 x37 x36
        · refine s_iload dX3_make_177 4 rfl (by decide) ?_
          refine s_istore_n [(2, .int y35), (11, .int (((((h42.I a49 (ix x32)) - y34) * ((h42.I a49 (ix x32)) - y34)) + (((h42.I a55 (ix x32)) - y33) * ((h42.I a55 (ix x32)) - y33))) * (h42.I a61 (ix y35)))), (8, .int x32), (7, .int y33), (6, .int y34), (5, .int y35), (4, .int x36), (3, .int x37), (0, .ref y39), (1, .int y40)] dX3_make_179 (by decide) (by decide) rfl ?_
          refine s_iload dX3_make_180 2 rfl (by decide) ?_
          refine s_istore_n [(3, .int x32), (2, .int y35), (11, .int (((((h42.I a49 (ix x32)) - y34) * ((h42.I a49 (ix x32)) - y34)) + (((h42.I a55 (ix x32)) - y33) * ((h42.I a55 (ix x32)) - y33))) * (h42.I a61 (ix y35)))), (8, .int x32), (7, .int y33), (6, .int y34), (5, .int y35), (4, .int x36), (0, .ref y39), (1, .int y40)] dX3_make_182 (by decide) (by decide) rfl ?_
          refine s_iload dX3_make_183 2 rfl (by decide) ?_
          refine s_istore [(4, .int (((((h42.I a49 (ix x32)) - y34) * ((h42.I a49 (ix x32)) - y34)) + (((h42.I a55 (ix x32)) - y33) * ((h42.I a55 (ix x32)) - y33))) * (h42.I a61 (ix y35)))), (3, .int x32), (2, .int y35), (11, .int (((((h42.I a49 (ix x32)) - y34) * ((h42.I a49 (ix x32)) - y34)) + (((h42.I a55 (ix x32)) - y33) * ((h42.I a55 (ix x32)) - y33))) * (h42.I a61 (ix y35)))), (8, .int x32), (7, .int y33), (6, .int y34), (5, .int y35), (0, .ref y39), (1, .int y40)] dX3_make_185 (by decide) (by decide) rfl ?_
          refine s_sub [4, 5, 6, 7, 8, 9, 2, 1, 0] rfl ?_
          exact hj116 y35 x32 (((((h42.I a49 (ix x32)) - y34) * ((h42.I a49 (ix x32)) - y34)) + (((h42.I a55 (ix x32)) - y33) * ((h42.I a55 (ix x32)) - y33))) * (h42.I a61 (ix y35)))
      refine s_icmp_eq 133 dX3_make_120 (by decide) (fun c119 => ?_) (fun c119 => ?_)
      · refine s_sub [0, 3, 4, 5, 6, 7, 8, 9, 10, 11] rfl ?_
        exact hj118
      · refine s_iload dX3_make_123 0 rfl (by decide) ?_
        refine s_iload dX3_make_125 7 rfl (by decide) ?_
        refine s_icmp_lt 133 dX3_make_127 (by decide) (fun c120 => ?_) (fun c120 => ?_)
        · refine s_sub [0, 3, 4, 5, 6, 7, 8, 9, 10, 11] rfl ?_
          exact hj118
        · refine s_goto 209 dX3_make_130 (by decide) ?_
          refine s_iinc (1 : Int32) [(8, .int (x32 + (1 : Int32))), (11, .int (((((h42.I a49 (ix x32)) - y34) * ((h42.I a49 (ix x32)) - y34)) + (((h42.I a55 (ix x32)) - y33) * ((h42.I a55 (ix x32)) - y33))) * (h42.I a61 (ix y35)))), (10, .int ((h42.I a55 (ix x32)) - y33)), (9, .int ((h42.I a49 (ix x32)) - y34)), (7, .int y33), (6, .int y34), (5, .int y35), (4, .int x36), (3, .int x37), (2, .int x38), (0, .ref y39), (1, .int y40)] dX3_make_209 3 rfl (by decide) (by decide) (by decide) rfl ?_
          refine s_goto 58 dX3_make_212 (by decide) ?_
          refine s_sub [0, 4, 5, 6, 7, 8, 9, 10, 11] rfl ?_
          exact ih (x32 + (1 : Int32)) x36 x37 x38 h42 k hk
theorem sX3_make_L24 (G : Gl) (n : Nat) (K : Nat → Nat) (hK : K = G.ad) (y9 : Nat) (y10 : Int32) : ∀ (f : Nat) (x5 : Int32) (x6 : Int32) (x7 : Int32) (x8 : Int32) (h : AH), Sim G yX3_make.cls yX3_make.name cX3_make 12 (some .int) 8 cvI 24 [(5, .int x5), (4, .int x6), (3, .int x7), (2, .int x8), (0, .ref y9), (1, .int y10)] [] h (F_X3_make_L24 n K y9 y10 f x5 x6 x7 x8 h) := by
  intro f
  induction f with
  | zero =>
    intro x5 x6 x7 x8 h
    exact s_none
  | succ f ih =>
    intro x5 x6 x7 x8 h
    unfold F_X3_make_L24
    refine s_iload dX3_make_24 0 rfl (by decide) ?_
    refine s_aload_n dX3_make_26 4 rfl ?_
    refine s_chk (fun hk13 => ?_)
    refine s_callV_I 4 (kX3_voters G n K hK y9 h) (by decide) (by decide) dX3_make_27 hk13 rfl rfl q1475 q1477 qs62 q109 q1478 hyX3_voters rfl rfl (Nat.le_of_ble_eq_true rfl) (fun r11 h12 => ?_)
    refine s_icmp_ge 221 dX3_make_30 (by decide) (fun c14 => ?_) (fun c14 => ?_)
    · refine s_iload_n dX3_make_221 3 rfl ?_
      refine s_iconst (-1 : Int32) dX3_make_222 (by decide) ?_
      refine s_icmp_ne 230 dX3_make_223 (by decide) (fun c15 => ?_) (fun c15 => ?_)
      · refine s_iload_n dX3_make_230 5 rfl ?_
        refine s_if_ne 238 dX3_make_231 (by decide) (fun c16 => ?_) (fun c16 => ?_)
        · refine s_iload_n dX3_make_238 5 rfl ?_
          refine s_iconst (1 : Int32) dX3_make_239 (by decide) ?_
          refine s_icmp_ne 247 dX3_make_240 (by decide) (fun c17 => ?_) (fun c17 => ?_)
          · refine s_iload dX3_make_247 1 rfl (by decide) ?_
            exact s_iret dX3_make_249 rfl rfl
          · refine s_iload_n dX3_make_243 2 rfl ?_
            refine s_goto 249 dX3_make_244 (by decide) ?_
            exact s_iret dX3_make_249 rfl rfl
        · refine s_iload_n dX3_make_234 3 rfl ?_
          refine s_goto 249 dX3_make_235 (by decide) ?_
          exact s_iret dX3_make_249 rfl rfl
      · refine s_iconst (-1 : Int32) dX3_make_226 (by decide) ?_
        refine s_goto 249 dX3_make_227 (by decide) ?_
        exact s_iret dX3_make_249 rfl rfl
    · refine s_aload_n dX3_make_33 4 rfl ?_
      refine s_chk (fun hk18 => ?_)
      refine s_get (j := 6) 4 (va_rf (h12.R y9 6)) dX3_make_34 hk18 rfl (by decide) q1243 (Or.inl rfl) rfl ?_
      refine s_iconst (0 : Int32) dX3_make_37 (by decide) ?_
      refine s_ob (r := h12.R y9 6) (fun z => [(5, .int x5), (4, .int x6), (3, .int x7), (2, .int x8), (0, .ref y9), (1, .int y10)]) (fun z => [.int (0 : Int32), z]) (fun a19 => ?_)
      refine s_chk (fun hk20 => ?_)
      refine s_chk (fun hi21 => ?_)
      refine s_aald dX3_make_38 hk20 rfl rfl rfl hi21 ?_
      refine s_iload dX3_make_39 0 rfl (by decide) ?_
      refine s_ob (r := h12.R a19 (ix (0 : Int32))) (fun z => [(5, .int x5), (4, .int x6), (3, .int x7), (2, .int x8), (0, .ref y9), (1, .int y10)]) (fun z => [.int x5, z]) (fun a22 => ?_)
      refine s_chk (fun hk23 => ?_)
      refine s_chk (fun hi24 => ?_)
      refine s_iald dX3_make_41 hk23 rfl hi24 ?_
      refine s_istore [(6, .int (h12.I a22 (ix x5))), (5, .int x5), (4, .int x6), (3, .int x7), (2, .int x8), (0, .ref y9), (1, .int y10)] dX3_make_42 (by decide) (by decide) rfl ?_
      refine s_aload_n dX3_make_44 5 rfl ?_
      refine s_get (j := 7) 4 (va_rf (h12.R y9 7)) dX3_make_45 hk18 rfl (by decide) q1244 (Or.inl rfl) rfl ?_
      refine s_iconst (0 : Int32) dX3_make_48 (by decide) ?_
      refine s_ob (r := h12.R y9 7) (fun z => [(6, .int (h12.I a22 (ix x5))), (5, .int x5), (4, .int x6), (3, .int x7), (2, .int x8), (0, .ref y9), (1, .int y10)]) (fun z => [.int (0 : Int32), z]) (fun a25 => ?_)
      refine s_chk (fun hk26 => ?_)
      refine s_chk (fun hi27 => ?_)
      refine s_aald dX3_make_49 hk26 rfl rfl rfl hi27 ?_
      refine s_iload dX3_make_50 1 rfl (by decide) ?_
      refine s_ob (r := h12.R a25 (ix (0 : Int32))) (fun z => [(6, .int (h12.I a22 (ix x5))), (5, .int x5), (4, .int x6), (3, .int x7), (2, .int x8), (0, .ref y9), (1, .int y10)]) (fun z => [.int x5, z]) (fun a28 => ?_)
      refine s_chk (fun hk29 => ?_)
      refine s_chk (fun hi30 => ?_)
      refine s_iald dX3_make_52 hk29 rfl hi30 ?_
      refine s_istore [(7, .int (h12.I a28 (ix x5))), (6, .int (h12.I a22 (ix x5))), (5, .int x5), (4, .int x6), (3, .int x7), (2, .int x8), (0, .ref y9), (1, .int y10)] dX3_make_53 (by decide) (by decide) rfl ?_
      refine s_iconst (0 : Int32) dX3_make_55 (by decide) ?_
      refine s_istore [(8, .int (0 : Int32)), (7, .int (h12.I a28 (ix x5))), (6, .int (h12.I a22 (ix x5))), (5, .int x5), (4, .int x6), (3, .int x7), (2, .int x8), (0, .ref y9), (1, .int y10)] dX3_make_56 (by decide) (by decide) rfl ?_
      refine sX3_make_L58 G n K hK (h12.I a28 (ix x5)) (h12.I a22 (ix x5)) x5 y9 y10 n (0 : Int32) x6 x7 x8 h12 _ ?_
      intro x121 x122 x123 h124
      refine s_iinc (1 : Int32) [(5, .int (x5 + (1 : Int32))), (4, .int x121), (3, .int x122), (2, .int x123), (0, .ref y9), (1, .int y10)] dX3_make_215 0 rfl (by decide) (by decide) (by decide) rfl ?_
      refine s_goto 24 dX3_make_218 (by decide) ?_
      exact ih (x5 + (1 : Int32)) x121 x122 x123 h124
theorem kX3_make (G : Gl) (n : Nat) (K : Nat → Nat) (hK : K = G.ad) (p0 : Nat) (p1 : Int32) (h : AH) : OkM G yX3_make cX3_make 12 (some .int) 8 cvI [.ref p0, .int p1] h (F_X3_make n K p0 p1 h) := by
  refine ok_of_sim [(0, .ref p0), (1, .int p1)] (by decide +kernel) (fun r => ⟨_, rfl⟩) (by simp [uns, lv_args, lg_sl, catI, catL, catA, va_rfc]) (by simp [uns, lv_args, lg_sl, catI, catL, catA, va_rfc]) (by simp [uns, lv_args, lg_sl, catI, catL, catA, va_rfc]) ?_
  unfold F_X3_make
  refine s_iload_n dX3_make_0 1 rfl ?_
  refine s_i2l dX3_make_1 ?_
  refine s_lconst (0 : Int64) dX3_make_2 (by decide) ?_
  refine s_ldc2 (v := (2 : Int64)) dX3_make_3 q1609 ?_
  refine s_callS_I (kX3_in G n K hK p1.toInt64 (0 : Int64) (2 : Int64) h) (by decide) (by decide) dX3_make_6 q1397 q1398 q109 q1399 hyX3_in rfl rfl (Nat.le_of_ble_eq_true rfl) (fun r1 h2 => ?_)
  refine s_if_ne 14 dX3_make_9 (by decide) (fun c3 => ?_) (fun c3 => ?_)
  · refine s_iconst (-1 : Int32) dX3_make_14 (by decide) ?_
    refine s_istore_n [(2, .int (-1 : Int32)), (0, .ref p0), (1, .int p1)] dX3_make_15 (by decide) (by decide) rfl ?_
    refine s_iconst (-1 : Int32) dX3_make_16 (by decide) ?_
    refine s_istore_n [(3, .int (-1 : Int32)), (2, .int (-1 : Int32)), (0, .ref p0), (1, .int p1)] dX3_make_17 (by decide) (by decide) rfl ?_
    refine s_iconst (0 : Int32) dX3_make_18 (by decide) ?_
    refine s_istore [(4, .int (0 : Int32)), (3, .int (-1 : Int32)), (2, .int (-1 : Int32)), (0, .ref p0), (1, .int p1)] dX3_make_19 (by decide) (by decide) rfl ?_
    refine s_iconst (0 : Int32) dX3_make_21 (by decide) ?_
    refine s_istore [(5, .int (0 : Int32)), (4, .int (0 : Int32)), (3, .int (-1 : Int32)), (2, .int (-1 : Int32)), (0, .ref p0), (1, .int p1)] dX3_make_22 (by decide) (by decide) rfl ?_
    exact sX3_make_L24 G n K hK p0 p1 n (0 : Int32) (0 : Int32) (-1 : Int32) (-1 : Int32) h2
  · refine s_iconst (-1 : Int32) dX3_make_12 (by decide) ?_
    exact s_iret dX3_make_13 rfl rfl
theorem hyX3_joins : yX3_joins.cls ≠ "java/lang/invoke/MethodHandle" ∧ yX3_joins.cls ≠ "java/lang/invoke/VarHandle" ∧ (parseMethodDescriptor yX3_joins.desc).map (fun d => d.parameters.length) = some 2 := by decide +kernel
theorem sX3_joins_L2 (G : Gl) (n : Nat) (K : Nat → Nat) (hK : K = G.ad) (y3 : Nat) (y4 : Int32) (y5 : Int32) : ∀ (f : Nat) (x2 : Int32) (h : AH) (k : AH → Option (Int32 × AH)) (hk : ∀ (h : AH), Sim G yX3_joins.cls yX3_joins.name cX3_joins 5 (some .boolean) 7 cvI 93 [(0, .ref y3), (2, .int y5)] [] h (k h)), Sim G yX3_joins.cls yX3_joins.name cX3_joins 5 (some .boolean) 7 cvI 2 [(3, .int x2), (0, .ref y3), (1, .int y4), (2, .int y5)] [] h (F_X3_joins_L2 n K y3 y4 y5 f x2 h k) := by
  intro f
  induction f with
  | zero =>
    intro x2 h k hk
    exact s_none
  | succ f ih =>
    intro x2 h k hk
    unfold F_X3_joins_L2
    refine s_iload_n dX3_joins_2 0 rfl ?_
    refine s_aload_n dX3_joins_3 1 rfl ?_
    refine s_chk (fun hk8 => ?_)
    refine s_callV_I 4 (kX3_voters G n K hK y3 h) (by decide) (by decide) dX3_joins_4 hk8 rfl rfl q1475 q1477 qs62 q109 q1478 hyX3_voters rfl rfl (Nat.le_of_ble_eq_true rfl) (fun r6 h7 => ?_)
    refine s_icmp_ge 93 dX3_joins_7 (by decide) (fun c9 => ?_) (fun c9 => ?_)
    · refine s_sub [1, 3] rfl ?_
      exact hk h7
    · refine s_aload_n dX3_joins_10 1 rfl ?_
      refine s_chk (fun hk10 => ?_)
      refine s_get (j := 42) 4 (va_rf (h7.R y3 42)) dX3_joins_11 hk10 rfl (by decide) q1279 (Or.inl rfl) rfl ?_
      refine s_iload_n dX3_joins_14 0 rfl ?_
      refine s_aload_n dX3_joins_15 1 rfl ?_
      refine s_get (j := 6) 4 (va_rf (h7.R y3 6)) dX3_joins_16 hk10 rfl (by decide) q1243 (Or.inl rfl) rfl ?_
      refine s_iconst (0 : Int32) dX3_joins_19 (by decide) ?_
      refine s_ob (r := h7.R y3 6) (fun z => [(3, .int x2), (0, .ref y3), (1, .int y4), (2, .int y5)]) (fun z => [.int (0 : Int32), z, .int x2, va_rf (h7.R y3 42)]) (fun a11 => ?_)
      refine s_chk (fun hk12 => ?_)
      refine s_chk (fun hi13 => ?_)
      refine s_aald dX3_joins_20 hk12 rfl rfl rfl hi13 ?_
      refine s_iload_n dX3_joins_21 0 rfl ?_
      refine s_ob (r := h7.R a11 (ix (0 : Int32))) (fun z => [(3, .int x2), (0, .ref y3), (1, .int y4), (2, .int y5)]) (fun z => [.int x2, z, .int x2, va_rf (h7.R y3 42)]) (fun a14 => ?_)
      refine s_chk (fun hk15 => ?_)
      refine s_chk (fun hi16 => ?_)
      refine s_iald dX3_joins_22 hk15 rfl hi16 ?_
      refine s_ob (r := h7.R y3 42) (fun z => [(3, .int x2), (0, .ref y3), (1, .int y4), (2, .int y5)]) (fun z => [.int (h7.I a14 (ix x2)), .int x2, z]) (fun a17 => ?_)
      refine s_chk (fun hk18 => ?_)
      refine s_chk (fun hi19 => ?_)
      refine s_iast dX3_joins_23 hk18 rfl (by decide) hi19 ?_
      refine s_hl (fun h20 e21 => ?_)
      refine s_aload_n dX3_joins_24 1 rfl ?_
      refine s_get (j := 43) 4 (va_rf (h20.R y3 43)) dX3_joins_25 (show h20.kind y3 = 5 by rw [e21]; exact hk10) rfl (by decide) q1280 (Or.inl rfl) rfl ?_
      refine s_iload_n dX3_joins_28 0 rfl ?_
      refine s_aload_n dX3_joins_29 1 rfl ?_
      refine s_get (j := 7) 4 (va_rf (h20.R y3 7)) dX3_joins_30 (show h20.kind y3 = 5 by rw [e21]; exact hk10) rfl (by decide) q1244 (Or.inl rfl) rfl ?_
      refine s_iconst (0 : Int32) dX3_joins_33 (by decide) ?_
      refine s_ob (r := h20.R y3 7) (fun z => [(3, .int x2), (0, .ref y3), (1, .int y4), (2, .int y5)]) (fun z => [.int (0 : Int32), z, .int x2, va_rf (h20.R y3 43)]) (fun a22 => ?_)
      refine s_chk (fun hk23 => ?_)
      refine s_chk (fun hi24 => ?_)
      refine s_aald dX3_joins_34 hk23 rfl rfl rfl hi24 ?_
      refine s_iload_n dX3_joins_35 0 rfl ?_
      refine s_ob (r := h20.R a22 (ix (0 : Int32))) (fun z => [(3, .int x2), (0, .ref y3), (1, .int y4), (2, .int y5)]) (fun z => [.int x2, z, .int x2, va_rf (h20.R y3 43)]) (fun a25 => ?_)
      refine s_chk (fun hk26 => ?_)
      refine s_chk (fun hi27 => ?_)
      refine s_iald dX3_joins_36 hk26 rfl hi27 ?_
      refine s_ob (r := h20.R y3 43) (fun z => [(3, .int x2), (0, .ref y3), (1, .int y4), (2, .int y5)]) (fun z => [.int (h20.I a25 (ix x2)), .int x2, z]) (fun a28 => ?_)
      refine s_chk (fun hk29 => ?_)
      refine s_chk (fun hi30 => ?_)
      refine s_iast dX3_joins_37 hk29 rfl (by decide) hi30 ?_
      refine s_hl (fun h31 e32 => ?_)
      refine s_iload_n dX3_joins_38 0 rfl ?_
      refine s_bipush (9 : Int32) dX3_joins_39 (by decide) ?_
      refine s_icmp_ge 87 dX3_joins_41 (by decide) (fun c33 => ?_) (fun c33 => ?_)
      · refine s_iinc (1 : Int32) [(3, .int (x2 + (1 : Int32))), (0, .ref y3), (1, .int y4), (2, .int y5)] dX3_joins_87 0 rfl (by decide) (by decide) (by decide) rfl ?_
        refine s_goto 2 dX3_joins_90 (by decide) ?_
        exact ih (x2 + (1 : Int32)) h31 k hk
      · refine s_iload_n dX3_joins_44 2 rfl ?_
        refine s_iload_n dX3_joins_45 0 rfl ?_
        refine s_ishr dX3_joins_46 ?_
        refine s_iconst (1 : Int32) dX3_joins_47 (by decide) ?_
        refine s_iand dX3_joins_48 ?_
        refine s_if_ne 55 dX3_joins_49 (by decide) (fun c34 => ?_) (fun c34 => ?_)
        · refine s_aload_n dX3_joins_55 1 rfl ?_
          refine s_get (j := 6) 4 (va_rf (h31.R y3 6)) dX3_joins_56 (show h31.kind y3 = 5 by rw [e32, e21]; exact hk10) rfl (by decide) q1243 (Or.inl rfl) rfl ?_
          refine s_iconst (0 : Int32) dX3_joins_59 (by decide) ?_
          refine s_ob (r := h31.R y3 6) (fun z => [(3, .int x2), (0, .ref y3), (1, .int y4), (2, .int y5)]) (fun z => [.int (0 : Int32), z]) (fun a35 => ?_)
          refine s_chk (fun hk36 => ?_)
          refine s_chk (fun hi37 => ?_)
          refine s_aald dX3_joins_60 hk36 rfl rfl rfl hi37 ?_
          refine s_iload_n dX3_joins_61 0 rfl ?_
          refine s_aload_n dX3_joins_62 1 rfl ?_
          refine s_get (j := 12) 4 (va_rf (h31.R y3 12)) dX3_joins_63 (show h31.kind y3 = 5 by rw [e32, e21]; exact hk10) rfl (by decide) q1249 (Or.inl rfl) rfl ?_
          refine s_iconst (0 : Int32) dX3_joins_66 (by decide) ?_
          refine s_ob (r := h31.R y3 12) (fun z => [(3, .int x2), (0, .ref y3), (1, .int y4), (2, .int y5)]) (fun z => [.int (0 : Int32), z, .int x2, va_rf (h31.R a35 (ix (0 : Int32)))]) (fun a38 => ?_)
          refine s_chk (fun hk39 => ?_)
          refine s_chk (fun hi40 => ?_)
          refine s_aald dX3_joins_67 hk39 rfl rfl rfl hi40 ?_
          refine s_iload_n dX3_joins_68 3 rfl ?_
          refine s_ob (r := h31.R a38 (ix (0 : Int32))) (fun z => [(3, .int x2), (0, .ref y3), (1, .int y4), (2, .int y5)]) (fun z => [.int y5, z, .int x2, va_rf (h31.R a35 (ix (0 : Int32)))]) (fun a41 => ?_)
          refine s_chk (fun hk42 => ?_)
          refine s_chk (fun hi43 => ?_)
          refine s_iald dX3_joins_69 hk42 rfl hi43 ?_
          refine s_ob (r := h31.R a35 (ix (0 : Int32))) (fun z => [(3, .int x2), (0, .ref y3), (1, .int y4), (2, .int y5)]) (fun z => [.int (h31.I a41 (ix y5)), .int x2, z]) (fun a44 => ?_)
          refine s_chk (fun hk45 => ?_)
          refine s_chk (fun hi46 => ?_)
          refine s_iast dX3_joins_70 hk45 rfl (by decide) hi46 ?_
          refine s_hl (fun h47 e48 => ?_)
          refine s_aload_n dX3_joins_71 1 rfl ?_
          refine s_get (j := 7) 4 (va_rf (h47.R y3 7)) dX3_joins_72 (show h47.kind y3 = 5 by rw [e48, e32, e21]; exact hk10) rfl (by decide) q1244 (Or.inl rfl) rfl ?_
          refine s_iconst (0 : Int32) dX3_joins_75 (by decide) ?_
          refine s_ob (r := h47.R y3 7) (fun z => [(3, .int x2), (0, .ref y3), (1, .int y4), (2, .int y5)]) (fun z => [.int (0 : Int32), z]) (fun a49 => ?_)
          refine s_chk (fun hk50 => ?_)
          refine s_chk (fun hi51 => ?_)
          refine s_aald dX3_joins_76 hk50 rfl rfl rfl hi51 ?_
          refine s_iload_n dX3_joins_77 0 rfl ?_
          refine s_aload_n dX3_joins_78 1 rfl ?_
          refine s_get (j := 13) 4 (va_rf (h47.R y3 13)) dX3_joins_79 (show h47.kind y3 = 5 by rw [e48, e32, e21]; exact hk10) rfl (by decide) q1250 (Or.inl rfl) rfl ?_
          refine s_iconst (0 : Int32) dX3_joins_82 (by decide) ?_
          refine s_ob (r := h47.R y3 13) (fun z => [(3, .int x2), (0, .ref y3), (1, .int y4), (2, .int y5)]) (fun z => [.int (0 : Int32), z, .int x2, va_rf (h47.R a49 (ix (0 : Int32)))]) (fun a52 => ?_)
          refine s_chk (fun hk53 => ?_)
          refine s_chk (fun hi54 => ?_)
          refine s_aald dX3_joins_83 hk53 rfl rfl rfl hi54 ?_
          refine s_iload_n dX3_joins_84 3 rfl ?_
          refine s_ob (r := h47.R a52 (ix (0 : Int32))) (fun z => [(3, .int x2), (0, .ref y3), (1, .int y4), (2, .int y5)]) (fun z => [.int y5, z, .int x2, va_rf (h47.R a49 (ix (0 : Int32)))]) (fun a55 => ?_)
          refine s_chk (fun hk56 => ?_)
          refine s_chk (fun hi57 => ?_)
          refine s_iald dX3_joins_85 hk56 rfl hi57 ?_
          refine s_ob (r := h47.R a49 (ix (0 : Int32))) (fun z => [(3, .int x2), (0, .ref y3), (1, .int y4), (2, .int y5)]) (fun z => [.int (h47.I a55 (ix y5)), .int x2, z]) (fun a58 => ?_)
          refine s_chk (fun hk59 => ?_)
          refine s_chk (fun hi60 => ?_)
          refine s_iast dX3_joins_86 hk59 rfl (by decide) hi60 ?_
          refine s_hl (fun h61 e62 => ?_)
          refine s_iinc (1 : Int32) [(3, .int (x2 + (1 : Int32))), (0, .ref y3), (1, .int y4), (2, .int y5)] dX3_joins_87 0 rfl (by decide) (by decide) (by decide) rfl ?_
          refine s_goto 2 dX3_joins_90 (by decide) ?_
          exact ih (x2 + (1 : Int32)) h61 k hk
        · refine s_goto 87 dX3_joins_52 (by decide) ?_
          refine s_iinc (1 : Int32) [(3, .int (x2 + (1 : Int32))), (0, .ref y3), (1, .int y4), (2, .int y5)] dX3_joins_87 0 rfl (by decide) (by decide) (by decide) rfl ?_
          refine s_goto 2 dX3_joins_90 (by decide) ?_
          exact ih (x2 + (1 : Int32)) h31 k hk
theorem sX3_joins_L102 (G : Gl) (n : Nat) (K : Nat → Nat) (hK : K = G.ad) (y69 : Int32) (y70 : Nat) : ∀ (f : Nat) (x68 : Int32) (h : AH), Sim G yX3_joins.cls yX3_joins.name cX3_joins 5 (some .boolean) 7 cvI 102 [(4, .int x68), (3, .int y69), (0, .ref y70)] [] h (F_X3_joins_L102 n K y69 y70 f x68 h) := by
  intro f
  induction f with
  | zero =>
    intro x68 h
    exact s_none
  | succ f ih =>
    intro x68 h
    unfold F_X3_joins_L102
    refine s_iload dX3_joins_102 0 rfl (by decide) ?_
    refine s_aload_n dX3_joins_104 2 rfl ?_
    refine s_chk (fun hk73 => ?_)
    refine s_callV_I 4 (kX3_voters G n K hK y70 h) (by decide) (by decide) dX3_joins_105 hk73 rfl rfl q1475 q1477 qs62 q109 q1478 hyX3_voters rfl rfl (Nat.le_of_ble_eq_true rfl) (fun r71 h72 => ?_)
    refine s_icmp_ge 149 dX3_joins_108 (by decide) (fun c74 => ?_) (fun c74 => ?_)
    · refine s_iload_n dX3_joins_149 1 rfl ?_
      refine s_chk (fun hb75 => ?_)
      exact s_zret dX3_joins_150 rfl (nb01 hb75) rfl
    · refine s_aload_n dX3_joins_111 2 rfl ?_
      refine s_chk (fun hk76 => ?_)
      refine s_get (j := 6) 4 (va_rf (h72.R y70 6)) dX3_joins_112 hk76 rfl (by decide) q1243 (Or.inl rfl) rfl ?_
      refine s_iconst (0 : Int32) dX3_joins_115 (by decide) ?_
      refine s_ob (r := h72.R y70 6) (fun z => [(4, .int x68), (3, .int y69), (0, .ref y70)]) (fun z => [.int (0 : Int32), z]) (fun a77 => ?_)
      refine s_chk (fun hk78 => ?_)
      refine s_chk (fun hi79 => ?_)
      refine s_aald dX3_joins_116 hk78 rfl rfl rfl hi79 ?_
      refine s_iload dX3_joins_117 0 rfl (by decide) ?_
      refine s_aload_n dX3_joins_119 2 rfl ?_
      refine s_get (j := 42) 4 (va_rf (h72.R y70 42)) dX3_joins_120 hk76 rfl (by decide) q1279 (Or.inl rfl) rfl ?_
      refine s_iload dX3_joins_123 0 rfl (by decide) ?_
      refine s_ob (r := h72.R y70 42) (fun z => [(4, .int x68), (3, .int y69), (0, .ref y70)]) (fun z => [.int x68, z, .int x68, va_rf (h72.R a77 (ix (0 : Int32)))]) (fun a80 => ?_)
      refine s_chk (fun hk81 => ?_)
      refine s_chk (fun hi82 => ?_)
      refine s_iald dX3_joins_125 hk81 rfl hi82 ?_
      refine s_ob (r := h72.R a77 (ix (0 : Int32))) (fun z => [(4, .int x68), (3, .int y69), (0, .ref y70)]) (fun z => [.int (h72.I a80 (ix x68)), .int x68, z]) (fun a83 => ?_)
      refine s_chk (fun hk84 => ?_)
      refine s_chk (fun hi85 => ?_)
      refine s_iast dX3_joins_126 hk84 rfl (by decide) hi85 ?_
      refine s_hl (fun h86 e87 => ?_)
      refine s_aload_n dX3_joins_127 2 rfl ?_
      refine s_get (j := 7) 4 (va_rf (h86.R y70 7)) dX3_joins_128 (show h86.kind y70 = 5 by rw [e87]; exact hk76) rfl (by decide) q1244 (Or.inl rfl) rfl ?_
      refine s_iconst (0 : Int32) dX3_joins_131 (by decide) ?_
      refine s_ob (r := h86.R y70 7) (fun z => [(4, .int x68), (3, .int y69), (0, .ref y70)]) (fun z => [.int (0 : Int32), z]) (fun a88 => ?_)
      refine s_chk (fun hk89 => ?_)
      refine s_chk (fun hi90 => ?_)
      refine s_aald dX3_joins_132 hk89 rfl rfl rfl hi90 ?_
      refine s_iload dX3_joins_133 0 rfl (by decide) ?_
      refine s_aload_n dX3_joins_135 2 rfl ?_
      refine s_get (j := 43) 4 (va_rf (h86.R y70 43)) dX3_joins_136 (show h86.kind y70 = 5 by rw [e87]; exact hk76) rfl (by decide) q1280 (Or.inl rfl) rfl ?_
      refine s_iload dX3_joins_139 0 rfl (by decide) ?_
      refine s_ob (r := h86.R y70 43) (fun z => [(4, .int x68), (3, .int y69), (0, .ref y70)]) (fun z => [.int x68, z, .int x68, va_rf (h86.R a88 (ix (0 : Int32)))]) (fun a91 => ?_)
      refine s_chk (fun hk92 => ?_)
      refine s_chk (fun hi93 => ?_)
      refine s_iald dX3_joins_141 hk92 rfl hi93 ?_
      refine s_ob (r := h86.R a88 (ix (0 : Int32))) (fun z => [(4, .int x68), (3, .int y69), (0, .ref y70)]) (fun z => [.int (h86.I a91 (ix x68)), .int x68, z]) (fun a94 => ?_)
      refine s_chk (fun hk95 => ?_)
      refine s_chk (fun hi96 => ?_)
      refine s_iast dX3_joins_142 hk95 rfl (by decide) hi96 ?_
      refine s_hl (fun h97 e98 => ?_)
      refine s_iinc (1 : Int32) [(4, .int (x68 + (1 : Int32))), (3, .int y69), (0, .ref y70)] dX3_joins_143 0 rfl (by decide) (by decide) (by decide) rfl ?_
      refine s_goto 102 dX3_joins_146 (by decide) ?_
      exact ih (x68 + (1 : Int32)) h97
theorem kX3_joins (G : Gl) (n : Nat) (K : Nat → Nat) (hK : K = G.ad) (p0 : Nat) (p1 : Int32) (p2 : Int32) (h : AH) : OkM G yX3_joins cX3_joins 5 (some .boolean) 7 cvI [.ref p0, .int p1, .int p2] h (F_X3_joins n K p0 p1 p2 h) := by
  refine ok_of_sim [(0, .ref p0), (1, .int p1), (2, .int p2)] (by decide +kernel) (fun r => ⟨_, rfl⟩) (by simp [uns, lv_args, lg_sl, catI, catL, catA, va_rfc]) (by simp [uns, lv_args, lg_sl, catI, catL, catA, va_rfc]) (by simp [uns, lv_args, lg_sl, catI, catL, catA, va_rfc]) ?_
  unfold F_X3_joins
  refine s_iconst (0 : Int32) dX3_joins_0 (by decide) ?_
  refine s_istore_n [(3, .int (0 : Int32)), (0, .ref p0), (1, .int p1), (2, .int p2)] dX3_joins_1 (by decide) (by decide) rfl ?_
  refine sX3_joins_L2 G n K hK p0 p1 p2 n (0 : Int32) h _ ?_
  intro h63
  refine s_aload_n dX3_joins_93 0 rfl ?_
  refine s_iload_n dX3_joins_94 1 rfl ?_
  refine s_chk (fun hk66 => ?_)
  refine s_callV_I 4 (kX3_isUnbeaten G n K hK p0 p2 h63) (by decide) (by decide) dX3_joins_95 hk66 rfl rfl q1714 q1716 qs97 q109 q1717 hyX3_isUnbeaten rfl rfl (Nat.le_of_ble_eq_true rfl) (fun r64 h65 => ?_)
  refine s_istore_n [(3, .int r64), (0, .ref p0), (2, .int p2)] dX3_joins_98 (by decide) (by decide) rfl ?_
  refine s_iconst (0 : Int32) dX3_joins_99 (by decide) ?_
  refine s_istore [(4, .int (0 : Int32)), (3, .int r64), (0, .ref p0), (2, .int p2)] dX3_joins_100 (by decide) (by decide) rfl ?_
  refine s_sub [0, 1, 2] rfl ?_
  exact sX3_joins_L102 G n K hK r64 p0 n (0 : Int32) h65
theorem hyX3_join : yX3_join.cls ≠ "java/lang/invoke/MethodHandle" ∧ yX3_join.cls ≠ "java/lang/invoke/VarHandle" ∧ (parseMethodDescriptor yX3_join.desc).map (fun d => d.parameters.length) = some 1 := by decide +kernel
theorem sX3_join_L30 (G : Gl) (n : Nat) (K : Nat → Nat) (hK : K = G.ad) (y16 : Int32) (y17 : Int32) (y18 : Nat) (y19 : Int32) : ∀ (f : Nat) (x15 : Int32) (h : AH) (k : AH → Option (Int32 × AH)) (hk : ∀ (h : AH), Sim G yX3_join.cls yX3_join.name cX3_join 5 (some .int) 8 cvI 66 [(3, .int y16), (2, .int y17), (0, .ref y18), (1, .int y19)] [] h (k h)), Sim G yX3_join.cls yX3_join.name cX3_join 5 (some .int) 8 cvI 30 [(4, .int x15), (3, .int y16), (2, .int y17), (0, .ref y18), (1, .int y19)] [] h (F_X3_join_L30 n K y16 y17 y18 y19 f x15 h k) := by
  intro f
  induction f with
  | zero =>
    intro x15 h k hk
    exact s_none
  | succ f ih =>
    intro x15 h k hk
    unfold F_X3_join_L30
    refine s_iload dX3_join_30 0 rfl (by decide) ?_
    refine s_iconst (1 : Int32) dX3_join_32 (by decide) ?_
    refine s_iload_n dX3_join_33 2 rfl ?_
    refine s_ishl dX3_join_34 ?_
    refine s_icmp_ge 66 dX3_join_35 (by decide) (fun c20 => ?_) (fun c20 => ?_)
    · refine s_sub [1, 2, 3, 4] rfl ?_
      exact hk h
    · refine s_iload dX3_join_38 0 rfl (by decide) ?_
      refine s_callS_I (kJ15_bitCount G n K hK x15 h) (by decide) (by decide) dX3_join_40 q1688 q1082 q130 q1083 hyJ15_bitCount rfl rfl (Nat.le_of_ble_eq_true rfl) (fun r21 h22 => ?_)
      refine s_iload_n dX3_join_43 1 rfl ?_
      refine s_icmp_ne 60 dX3_join_44 (by decide) (fun c23 => ?_) (fun c23 => ?_)
      · refine s_iinc (1 : Int32) [(4, .int (x15 + (1 : Int32))), (3, .int y16), (2, .int y17), (0, .ref y18), (1, .int y19)] dX3_join_60 0 rfl (by decide) (by decide) (by decide) rfl ?_
        refine s_goto 30 dX3_join_63 (by decide) ?_
        exact ih (x15 + (1 : Int32)) h22 k hk
      · refine s_aload_n dX3_join_47 3 rfl ?_
        refine s_iload dX3_join_48 0 rfl (by decide) ?_
        refine s_iload_n dX3_join_50 4 rfl ?_
        refine s_chk (fun hk26 => ?_)
        refine s_callV_I 4 (kX3_joins G n K hK y18 x15 y19 h22) (by decide) (by decide) dX3_join_51 hk26 rfl rfl q1727 q1729 qs98 q109 q1730 hyX3_joins rfl rfl (Nat.le_of_ble_eq_true rfl) (fun r24 h25 => ?_)
        refine s_if_eq 60 dX3_join_54 (by decide) (fun c27 => ?_) (fun c27 => ?_)
        · refine s_iinc (1 : Int32) [(4, .int (x15 + (1 : Int32))), (3, .int y16), (2, .int y17), (0, .ref y18), (1, .int y19)] dX3_join_60 0 rfl (by decide) (by decide) (by decide) rfl ?_
          refine s_goto 30 dX3_join_63 (by decide) ?_
          exact ih (x15 + (1 : Int32)) h25 k hk
        · refine s_iload dX3_join_57 0 rfl (by decide) ?_
          exact s_iret dX3_join_59 rfl rfl
theorem sX3_join_L22 (G : Gl) (n : Nat) (K : Nat → Nat) (hK : K = G.ad) (y10 : Int32) (y11 : Nat) (y12 : Int32) : ∀ (f : Nat) (x9 : Int32) (h : AH), Sim G yX3_join.cls yX3_join.name cX3_join 5 (some .int) 8 cvI 22 [(3, .int x9), (2, .int y10), (0, .ref y11), (1, .int y12)] [] h (F_X3_join_L22 n K y10 y11 y12 f x9 h) := by
  intro f
  induction f with
  | zero =>
    intro x9 h
    exact s_none
  | succ f ih =>
    intro x9 h
    unfold F_X3_join_L22
    refine s_iload_n dX3_join_22 0 rfl ?_
    refine s_iload_n dX3_join_23 1 rfl ?_
    refine s_icmp_gt 72 dX3_join_24 (by decide) (fun c13 => ?_) (fun c13 => ?_)
    · refine s_iconst (-1 : Int32) dX3_join_72 (by decide) ?_
      exact s_iret dX3_join_73 rfl rfl
    · refine s_iconst (0 : Int32) dX3_join_27 (by decide) ?_
      refine s_istore [(4, .int (0 : Int32)), (3, .int x9), (2, .int y10), (0, .ref y11), (1, .int y12)] dX3_join_28 (by decide) (by decide) rfl ?_
      refine sX3_join_L30 G n K hK x9 y10 y11 y12 n (0 : Int32) h _ ?_
      intro h28
      refine s_iinc (1 : Int32) [(3, .int (x9 + (1 : Int32))), (2, .int y10), (0, .ref y11), (1, .int y12)] dX3_join_66 0 rfl (by decide) (by decide) (by decide) rfl ?_
      refine s_goto 22 dX3_join_69 (by decide) ?_
      exact ih (x9 + (1 : Int32)) h28
theorem kX3_join (G : Gl) (n : Nat) (K : Nat → Nat) (hK : K = G.ad) (p0 : Nat) (p1 : Int32) (h : AH) : OkM G yX3_join cX3_join 5 (some .int) 8 cvI [.ref p0, .int p1] h (F_X3_join n K p0 p1 h) := by
  refine ok_of_sim [(0, .ref p0), (1, .int p1)] (by decide +kernel) (fun r => ⟨_, rfl⟩) (by simp [uns, lv_args, lg_sl, catI, catL, catA, va_rfc]) (by simp [uns, lv_args, lg_sl, catI, catL, catA, va_rfc]) (by simp [uns, lv_args, lg_sl, catI, catL, catA, va_rfc]) ?_
  unfold F_X3_join
  refine s_aload_n dX3_join_0 0 rfl ?_
  refine s_iload_n dX3_join_1 1 rfl ?_
  refine s_chk (fun hk3 => ?_)
  refine s_callV_I 4 (kX3_isPlace G n K hK p0 p1 h) (by decide) (by decide) dX3_join_2 hk3 rfl rfl q1491 q1493 qs64 q109 q1494 hyX3_isPlace rfl rfl (Nat.le_of_ble_eq_true rfl) (fun r1 h2 => ?_)
  refine s_if_ne 10 dX3_join_5 (by decide) (fun c4 => ?_) (fun c4 => ?_)
  · refine s_bipush (9 : Int32) dX3_join_10 (by decide) ?_
    refine s_aload_n dX3_join_12 0 rfl ?_
    refine s_chk (fun hk7 => ?_)
    refine s_callV_I 4 (kX3_voters G n K hK p0 h2) (by decide) (by decide) dX3_join_13 hk7 rfl rfl q1475 q1477 qs62 q109 q1478 hyX3_voters rfl rfl (Nat.le_of_ble_eq_true rfl) (fun r5 h6 => ?_)
    refine s_mmin dX3_join_16 (by decide) q1470 q477 q116 q478 (Nat.le_of_ble_eq_true rfl) ?_
    refine s_istore_n [(2, .int (if r5 < (9 : Int32) then r5 else (9 : Int32))), (0, .ref p0), (1, .int p1)] dX3_join_19 (by decide) (by decide) rfl ?_
    refine s_iconst (0 : Int32) dX3_join_20 (by decide) ?_
    refine s_istore_n [(3, .int (0 : Int32)), (2, .int (if r5 < (9 : Int32) then r5 else (9 : Int32))), (0, .ref p0), (1, .int p1)] dX3_join_21 (by decide) (by decide) rfl ?_
    exact sX3_join_L22 G n K hK (if r5 < (9 : Int32) then r5 else (9 : Int32)) p0 p1 n (0 : Int32) h6
  · refine s_iconst (-1 : Int32) dX3_join_8 (by decide) ?_
    exact s_iret dX3_join_9 rfl rfl
theorem hyX3_sure : yX3_sure.cls ≠ "java/lang/invoke/MethodHandle" ∧ yX3_sure.cls ≠ "java/lang/invoke/VarHandle" ∧ (parseMethodDescriptor yX3_sure.desc).map (fun d => d.parameters.length) = some 4 := by decide +kernel
theorem sX3_sure_L64 (G : Gl) (n : Nat) (K : Nat → Nat) (hK : K = G.ad) (y37 : Int32) (y41 : Nat) (y42 : Int32) (y43 : Int32) (y44 : Int32) (y45 : Int32) : ∀ (f : Nat) (x36 : Int32) (x38 : Int32) (x39 : Int32) (x40 : Int32) (h : AH) (k : Int32 → Int32 → Int32 → AH → Option (Int32 × AH)) (hk : ∀ (x38 : Int32) (x39 : Int32) (x40 : Int32) (h : AH), Sim G yX3_sure.cls yX3_sure.name cX3_sure 11 (some .int) 2 cvI 195 [(8, .int y37), (7, .int x38), (6, .int x39), (5, .int x40), (0, .ref y41), (1, .int y42), (2, .int y43), (3, .int y44), (4, .int y45)] [] h (k x38 x39 x40 h)), Sim G yX3_sure.cls yX3_sure.name cX3_sure 11 (some .int) 2 cvI 64 [(9, .int x36), (8, .int y37), (7, .int x38), (6, .int x39), (5, .int x40), (0, .ref y41), (1, .int y42), (2, .int y43), (3, .int y44), (4, .int y45)] [] h (F_X3_sure_L64 n K y37 y41 y42 y43 y44 y45 f x36 x38 x39 x40 h k) := by
  intro f
  induction f with
  | zero =>
    intro x36 x38 x39 x40 h k hk
    exact s_none
  | succ f ih =>
    intro x36 x38 x39 x40 h k hk
    unfold F_X3_sure_L64
    refine s_iload dX3_sure_64 0 rfl (by decide) ?_
    refine s_bipush (99 : Int32) dX3_sure_66 (by decide) ?_
    refine s_aload_n dX3_sure_68 5 rfl ?_
    refine s_chk (fun hk46 => ?_)
    refine s_get (j := 7) 4 (va_rf (h.R y41 7)) dX3_sure_69 hk46 rfl (by decide) q1244 (Or.inl rfl) rfl ?_
    refine s_iconst (0 : Int32) dX3_sure_72 (by decide) ?_
    refine s_ob (r := h.R y41 7) (fun z => [(9, .int x36), (8, .int y37), (7, .int x38), (6, .int x39), (5, .int x40), (0, .ref y41), (1, .int y42), (2, .int y43), (3, .int y44), (4, .int y45)]) (fun z => [.int (0 : Int32), z, .int (99 : Int32), .int x36]) (fun a47 => ?_)
    refine s_chk (fun hk48 => ?_)
    refine s_chk (fun hi49 => ?_)
    refine s_aald dX3_sure_73 hk48 rfl rfl rfl hi49 ?_
    refine s_iload_n dX3_sure_74 6 rfl ?_
    refine s_ob (r := h.R a47 (ix (0 : Int32))) (fun z => [(9, .int x36), (8, .int y37), (7, .int x38), (6, .int x39), (5, .int x40), (0, .ref y41), (1, .int y42), (2, .int y43), (3, .int y44), (4, .int y45)]) (fun z => [.int y42, z, .int (99 : Int32), .int x36]) (fun a50 => ?_)
    refine s_chk (fun hk51 => ?_)
    refine s_chk (fun hi52 => ?_)
    refine s_iald dX3_sure_75 hk51 rfl hi52 ?_
    refine s_iload dX3_sure_76 9 rfl (by decide) ?_
    refine s_iadd dX3_sure_78 ?_
    refine s_mmin dX3_sure_79 (by decide) q1470 q477 q116 q478 (Nat.le_of_ble_eq_true rfl) ?_
    refine s_icmp_gt 195 dX3_sure_82 (by decide) (fun c53 => ?_) (fun c53 => ?_)
    · refine s_sub [1, 2, 3, 4, 5, 6, 7, 8, 9] rfl ?_
      exact hk x38 x39 x40 h
    · refine s_aload_n dX3_sure_85 5 rfl ?_
      refine s_iload_n dX3_sure_86 6 rfl ?_
      refine s_iload dX3_sure_87 1 rfl (by decide) ?_
      refine s_iload dX3_sure_89 0 rfl (by decide) ?_
      refine s_aload_n dX3_sure_91 5 rfl ?_
      refine s_get (j := 12) 4 (va_rf (h.R y41 12)) dX3_sure_92 hk46 rfl (by decide) q1249 (Or.inl rfl) rfl ?_
      refine s_iconst (0 : Int32) dX3_sure_95 (by decide) ?_
      refine s_ob (r := h.R y41 12) (fun z => [(9, .int x36), (8, .int y37), (7, .int x38), (6, .int x39), (5, .int x40), (0, .ref y41), (1, .int y42), (2, .int y43), (3, .int y44), (4, .int y45)]) (fun z => [.int (0 : Int32), z, .int x36, .int y37, .int y42, .ref y41]) (fun a54 => ?_)
      refine s_chk (fun hk55 => ?_)
      refine s_chk (fun hi56 => ?_)
      refine s_aald dX3_sure_96 hk55 rfl rfl rfl hi56 ?_
      refine s_iload_n dX3_sure_97 7 rfl ?_
      refine s_ob (r := h.R a54 (ix (0 : Int32))) (fun z => [(9, .int x36), (8, .int y37), (7, .int x38), (6, .int x39), (5, .int x40), (0, .ref y41), (1, .int y42), (2, .int y43), (3, .int y44), (4, .int y45)]) (fun z => [.int y43, z, .int x36, .int y37, .int y42, .ref y41]) (fun a57 => ?_)
      refine s_chk (fun hk58 => ?_)
      refine s_chk (fun hi59 => ?_)
      refine s_iald dX3_sure_98 hk58 rfl hi59 ?_
      refine s_aload_n dX3_sure_99 5 rfl ?_
      refine s_get (j := 13) 4 (va_rf (h.R y41 13)) dX3_sure_100 hk46 rfl (by decide) q1250 (Or.inl rfl) rfl ?_
      refine s_iconst (0 : Int32) dX3_sure_103 (by decide) ?_
      refine s_ob (r := h.R y41 13) (fun z => [(9, .int x36), (8, .int y37), (7, .int x38), (6, .int x39), (5, .int x40), (0, .ref y41), (1, .int y42), (2, .int y43), (3, .int y44), (4, .int y45)]) (fun z => [.int (0 : Int32), z, .int (h.I a57 (ix y43)), .int x36, .int y37, .int y42, .ref y41]) (fun a60 => ?_)
      refine s_chk (fun hk61 => ?_)
      refine s_chk (fun hi62 => ?_)
      refine s_aald dX3_sure_104 hk61 rfl rfl rfl hi62 ?_
      refine s_iload_n dX3_sure_105 7 rfl ?_
      refine s_ob (r := h.R a60 (ix (0 : Int32))) (fun z => [(9, .int x36), (8, .int y37), (7, .int x38), (6, .int x39), (5, .int x40), (0, .ref y41), (1, .int y42), (2, .int y43), (3, .int y44), (4, .int y45)]) (fun z => [.int y43, z, .int (h.I a57 (ix y43)), .int x36, .int y37, .int y42, .ref y41]) (fun a63 => ?_)
      refine s_chk (fun hk64 => ?_)
      refine s_chk (fun hi65 => ?_)
      refine s_iald dX3_sure_106 hk64 rfl hi65 ?_
      refine s_callV_I 4 (kX3_wayFrom G n K hK y41 y42 y37 x36 (h.I a57 (ix y43)) (h.I a63 (ix y43)) h) (by decide) (by decide) dX3_sure_107 hk46 rfl rfl q1515 q1517 qs67 q109 q1518 hyX3_wayFrom rfl rfl (Nat.le_of_ble_eq_true rfl) (fun r66 h67 => ?_)
      refine s_aload_n dX3_sure_110 5 rfl ?_
      refine s_iload_n dX3_sure_111 6 rfl ?_
      refine s_iload dX3_sure_112 1 rfl (by decide) ?_
      refine s_iload dX3_sure_114 0 rfl (by decide) ?_
      refine s_aload_n dX3_sure_116 5 rfl ?_
      refine s_chk (fun hk68 => ?_)
      refine s_get (j := 12) 4 (va_rf (h67.R y41 12)) dX3_sure_117 hk68 rfl (by decide) q1249 (Or.inl rfl) rfl ?_
      refine s_iconst (0 : Int32) dX3_sure_120 (by decide) ?_
      refine s_ob (r := h67.R y41 12) (fun z => [(9, .int x36), (8, .int y37), (7, .int x38), (6, .int x39), (5, .int x40), (0, .ref y41), (1, .int y42), (2, .int y43), (3, .int y44), (4, .int y45)]) (fun z => [.int (0 : Int32), z, .int x36, .int y37, .int y42, .ref y41, .int r66]) (fun a69 => ?_)
      refine s_chk (fun hk70 => ?_)
      refine s_chk (fun hi71 => ?_)
      refine s_aald dX3_sure_121 hk70 rfl rfl rfl hi71 ?_
      refine s_iload_n dX3_sure_122 8 rfl ?_
      refine s_ob (r := h67.R a69 (ix (0 : Int32))) (fun z => [(9, .int x36), (8, .int y37), (7, .int x38), (6, .int x39), (5, .int x40), (0, .ref y41), (1, .int y42), (2, .int y43), (3, .int y44), (4, .int y45)]) (fun z => [.int y44, z, .int x36, .int y37, .int y42, .ref y41, .int r66]) (fun a72 => ?_)
      refine s_chk (fun hk73 => ?_)
      refine s_chk (fun hi74 => ?_)
      refine s_iald dX3_sure_123 hk73 rfl hi74 ?_
      refine s_aload_n dX3_sure_124 5 rfl ?_
      refine s_get (j := 13) 4 (va_rf (h67.R y41 13)) dX3_sure_125 hk68 rfl (by decide) q1250 (Or.inl rfl) rfl ?_
      refine s_iconst (0 : Int32) dX3_sure_128 (by decide) ?_
      refine s_ob (r := h67.R y41 13) (fun z => [(9, .int x36), (8, .int y37), (7, .int x38), (6, .int x39), (5, .int x40), (0, .ref y41), (1, .int y42), (2, .int y43), (3, .int y44), (4, .int y45)]) (fun z => [.int (0 : Int32), z, .int (h67.I a72 (ix y44)), .int x36, .int y37, .int y42, .ref y41, .int r66]) (fun a75 => ?_)
      refine s_chk (fun hk76 => ?_)
      refine s_chk (fun hi77 => ?_)
      refine s_aald dX3_sure_129 hk76 rfl rfl rfl hi77 ?_
      refine s_iload_n dX3_sure_130 8 rfl ?_
      refine s_ob (r := h67.R a75 (ix (0 : Int32))) (fun z => [(9, .int x36), (8, .int y37), (7, .int x38), (6, .int x39), (5, .int x40), (0, .ref y41), (1, .int y42), (2, .int y43), (3, .int y44), (4, .int y45)]) (fun z => [.int y44, z, .int (h67.I a72 (ix y44)), .int x36, .int y37, .int y42, .ref y41, .int r66]) (fun a78 => ?_)
      refine s_chk (fun hk79 => ?_)
      refine s_chk (fun hi80 => ?_)
      refine s_iald dX3_sure_131 hk79 rfl hi80 ?_
      refine s_callV_I 4 (kX3_wayFrom G n K hK y41 y42 y37 x36 (h67.I a72 (ix y44)) (h67.I a78 (ix y44)) h67) (by decide) (by decide) dX3_sure_132 hk68 rfl rfl q1515 q1517 qs67 q109 q1518 hyX3_wayFrom rfl rfl (Nat.le_of_ble_eq_true rfl) (fun r81 h82 => ?_)
      refine s_isub dX3_sure_135 ?_
      refine s_istore [(10, .int (r66 - r81)), (9, .int x36), (8, .int y37), (7, .int x38), (6, .int x39), (5, .int x40), (0, .ref y41), (1, .int y42), (2, .int y43), (3, .int y44), (4, .int y45)] dX3_sure_136 (by decide) (by decide) rfl ?_
      refine s_iload dX3_sure_138 5 rfl (by decide) ?_
      refine s_jn (fun j84 => ∀ (x83 : Int32), Sim G yX3_sure.cls yX3_sure.name cX3_sure 11 (some .int) 2 cvI 153 [(10, .int (r66 - r81)), (9, .int x36), (8, .int y37), (7, .int x38), (6, .int x39), (0, .ref y41), (1, .int y42), (2, .int y43), (3, .int y44), (4, .int y45)] [.int x83] h82 (j84 x83)) ?_ (fun j84 hj92 => ?_)
      · intro x83
        refine s_istore [(5, .int x83), (10, .int (r66 - r81)), (9, .int x36), (8, .int y37), (7, .int x38), (6, .int x39), (0, .ref y41), (1, .int y42), (2, .int y43), (3, .int y44), (4, .int y45)] dX3_sure_153 (by decide) (by decide) rfl ?_
        refine s_iload dX3_sure_155 5 rfl (by decide) ?_
        refine s_jn (fun j86 => ∀ (x85 : Int32), Sim G yX3_sure.cls yX3_sure.name cX3_sure 11 (some .int) 2 cvI 170 [(5, .int x83), (10, .int (r66 - r81)), (9, .int x36), (8, .int y37), (7, .int x38), (0, .ref y41), (1, .int y42), (2, .int y43), (3, .int y44), (4, .int y45)] [.int x85] h82 (j86 x85)) ?_ (fun j86 hj89 => ?_)
        · intro x85
          refine s_istore [(6, .int x85), (5, .int x83), (10, .int (r66 - r81)), (9, .int x36), (8, .int y37), (7, .int x38), (0, .ref y41), (1, .int y42), (2, .int y43), (3, .int y44), (4, .int y45)] dX3_sure_170 (by decide) (by decide) rfl ?_
          refine s_iload dX3_sure_172 5 rfl (by decide) ?_
          refine s_if_eq 186 dX3_sure_174 (by decide) (fun c87 => ?_) (fun c87 => ?_)
          · refine s_iconst (0 : Int32) dX3_sure_186 (by decide) ?_
            refine s_istore [(7, .int (0 : Int32)), (6, .int x85), (5, .int x83), (10, .int (r66 - r81)), (9, .int x36), (8, .int y37), (0, .ref y41), (1, .int y42), (2, .int y43), (3, .int y44), (4, .int y45)] dX3_sure_187 (by decide) (by decide) rfl ?_
            refine s_iinc (1 : Int32) [(9, .int (x36 + (1 : Int32))), (7, .int (0 : Int32)), (6, .int x85), (5, .int x83), (10, .int (r66 - r81)), (8, .int y37), (0, .ref y41), (1, .int y42), (2, .int y43), (3, .int y44), (4, .int y45)] dX3_sure_189 4 rfl (by decide) (by decide) (by decide) rfl ?_
            refine s_goto 64 dX3_sure_192 (by decide) ?_
            refine s_sub [0, 5, 1, 2, 3, 6, 7, 8, 9, 10] rfl ?_
            exact ih (x36 + (1 : Int32)) (0 : Int32) x85 x83 h82 k hk
          · refine s_iload dX3_sure_177 2 rfl (by decide) ?_
            refine s_if_ne 186 dX3_sure_179 (by decide) (fun c88 => ?_) (fun c88 => ?_)
            · refine s_iconst (0 : Int32) dX3_sure_186 (by decide) ?_
              refine s_istore [(7, .int (0 : Int32)), (6, .int x85), (5, .int x83), (10, .int (r66 - r81)), (9, .int x36), (8, .int y37), (0, .ref y41), (1, .int y42), (2, .int y43), (3, .int y44), (4, .int y45)] dX3_sure_187 (by decide) (by decide) rfl ?_
              refine s_iinc (1 : Int32) [(9, .int (x36 + (1 : Int32))), (7, .int (0 : Int32)), (6, .int x85), (5, .int x83), (10, .int (r66 - r81)), (8, .int y37), (0, .ref y41), (1, .int y42), (2, .int y43), (3, .int y44), (4, .int y45)] dX3_sure_189 4 rfl (by decide) (by decide) (by decide) rfl ?_
              refine s_goto 64 dX3_sure_192 (by decide) ?_
              refine s_sub [0, 5, 1, 2, 3, 6, 7, 8, 9, 10] rfl ?_
              exact ih (x36 + (1 : Int32)) (0 : Int32) x85 x83 h82 k hk
            · refine s_iconst (1 : Int32) dX3_sure_182 (by decide) ?_
              refine s_goto 187 dX3_sure_183 (by decide) ?_
              refine s_istore [(7, .int (1 : Int32)), (6, .int x85), (5, .int x83), (10, .int (r66 - r81)), (9, .int x36), (8, .int y37), (0, .ref y41), (1, .int y42), (2, .int y43), (3, .int y44), (4, .int y45)] dX3_sure_187 (by decide) (by decide) rfl ?_
              refine s_iinc (1 : Int32) [(9, .int (x36 + (1 : Int32))), (7, .int (1 : Int32)), (6, .int x85), (5, .int x83), (10, .int (r66 - r81)), (8, .int y37), (0, .ref y41), (1, .int y42), (2, .int y43), (3, .int y44), (4, .int y45)] dX3_sure_189 4 rfl (by decide) (by decide) (by decide) rfl ?_
              refine s_goto 64 dX3_sure_192 (by decide) ?_
              refine s_sub [0, 5, 1, 2, 3, 6, 7, 8, 9, 10] rfl ?_
              exact ih (x36 + (1 : Int32)) (1 : Int32) x85 x83 h82 k hk
        refine s_if_eq 169 dX3_sure_157 (by decide) (fun c90 => ?_) (fun c90 => ?_)
        · refine s_iconst (0 : Int32) dX3_sure_169 (by decide) ?_
          refine s_sub [0, 1, 2, 3, 4, 6, 7, 8, 9, 10] rfl ?_
          exact hj89 (0 : Int32)
        · refine s_iload dX3_sure_160 1 rfl (by decide) ?_
          refine s_if_le 169 dX3_sure_162 (by decide) (fun c91 => ?_) (fun c91 => ?_)
          · refine s_iconst (0 : Int32) dX3_sure_169 (by decide) ?_
            refine s_sub [0, 1, 2, 3, 4, 6, 7, 8, 9, 10] rfl ?_
            exact hj89 (0 : Int32)
          · refine s_iconst (1 : Int32) dX3_sure_165 (by decide) ?_
            refine s_goto 170 dX3_sure_166 (by decide) ?_
            refine s_sub [0, 1, 2, 3, 4, 6, 7, 8, 9, 10] rfl ?_
            exact hj89 (1 : Int32)
      refine s_if_eq 152 dX3_sure_140 (by decide) (fun c93 => ?_) (fun c93 => ?_)
      · refine s_iconst (0 : Int32) dX3_sure_152 (by decide) ?_
        refine s_sub [0, 1, 2, 3, 4, 6, 7, 8, 9, 10] rfl ?_
        exact hj92 (0 : Int32)
      · refine s_iload dX3_sure_143 0 rfl (by decide) ?_
        refine s_if_ge 152 dX3_sure_145 (by decide) (fun c94 => ?_) (fun c94 => ?_)
        · refine s_iconst (0 : Int32) dX3_sure_152 (by decide) ?_
          refine s_sub [0, 1, 2, 3, 4, 6, 7, 8, 9, 10] rfl ?_
          exact hj92 (0 : Int32)
        · refine s_iconst (1 : Int32) dX3_sure_148 (by decide) ?_
          refine s_goto 153 dX3_sure_149 (by decide) ?_
          refine s_sub [0, 1, 2, 3, 4, 6, 7, 8, 9, 10] rfl ?_
          exact hj92 (1 : Int32)
theorem sX3_sure_L26 (G : Gl) (n : Nat) (K : Nat → Nat) (hK : K = G.ad) (y13 : Nat) (y14 : Int32) (y15 : Int32) (y16 : Int32) (y17 : Int32) : ∀ (f : Nat) (x9 : Int32) (x10 : Int32) (x11 : Int32) (x12 : Int32) (h : AH), Sim G yX3_sure.cls yX3_sure.name cX3_sure 11 (some .int) 2 cvI 26 [(8, .int x9), (7, .int x10), (6, .int x11), (5, .int x12), (0, .ref y13), (1, .int y14), (2, .int y15), (3, .int y16), (4, .int y17)] [] h (F_X3_sure_L26 n K y13 y14 y15 y16 y17 f x9 x10 x11 x12 h) := by
  intro f
  induction f with
  | zero =>
    intro x9 x10 x11 x12 h
    exact s_none
  | succ f ih =>
    intro x9 x10 x11 x12 h
    unfold F_X3_sure_L26
    refine s_iload dX3_sure_26 0 rfl (by decide) ?_
    refine s_bipush (99 : Int32) dX3_sure_28 (by decide) ?_
    refine s_aload_n dX3_sure_30 4 rfl ?_
    refine s_chk (fun hk18 => ?_)
    refine s_get (j := 6) 4 (va_rf (h.R y13 6)) dX3_sure_31 hk18 rfl (by decide) q1243 (Or.inl rfl) rfl ?_
    refine s_iconst (0 : Int32) dX3_sure_34 (by decide) ?_
    refine s_ob (r := h.R y13 6) (fun z => [(8, .int x9), (7, .int x10), (6, .int x11), (5, .int x12), (0, .ref y13), (1, .int y14), (2, .int y15), (3, .int y16), (4, .int y17)]) (fun z => [.int (0 : Int32), z, .int (99 : Int32), .int x9]) (fun a19 => ?_)
    refine s_chk (fun hk20 => ?_)
    refine s_chk (fun hi21 => ?_)
    refine s_aald dX3_sure_35 hk20 rfl rfl rfl hi21 ?_
    refine s_iload_n dX3_sure_36 5 rfl ?_
    refine s_ob (r := h.R a19 (ix (0 : Int32))) (fun z => [(8, .int x9), (7, .int x10), (6, .int x11), (5, .int x12), (0, .ref y13), (1, .int y14), (2, .int y15), (3, .int y16), (4, .int y17)]) (fun z => [.int y14, z, .int (99 : Int32), .int x9]) (fun a22 => ?_)
    refine s_chk (fun hk23 => ?_)
    refine s_chk (fun hi24 => ?_)
    refine s_iald dX3_sure_37 hk23 rfl hi24 ?_
    refine s_iload dX3_sure_38 8 rfl (by decide) ?_
    refine s_iadd dX3_sure_40 ?_
    refine s_mmin dX3_sure_41 (by decide) q1470 q477 q116 q478 (Nat.le_of_ble_eq_true rfl) ?_
    refine s_icmp_gt 201 dX3_sure_44 (by decide) (fun c25 => ?_) (fun c25 => ?_)
    · refine s_iload dX3_sure_201 3 rfl (by decide) ?_
      refine s_if_eq 210 dX3_sure_203 (by decide) (fun c26 => ?_) (fun c26 => ?_)
      · refine s_iload dX3_sure_210 2 rfl (by decide) ?_
        refine s_if_eq 219 dX3_sure_212 (by decide) (fun c27 => ?_) (fun c27 => ?_)
        · refine s_iload dX3_sure_219 1 rfl (by decide) ?_
          refine s_if_eq 228 dX3_sure_221 (by decide) (fun c28 => ?_) (fun c28 => ?_)
          · refine s_iconst (0 : Int32) dX3_sure_228 (by decide) ?_
            exact s_iret dX3_sure_229 rfl rfl
          · refine s_iconst (2 : Int32) dX3_sure_224 (by decide) ?_
            refine s_goto 229 dX3_sure_225 (by decide) ?_
            exact s_iret dX3_sure_229 rfl rfl
        · refine s_iconst (-1 : Int32) dX3_sure_215 (by decide) ?_
          refine s_goto 229 dX3_sure_216 (by decide) ?_
          exact s_iret dX3_sure_229 rfl rfl
      · refine s_iconst (1 : Int32) dX3_sure_206 (by decide) ?_
        refine s_goto 229 dX3_sure_207 (by decide) ?_
        exact s_iret dX3_sure_229 rfl rfl
    · refine s_iconst (0 : Int32) dX3_sure_47 (by decide) ?_
      refine s_aload_n dX3_sure_48 4 rfl ?_
      refine s_get (j := 7) 4 (va_rf (h.R y13 7)) dX3_sure_49 hk18 rfl (by decide) q1244 (Or.inl rfl) rfl ?_
      refine s_iconst (0 : Int32) dX3_sure_52 (by decide) ?_
      refine s_ob (r := h.R y13 7) (fun z => [(8, .int x9), (7, .int x10), (6, .int x11), (5, .int x12), (0, .ref y13), (1, .int y14), (2, .int y15), (3, .int y16), (4, .int y17)]) (fun z => [.int (0 : Int32), z, .int (0 : Int32)]) (fun a29 => ?_)
      refine s_chk (fun hk30 => ?_)
      refine s_chk (fun hi31 => ?_)
      refine s_aald dX3_sure_53 hk30 rfl rfl rfl hi31 ?_
      refine s_iload_n dX3_sure_54 5 rfl ?_
      refine s_ob (r := h.R a29 (ix (0 : Int32))) (fun z => [(8, .int x9), (7, .int x10), (6, .int x11), (5, .int x12), (0, .ref y13), (1, .int y14), (2, .int y15), (3, .int y16), (4, .int y17)]) (fun z => [.int y14, z, .int (0 : Int32)]) (fun a32 => ?_)
      refine s_chk (fun hk33 => ?_)
      refine s_chk (fun hi34 => ?_)
      refine s_iald dX3_sure_55 hk33 rfl hi34 ?_
      refine s_iload dX3_sure_56 8 rfl (by decide) ?_
      refine s_isub dX3_sure_58 ?_
      refine s_mmax dX3_sure_59 (by decide) q1469 q474 q116 q475 (Nat.le_of_ble_eq_true rfl) ?_
      refine s_istore [(9, .int (if (0 : Int32) < ((h.I a32 (ix y14)) - y17) then ((h.I a32 (ix y14)) - y17) else (0 : Int32))), (8, .int x9), (7, .int x10), (6, .int x11), (5, .int x12), (0, .ref y13), (1, .int y14), (2, .int y15), (3, .int y16), (4, .int y17)] dX3_sure_62 (by decide) (by decide) rfl ?_
      refine sX3_sure_L64 G n K hK x9 y13 y14 y15 y16 y17 n (if (0 : Int32) < ((h.I a32 (ix y14)) - y17) then ((h.I a32 (ix y14)) - y17) else (0 : Int32)) x10 x11 x12 h _ ?_
      intro x95 x96 x97 h98
      refine s_iinc (1 : Int32) [(8, .int (x9 + (1 : Int32))), (7, .int x95), (6, .int x96), (5, .int x97), (0, .ref y13), (1, .int y14), (2, .int y15), (3, .int y16), (4, .int y17)] dX3_sure_195 0 rfl (by decide) (by decide) (by decide) rfl ?_
      refine s_goto 26 dX3_sure_198 (by decide) ?_
      exact ih (x9 + (1 : Int32)) x95 x96 x97 h98
theorem kX3_sure (G : Gl) (n : Nat) (K : Nat → Nat) (hK : K = G.ad) (p0 : Nat) (p1 : Int32) (p2 : Int32) (p3 : Int32) (p4 : Int32) (h : AH) : OkM G yX3_sure cX3_sure 11 (some .int) 2 cvI [.ref p0, .int p1, .int p2, .int p3, .int p4] h (F_X3_sure n K p0 p1 p2 p3 p4 h) := by
  refine ok_of_sim [(0, .ref p0), (1, .int p1), (2, .int p2), (3, .int p3), (4, .int p4)] (by decide +kernel) (fun r => ⟨_, rfl⟩) (by simp [uns, lv_args, lg_sl, catI, catL, catA, va_rfc]) (by simp [uns, lv_args, lg_sl, catI, catL, catA, va_rfc]) (by simp [uns, lv_args, lg_sl, catI, catL, catA, va_rfc]) ?_
  unfold F_X3_sure
  refine s_iconst (1 : Int32) dX3_sure_0 (by decide) ?_
  refine s_istore [(5, .int (1 : Int32)), (0, .ref p0), (1, .int p1), (2, .int p2), (3, .int p3), (4, .int p4)] dX3_sure_1 (by decide) (by decide) rfl ?_
  refine s_iconst (1 : Int32) dX3_sure_3 (by decide) ?_
  refine s_istore [(6, .int (1 : Int32)), (5, .int (1 : Int32)), (0, .ref p0), (1, .int p1), (2, .int p2), (3, .int p3), (4, .int p4)] dX3_sure_4 (by decide) (by decide) rfl ?_
  refine s_iconst (1 : Int32) dX3_sure_6 (by decide) ?_
  refine s_istore [(7, .int (1 : Int32)), (6, .int (1 : Int32)), (5, .int (1 : Int32)), (0, .ref p0), (1, .int p1), (2, .int p2), (3, .int p3), (4, .int p4)] dX3_sure_7 (by decide) (by decide) rfl ?_
  refine s_iconst (0 : Int32) dX3_sure_9 (by decide) ?_
  refine s_aload_n dX3_sure_10 3 rfl ?_
  refine s_chk (fun hk1 => ?_)
  refine s_get (j := 6) 4 (va_rf (h.R p0 6)) dX3_sure_11 hk1 rfl (by decide) q1243 (Or.inl rfl) rfl ?_
  refine s_iconst (0 : Int32) dX3_sure_14 (by decide) ?_
  refine s_ob (r := h.R p0 6) (fun z => [(7, .int (1 : Int32)), (6, .int (1 : Int32)), (5, .int (1 : Int32)), (0, .ref p0), (1, .int p1), (2, .int p2), (3, .int p3), (4, .int p4)]) (fun z => [.int (0 : Int32), z, .int (0 : Int32)]) (fun a2 => ?_)
  refine s_chk (fun hk3 => ?_)
  refine s_chk (fun hi4 => ?_)
  refine s_aald dX3_sure_15 hk3 rfl rfl rfl hi4 ?_
  refine s_iload_n dX3_sure_16 4 rfl ?_
  refine s_ob (r := h.R a2 (ix (0 : Int32))) (fun z => [(7, .int (1 : Int32)), (6, .int (1 : Int32)), (5, .int (1 : Int32)), (0, .ref p0), (1, .int p1), (2, .int p2), (3, .int p3), (4, .int p4)]) (fun z => [.int p1, z, .int (0 : Int32)]) (fun a5 => ?_)
  refine s_chk (fun hk6 => ?_)
  refine s_chk (fun hi7 => ?_)
  refine s_iald dX3_sure_17 hk6 rfl hi7 ?_
  refine s_iload dX3_sure_18 7 rfl (by decide) ?_
  refine s_isub dX3_sure_20 ?_
  refine s_mmax dX3_sure_21 (by decide) q1469 q474 q116 q475 (Nat.le_of_ble_eq_true rfl) ?_
  refine s_istore [(8, .int (if (0 : Int32) < ((h.I a5 (ix p1)) - p4) then ((h.I a5 (ix p1)) - p4) else (0 : Int32))), (7, .int (1 : Int32)), (6, .int (1 : Int32)), (5, .int (1 : Int32)), (0, .ref p0), (1, .int p1), (2, .int p2), (3, .int p3), (4, .int p4)] dX3_sure_24 (by decide) (by decide) rfl ?_
  exact sX3_sure_L26 G n K hK p0 p1 p2 p3 p4 n (if (0 : Int32) < ((h.I a5 (ix p1)) - p4) then ((h.I a5 (ix p1)) - p4) else (0 : Int32)) (1 : Int32) (1 : Int32) (1 : Int32) h
