set_option maxRecDepth 100000
theorem hyX3_asks : yX3_asks.cls ≠ "java/lang/invoke/MethodHandle" ∧ yX3_asks.cls ≠ "java/lang/invoke/VarHandle" ∧ (parseMethodDescriptor yX3_asks.desc).map (fun d => d.parameters.length) = some 3 := by decide +kernel
theorem sX3_asks_L18 (G : Gl) (n : Nat) (K : Nat → Nat) (hK : K = G.ad) (y10 : Nat) (y11 : Int32) (y12 : Int32) (y13 : Int32) : ∀ (f : Nat) (x9 : Int32) (h : AH), Sim G yX3_asks.cls yX3_asks.name cX3_asks 6 none 3 cvV 18 [(4, .int x9), (0, .ref y10), (1, .int y11), (2, .int y12), (3, .int y13)] [] h (F_X3_asks_L18 n K y10 y11 y12 y13 f x9 h) := by
  intro f
  induction f with
  | zero =>
    intro x9 h
    exact s_none
  | succ f ih =>
    intro x9 h
    unfold F_X3_asks_L18
    refine s_iload dX3_asks_18 0 rfl (by decide) ?_
    refine s_aload_n dX3_asks_20 1 rfl ?_
    refine s_chk (fun hk16 => ?_)
    refine s_callV_I 4 (kX3_voters G n K hK y10 h) (by decide) (by decide) dX3_asks_21 hk16 rfl rfl q1475 q1477 qs62 q109 q1478 hyX3_voters rfl rfl (Nat.le_of_ble_eq_true rfl) (fun r14 h15 => ?_)
    refine s_icmp_ge 127 dX3_asks_24 (by decide) (fun c17 => ?_) (fun c17 => ?_)
    · exact s_vret dX3_asks_127 rfl rfl
    · refine s_aload_n dX3_asks_27 1 rfl ?_
      refine s_iload dX3_asks_28 0 rfl (by decide) ?_
      refine s_iload_n dX3_asks_30 2 rfl ?_
      refine s_iload_n dX3_asks_31 3 rfl ?_
      refine s_iload_n dX3_asks_32 4 rfl ?_
      refine s_chk (fun hk20 => ?_)
      refine s_callV_I 4 (kX3_sure G n K hK y10 x9 y11 y12 y13 h15) (by decide) (by decide) dX3_asks_33 hk20 rfl rfl q1740 q1742 qs100 q109 q1743 hyX3_sure rfl rfl (Nat.le_of_ble_eq_true rfl) (fun r18 h19 => ?_)
      refine s_istore [(5, .int r18), (4, .int x9), (0, .ref y10), (1, .int y11), (2, .int y12), (3, .int y13)] dX3_asks_36 (by decide) (by decide) rfl ?_
      refine s_aload_n dX3_asks_38 2 rfl ?_
      refine s_dup dX3_asks_39 rfl ?_
      refine s_chk (fun hk21 => ?_)
      refine s_get (j := 44) 4 (.int (h19.I y10 44)) dX3_asks_40 hk21 rfl (by decide) q1281 (Or.inl rfl) rfl ?_
      refine s_iload dX3_asks_43 0 rfl (by decide) ?_
      refine s_jn (fun j23 => ∀ (x22 : Int32), Sim G yX3_asks.cls yX3_asks.name cX3_asks 6 none 3 cvV 61 [(5, .int r18), (4, .int x9), (0, .ref y10), (1, .int y11), (2, .int y12), (3, .int y13)] [.int x22, .int (h19.I y10 44), .ref y10] h19 (j23 x22)) ?_ (fun j23 hj50 => ?_)
      · intro x22
        refine s_iadd dX3_asks_61 ?_
        refine s_put (j := 44) 4 (v := .int ((h19.I y10 44) + x22)) dX3_asks_62 hk21 rfl (by decide) q1281 (Or.inl rfl) rfl rfl rfl (Upd.i (fun _ => rfl)) ?_
        refine s_hl (fun h24 e25 => ?_)
        refine s_aload_n dX3_asks_65 2 rfl ?_
        refine s_dup dX3_asks_66 rfl ?_
        refine s_get (j := 45) 4 (.int (h24.I y10 45)) dX3_asks_67 (show h24.kind y10 = 5 by rw [e25]; exact hk21) rfl (by decide) q1282 (Or.inl rfl) rfl ?_
        refine s_iload dX3_asks_70 0 rfl (by decide) ?_
        refine s_iconst (1 : Int32) dX3_asks_72 (by decide) ?_
        refine s_jn (fun j27 => ∀ (x26 : Int32), Sim G yX3_asks.cls yX3_asks.name cX3_asks 6 none 3 cvV 89 [(5, .int r18), (4, .int x9), (0, .ref y10), (1, .int y11), (2, .int y12), (3, .int y13)] [.int x26, .int (h24.I y10 45), .ref y10] h24 (j27 x26)) ?_ (fun j27 hj42 => ?_)
        · intro x26
          refine s_iadd dX3_asks_89 ?_
          refine s_put (j := 45) 4 (v := .int ((h24.I y10 45) + x26)) dX3_asks_90 (show h24.kind y10 = 5 by rw [e25]; exact hk21) rfl (by decide) q1282 (Or.inl rfl) rfl rfl rfl (Upd.i (fun _ => rfl)) ?_
          refine s_hl (fun h28 e29 => ?_)
          refine s_aload_n dX3_asks_93 2 rfl ?_
          refine s_dup dX3_asks_94 rfl ?_
          refine s_get (j := 46) 4 (.int (h28.I y10 46)) dX3_asks_95 (show h28.kind y10 = 5 by rw [e29, e25]; exact hk21) rfl (by decide) q1283 (Or.inl rfl) rfl ?_
          refine s_iload dX3_asks_98 0 rfl (by decide) ?_
          refine s_iconst (-1 : Int32) dX3_asks_100 (by decide) ?_
          refine s_jn (fun j31 => ∀ (x30 : Int32), Sim G yX3_asks.cls yX3_asks.name cX3_asks 6 none 3 cvV 117 [(4, .int x9), (0, .ref y10), (1, .int y11), (2, .int y12), (3, .int y13)] [.int x30, .int (h28.I y10 46), .ref y10] h28 (j31 x30)) ?_ (fun j31 hj34 => ?_)
          · intro x30
            refine s_iadd dX3_asks_117 ?_
            refine s_put (j := 46) 4 (v := .int ((h28.I y10 46) + x30)) dX3_asks_118 (show h28.kind y10 = 5 by rw [e29, e25]; exact hk21) rfl (by decide) q1283 (Or.inl rfl) rfl rfl rfl (Upd.i (fun _ => rfl)) ?_
            refine s_hl (fun h32 e33 => ?_)
            refine s_iinc (1 : Int32) [(4, .int (x9 + (1 : Int32))), (0, .ref y10), (1, .int y11), (2, .int y12), (3, .int y13)] dX3_asks_121 0 rfl (by decide) (by decide) (by decide) rfl ?_
            refine s_goto 18 dX3_asks_124 (by decide) ?_
            exact ih (x9 + (1 : Int32)) h32
          refine s_icmp_ne 116 dX3_asks_101 (by decide) (fun c35 => ?_) (fun c35 => ?_)
          · refine s_iconst (0 : Int32) dX3_asks_116 (by decide) ?_
            refine s_sub [1, 2, 3, 4, 5] rfl ?_
            exact hj34 (0 : Int32)
          · refine s_aload_n dX3_asks_104 2 rfl ?_
            refine s_get (j := 8) 4 (va_rf (h28.R y10 8)) dX3_asks_105 (show h28.kind y10 = 5 by rw [e29, e25]; exact hk21) rfl (by decide) q1245 (Or.inl rfl) rfl ?_
            refine s_iconst (0 : Int32) dX3_asks_108 (by decide) ?_
            refine s_ob (r := h28.R y10 8) (fun z => [(5, .int r18), (4, .int x9), (0, .ref y10), (1, .int y11), (2, .int y12), (3, .int y13)]) (fun z => [.int (0 : Int32), z, .int (h28.I y10 46), .ref y10]) (fun a36 => ?_)
            refine s_chk (fun hk37 => ?_)
            refine s_chk (fun hi38 => ?_)
            refine s_aald dX3_asks_109 hk37 rfl rfl rfl hi38 ?_
            refine s_iload dX3_asks_110 1 rfl (by decide) ?_
            refine s_ob (r := h28.R a36 (ix (0 : Int32))) (fun z => [(5, .int r18), (4, .int x9), (0, .ref y10), (1, .int y11), (2, .int y12), (3, .int y13)]) (fun z => [.int x9, z, .int (h28.I y10 46), .ref y10]) (fun a39 => ?_)
            refine s_chk (fun hk40 => ?_)
            refine s_chk (fun hi41 => ?_)
            refine s_iald dX3_asks_112 hk40 rfl hi41 ?_
            refine s_goto 117 dX3_asks_113 (by decide) ?_
            refine s_sub [1, 2, 3, 4, 5] rfl ?_
            exact hj34 (h28.I a39 (ix x9))
        refine s_icmp_ne 88 dX3_asks_73 (by decide) (fun c43 => ?_) (fun c43 => ?_)
        · refine s_iconst (0 : Int32) dX3_asks_88 (by decide) ?_
          exact hj42 (0 : Int32)
        · refine s_aload_n dX3_asks_76 2 rfl ?_
          refine s_get (j := 8) 4 (va_rf (h24.R y10 8)) dX3_asks_77 (show h24.kind y10 = 5 by rw [e25]; exact hk21) rfl (by decide) q1245 (Or.inl rfl) rfl ?_
          refine s_iconst (0 : Int32) dX3_asks_80 (by decide) ?_
          refine s_ob (r := h24.R y10 8) (fun z => [(5, .int r18), (4, .int x9), (0, .ref y10), (1, .int y11), (2, .int y12), (3, .int y13)]) (fun z => [.int (0 : Int32), z, .int (h24.I y10 45), .ref y10]) (fun a44 => ?_)
          refine s_chk (fun hk45 => ?_)
          refine s_chk (fun hi46 => ?_)
          refine s_aald dX3_asks_81 hk45 rfl rfl rfl hi46 ?_
          refine s_iload dX3_asks_82 1 rfl (by decide) ?_
          refine s_ob (r := h24.R a44 (ix (0 : Int32))) (fun z => [(5, .int r18), (4, .int x9), (0, .ref y10), (1, .int y11), (2, .int y12), (3, .int y13)]) (fun z => [.int x9, z, .int (h24.I y10 45), .ref y10]) (fun a47 => ?_)
          refine s_chk (fun hk48 => ?_)
          refine s_chk (fun hi49 => ?_)
          refine s_iald dX3_asks_84 hk48 rfl hi49 ?_
          refine s_goto 89 dX3_asks_85 (by decide) ?_
          exact hj42 (h24.I a47 (ix x9))
      refine s_if_ne 60 dX3_asks_45 (by decide) (fun c51 => ?_) (fun c51 => ?_)
      · refine s_iconst (0 : Int32) dX3_asks_60 (by decide) ?_
        exact hj50 (0 : Int32)
      · refine s_aload_n dX3_asks_48 2 rfl ?_
        refine s_get (j := 8) 4 (va_rf (h19.R y10 8)) dX3_asks_49 hk21 rfl (by decide) q1245 (Or.inl rfl) rfl ?_
        refine s_iconst (0 : Int32) dX3_asks_52 (by decide) ?_
        refine s_ob (r := h19.R y10 8) (fun z => [(5, .int r18), (4, .int x9), (0, .ref y10), (1, .int y11), (2, .int y12), (3, .int y13)]) (fun z => [.int (0 : Int32), z, .int (h19.I y10 44), .ref y10]) (fun a52 => ?_)
        refine s_chk (fun hk53 => ?_)
        refine s_chk (fun hi54 => ?_)
        refine s_aald dX3_asks_53 hk53 rfl rfl rfl hi54 ?_
        refine s_iload dX3_asks_54 1 rfl (by decide) ?_
        refine s_ob (r := h19.R a52 (ix (0 : Int32))) (fun z => [(5, .int r18), (4, .int x9), (0, .ref y10), (1, .int y11), (2, .int y12), (3, .int y13)]) (fun z => [.int x9, z, .int (h19.I y10 44), .ref y10]) (fun a55 => ?_)
        refine s_chk (fun hk56 => ?_)
        refine s_chk (fun hi57 => ?_)
        refine s_iald dX3_asks_56 hk56 rfl hi57 ?_
        refine s_goto 61 dX3_asks_57 (by decide) ?_
        exact hj50 (h19.I a55 (ix x9))
theorem kX3_asks (G : Gl) (n : Nat) (K : Nat → Nat) (hK : K = G.ad) (p0 : Nat) (p1 : Int32) (p2 : Int32) (p3 : Int32) (h : AH) : OkM G yX3_asks cX3_asks 6 none 3 cvV [.ref p0, .int p1, .int p2, .int p3] h (F_X3_asks n K p0 p1 p2 p3 h) := by
  refine ok_of_sim [(0, .ref p0), (1, .int p1), (2, .int p2), (3, .int p3)] (by decide +kernel) (fun r => ⟨_, rfl⟩) (by simp [uns, lv_args, lg_sl, catI, catL, catA, va_rfc]) (by simp [uns, lv_args, lg_sl, catI, catL, catA, va_rfc]) (by simp [uns, lv_args, lg_sl, catI, catL, catA, va_rfc]) ?_
  unfold F_X3_asks
  refine s_aload_n dX3_asks_0 0 rfl ?_
  refine s_iconst (0 : Int32) dX3_asks_1 (by decide) ?_
  refine s_chk (fun hk1 => ?_)
  refine s_put (j := 44) 4 (v := .int (0 : Int32)) dX3_asks_2 hk1 rfl (by decide) q1281 (Or.inl rfl) rfl rfl rfl (Upd.i (fun _ => rfl)) ?_
  refine s_hl (fun h2 e3 => ?_)
  refine s_aload_n dX3_asks_5 0 rfl ?_
  refine s_iconst (0 : Int32) dX3_asks_6 (by decide) ?_
  refine s_put (j := 45) 4 (v := .int (0 : Int32)) dX3_asks_7 (show h2.kind p0 = 5 by rw [e3]; exact hk1) rfl (by decide) q1282 (Or.inl rfl) rfl rfl rfl (Upd.i (fun _ => rfl)) ?_
  refine s_hl (fun h4 e5 => ?_)
  refine s_aload_n dX3_asks_10 0 rfl ?_
  refine s_iconst (0 : Int32) dX3_asks_11 (by decide) ?_
  refine s_put (j := 46) 4 (v := .int (0 : Int32)) dX3_asks_12 (show h4.kind p0 = 5 by rw [e5, e3]; exact hk1) rfl (by decide) q1283 (Or.inl rfl) rfl rfl rfl (Upd.i (fun _ => rfl)) ?_
  refine s_hl (fun h6 e7 => ?_)
  refine s_iconst (0 : Int32) dX3_asks_15 (by decide) ?_
  refine s_istore [(4, .int (0 : Int32)), (0, .ref p0), (1, .int p1), (2, .int p2), (3, .int p3)] dX3_asks_16 (by decide) (by decide) rfl ?_
  exact sX3_asks_L18 G n K hK p0 p1 p2 p3 n (0 : Int32) h6
theorem hyX3_doubt : yX3_doubt.cls ≠ "java/lang/invoke/MethodHandle" ∧ yX3_doubt.cls ≠ "java/lang/invoke/VarHandle" ∧ (parseMethodDescriptor yX3_doubt.desc).map (fun d => d.parameters.length) = some 2 := by decide +kernel
theorem sX3_doubt_L27 (G : Gl) (n : Nat) (K : Nat → Nat) (hK : K = G.ad) (y11 : Nat) (y12 : Int32) (y13 : Int32) : ∀ (f : Nat) (x9 : Int32) (x10 : Int32) (h : AH), Sim G yX3_doubt.cls yX3_doubt.name cX3_doubt 5 (some .int) 4 cvI 27 [(4, .int x9), (3, .int x10), (0, .ref y11), (1, .int y12), (2, .int y13)] [] h (F_X3_doubt_L27 n K y11 y12 y13 f x9 x10 h) := by
  intro f
  induction f with
  | zero =>
    intro x9 x10 h
    exact s_none
  | succ f ih =>
    intro x9 x10 h
    unfold F_X3_doubt_L27
    refine s_iload dX3_doubt_27 0 rfl (by decide) ?_
    refine s_aload_n dX3_doubt_29 2 rfl ?_
    refine s_chk (fun hk16 => ?_)
    refine s_callV_I 4 (kX3_places G n K hK y11 h) (by decide) (by decide) dX3_doubt_30 hk16 rfl rfl q1495 q1497 qs65 q109 q1498 hyX3_places rfl rfl (Nat.le_of_ble_eq_true rfl) (fun r14 h15 => ?_)
    refine s_icmp_ge 111 dX3_doubt_33 (by decide) (fun c17 => ?_) (fun c17 => ?_)
    · refine s_iload_n dX3_doubt_111 1 rfl ?_
      refine s_if_eq 119 dX3_doubt_112 (by decide) (fun c18 => ?_) (fun c18 => ?_)
      · refine s_iconst (2 : Int32) dX3_doubt_119 (by decide) ?_
        exact s_iret dX3_doubt_120 rfl rfl
      · refine s_iconst (1 : Int32) dX3_doubt_115 (by decide) ?_
        refine s_goto 120 dX3_doubt_116 (by decide) ?_
        exact s_iret dX3_doubt_120 rfl rfl
    · refine s_iload dX3_doubt_36 0 rfl (by decide) ?_
      refine s_iload_n dX3_doubt_38 3 rfl ?_
      refine s_icmp_ne 45 dX3_doubt_39 (by decide) (fun c19 => ?_) (fun c19 => ?_)
      · refine s_aload_n dX3_doubt_45 2 rfl ?_
        refine s_iload_n dX3_doubt_46 3 rfl ?_
        refine s_iload dX3_doubt_47 0 rfl (by decide) ?_
        refine s_iload_n dX3_doubt_49 4 rfl ?_
        refine s_chk (fun hk22 => ?_)
        refine s_callV_V 4 (kX3_asks G n K hK y11 y12 x9 y13 h15) (by decide) (by decide) dX3_doubt_50 hk22 rfl rfl q1736 q1738 qs99 q109 q1739 hyX3_asks rfl rfl (Nat.le_of_ble_eq_true rfl) (fun r20 h21 => ?_)
        refine s_aload_n dX3_doubt_53 2 rfl ?_
        refine s_aload_n dX3_doubt_54 2 rfl ?_
        refine s_chk (fun hk23 => ?_)
        refine s_get (j := 46) 4 (.int (h21.I y11 46)) dX3_doubt_55 hk23 rfl (by decide) q1283 (Or.inl rfl) rfl ?_
        refine s_aload_n dX3_doubt_58 2 rfl ?_
        refine s_get (j := 45) 4 (.int (h21.I y11 45)) dX3_doubt_59 hk23 rfl (by decide) q1282 (Or.inl rfl) rfl ?_
        refine s_aload_n dX3_doubt_62 2 rfl ?_
        refine s_get (j := 44) 4 (.int (h21.I y11 44)) dX3_doubt_63 hk23 rfl (by decide) q1281 (Or.inl rfl) rfl ?_
        refine s_iadd dX3_doubt_66 ?_
        refine s_callV_I 4 (kX3_isWon G n K hK y11 (h21.I y11 46) ((h21.I y11 45) + (h21.I y11 44)) h21) (by decide) (by decide) dX3_doubt_67 hk23 rfl rfl q1544 q1546 qs72 q109 q1547 hyX3_isWon rfl rfl (Nat.le_of_ble_eq_true rfl) (fun r24 h25 => ?_)
        refine s_if_eq 75 dX3_doubt_70 (by decide) (fun c26 => ?_) (fun c26 => ?_)
        · refine s_iload_n dX3_doubt_75 1 rfl ?_
          refine s_if_ne 99 dX3_doubt_76 (by decide) (fun c27 => ?_) (fun c27 => ?_)
          · refine s_iconst (1 : Int32) dX3_doubt_99 (by decide) ?_
            refine s_goto 104 dX3_doubt_100 (by decide) ?_
            refine s_istore_n [(3, .int (1 : Int32)), (4, .int x9), (0, .ref y11), (1, .int y12), (2, .int y13)] dX3_doubt_104 (by decide) (by decide) rfl ?_
            refine s_iinc (1 : Int32) [(4, .int (x9 + (1 : Int32))), (3, .int (1 : Int32)), (0, .ref y11), (1, .int y12), (2, .int y13)] dX3_doubt_105 1 rfl (by decide) (by decide) (by decide) rfl ?_
            refine s_goto 27 dX3_doubt_108 (by decide) ?_
            exact ih (x9 + (1 : Int32)) (1 : Int32) h25
          · refine s_aload_n dX3_doubt_79 2 rfl ?_
            refine s_aload_n dX3_doubt_80 2 rfl ?_
            refine s_chk (fun hk28 => ?_)
            refine s_get (j := 46) 4 (.int (h25.I y11 46)) dX3_doubt_81 hk28 rfl (by decide) q1283 (Or.inl rfl) rfl ?_
            refine s_aload_n dX3_doubt_84 2 rfl ?_
            refine s_get (j := 44) 4 (.int (h25.I y11 44)) dX3_doubt_85 hk28 rfl (by decide) q1281 (Or.inl rfl) rfl ?_
            refine s_iadd dX3_doubt_88 ?_
            refine s_aload_n dX3_doubt_89 2 rfl ?_
            refine s_get (j := 45) 4 (.int (h25.I y11 45)) dX3_doubt_90 hk28 rfl (by decide) q1282 (Or.inl rfl) rfl ?_
            refine s_callV_I 4 (kX3_isWon G n K hK y11 ((h25.I y11 46) + (h25.I y11 44)) (h25.I y11 45) h25) (by decide) (by decide) dX3_doubt_93 hk28 rfl rfl q1544 q1546 qs72 q109 q1547 hyX3_isWon rfl rfl (Nat.le_of_ble_eq_true rfl) (fun r29 h30 => ?_)
            refine s_if_eq 103 dX3_doubt_96 (by decide) (fun c31 => ?_) (fun c31 => ?_)
            · refine s_iconst (0 : Int32) dX3_doubt_103 (by decide) ?_
              refine s_istore_n [(3, .int (0 : Int32)), (4, .int x9), (0, .ref y11), (1, .int y12), (2, .int y13)] dX3_doubt_104 (by decide) (by decide) rfl ?_
              refine s_iinc (1 : Int32) [(4, .int (x9 + (1 : Int32))), (3, .int (0 : Int32)), (0, .ref y11), (1, .int y12), (2, .int y13)] dX3_doubt_105 1 rfl (by decide) (by decide) (by decide) rfl ?_
              refine s_goto 27 dX3_doubt_108 (by decide) ?_
              exact ih (x9 + (1 : Int32)) (0 : Int32) h30
            · refine s_iconst (1 : Int32) dX3_doubt_99 (by decide) ?_
              refine s_goto 104 dX3_doubt_100 (by decide) ?_
              refine s_istore_n [(3, .int (1 : Int32)), (4, .int x9), (0, .ref y11), (1, .int y12), (2, .int y13)] dX3_doubt_104 (by decide) (by decide) rfl ?_
              refine s_iinc (1 : Int32) [(4, .int (x9 + (1 : Int32))), (3, .int (1 : Int32)), (0, .ref y11), (1, .int y12), (2, .int y13)] dX3_doubt_105 1 rfl (by decide) (by decide) (by decide) rfl ?_
              refine s_goto 27 dX3_doubt_108 (by decide) ?_
              exact ih (x9 + (1 : Int32)) (1 : Int32) h30
        · refine s_iconst (0 : Int32) dX3_doubt_73 (by decide) ?_
          exact s_iret dX3_doubt_74 rfl rfl
      · refine s_goto 105 dX3_doubt_42 (by decide) ?_
        refine s_iinc (1 : Int32) [(4, .int (x9 + (1 : Int32))), (3, .int x10), (0, .ref y11), (1, .int y12), (2, .int y13)] dX3_doubt_105 0 rfl (by decide) (by decide) (by decide) rfl ?_
        refine s_goto 27 dX3_doubt_108 (by decide) ?_
        exact ih (x9 + (1 : Int32)) x10 h15
theorem kX3_doubt (G : Gl) (n : Nat) (K : Nat → Nat) (hK : K = G.ad) (p0 : Nat) (p1 : Int32) (p2 : Int32) (h : AH) : OkM G yX3_doubt cX3_doubt 5 (some .int) 4 cvI [.ref p0, .int p1, .int p2] h (F_X3_doubt n K p0 p1 p2 h) := by
  refine ok_of_sim [(0, .ref p0), (1, .int p1), (2, .int p2)] (by decide +kernel) (fun r => ⟨_, rfl⟩) (by simp [uns, lv_args, lg_sl, catI, catL, catA, va_rfc]) (by simp [uns, lv_args, lg_sl, catI, catL, catA, va_rfc]) (by simp [uns, lv_args, lg_sl, catI, catL, catA, va_rfc]) ?_
  unfold F_X3_doubt
  refine s_aload_n dX3_doubt_0 0 rfl ?_
  refine s_iload_n dX3_doubt_1 1 rfl ?_
  refine s_chk (fun hk3 => ?_)
  refine s_callV_I 4 (kX3_isPlace G n K hK p0 p1 h) (by decide) (by decide) dX3_doubt_2 hk3 rfl rfl q1491 q1493 qs64 q109 q1494 hyX3_isPlace rfl rfl (Nat.le_of_ble_eq_true rfl) (fun r1 h2 => ?_)
  refine s_if_eq 20 dX3_doubt_5 (by decide) (fun c4 => ?_) (fun c4 => ?_)
  · refine s_iconst (-1 : Int32) dX3_doubt_20 (by decide) ?_
    exact s_iret dX3_doubt_21 rfl rfl
  · refine s_iload_n dX3_doubt_8 2 rfl ?_
    refine s_i2l dX3_doubt_9 ?_
    refine s_lconst (0 : Int64) dX3_doubt_10 (by decide) ?_
    refine s_ldc2 (v := (5 : Int64)) dX3_doubt_11 q1735 ?_
    refine s_callS_I (kX3_in G n K hK p2.toInt64 (0 : Int64) (5 : Int64) h2) (by decide) (by decide) dX3_doubt_14 q1397 q1398 q109 q1399 hyX3_in rfl rfl (Nat.le_of_ble_eq_true rfl) (fun r5 h6 => ?_)
    refine s_if_ne 22 dX3_doubt_17 (by decide) (fun c7 => ?_) (fun c7 => ?_)
    · refine s_iconst (0 : Int32) dX3_doubt_22 (by decide) ?_
      refine s_istore_n [(3, .int (0 : Int32)), (0, .ref p0), (1, .int p1), (2, .int p2)] dX3_doubt_23 (by decide) (by decide) rfl ?_
      refine s_iconst (0 : Int32) dX3_doubt_24 (by decide) ?_
      refine s_istore [(4, .int (0 : Int32)), (3, .int (0 : Int32)), (0, .ref p0), (1, .int p1), (2, .int p2)] dX3_doubt_25 (by decide) (by decide) rfl ?_
      exact sX3_doubt_L27 G n K hK p0 p1 p2 n (0 : Int32) (0 : Int32) h6
    · refine s_iconst (-1 : Int32) dX3_doubt_20 (by decide) ?_
      exact s_iret dX3_doubt_21 rfl rfl
theorem hyX3_pairs : yX3_pairs.cls ≠ "java/lang/invoke/MethodHandle" ∧ yX3_pairs.cls ≠ "java/lang/invoke/VarHandle" ∧ (parseMethodDescriptor yX3_pairs.desc).map (fun d => d.parameters.length) = some 0 := by decide +kernel
theorem sX3_pairs_L14 (G : Gl) (n : Nat) (K : Nat → Nat) (hK : K = G.ad) (y11 : Int32) (y13 : Nat) : ∀ (f : Nat) (x10 : Int32) (x12 : Int32) (h : AH) (k : Int32 → AH → Option (Int32 × AH)) (hk : ∀ (x12 : Int32) (h : AH), Sim G yX3_pairs.cls yX3_pairs.name cX3_pairs 4 (some .int) 6 cvI 45 [(2, .int y11), (1, .int x12), (0, .ref y13)] [] h (k x12 h)), Sim G yX3_pairs.cls yX3_pairs.name cX3_pairs 4 (some .int) 6 cvI 14 [(3, .int x10), (2, .int y11), (1, .int x12), (0, .ref y13)] [] h (F_X3_pairs_L14 n K y11 y13 f x10 x12 h k) := by
  intro f
  induction f with
  | zero =>
    intro x10 x12 h k hk
    exact s_none
  | succ f ih =>
    intro x10 x12 h k hk
    unfold F_X3_pairs_L14
    refine s_iload_n dX3_pairs_14 0 rfl ?_
    refine s_aload_n dX3_pairs_15 3 rfl ?_
    refine s_chk (fun hk16 => ?_)
    refine s_callV_I 4 (kX3_places G n K hK y13 h) (by decide) (by decide) dX3_pairs_16 hk16 rfl rfl q1495 q1497 qs65 q109 q1498 hyX3_places rfl rfl (Nat.le_of_ble_eq_true rfl) (fun r14 h15 => ?_)
    refine s_icmp_ge 45 dX3_pairs_19 (by decide) (fun c17 => ?_) (fun c17 => ?_)
    · refine s_sub [1, 2, 3] rfl ?_
      exact hk x12 h15
    · refine s_iload_n dX3_pairs_22 2 rfl ?_
      refine s_aload_n dX3_pairs_23 3 rfl ?_
      refine s_iload_n dX3_pairs_24 1 rfl ?_
      refine s_iload_n dX3_pairs_25 0 rfl ?_
      refine s_chk (fun hk20 => ?_)
      refine s_callV_I 4 (kX3_beatsOf G n K hK y13 y11 x10 h15) (by decide) (by decide) dX3_pairs_26 hk20 rfl rfl q1536 q1538 qs70 q109 q1539 hyX3_beatsOf rfl rfl (Nat.le_of_ble_eq_true rfl) (fun r18 h19 => ?_)
      refine s_if_eq 36 dX3_pairs_29 (by decide) (fun c21 => ?_) (fun c21 => ?_)
      · refine s_iconst (0 : Int32) dX3_pairs_36 (by decide) ?_
        refine s_iadd dX3_pairs_37 ?_
        refine s_istore_n [(1, .int (x12 + (0 : Int32))), (3, .int x10), (2, .int y11), (0, .ref y13)] dX3_pairs_38 (by decide) (by decide) rfl ?_
        refine s_iinc (1 : Int32) [(3, .int (x10 + (1 : Int32))), (1, .int (x12 + (0 : Int32))), (2, .int y11), (0, .ref y13)] dX3_pairs_39 1 rfl (by decide) (by decide) (by decide) rfl ?_
        refine s_goto 14 dX3_pairs_42 (by decide) ?_
        refine s_sub [0, 2, 1, 3] rfl ?_
        exact ih (x10 + (1 : Int32)) (x12 + (0 : Int32)) h19 k hk
      · refine s_iconst (1 : Int32) dX3_pairs_32 (by decide) ?_
        refine s_goto 37 dX3_pairs_33 (by decide) ?_
        refine s_iadd dX3_pairs_37 ?_
        refine s_istore_n [(1, .int (x12 + (1 : Int32))), (3, .int x10), (2, .int y11), (0, .ref y13)] dX3_pairs_38 (by decide) (by decide) rfl ?_
        refine s_iinc (1 : Int32) [(3, .int (x10 + (1 : Int32))), (1, .int (x12 + (1 : Int32))), (2, .int y11), (0, .ref y13)] dX3_pairs_39 1 rfl (by decide) (by decide) (by decide) rfl ?_
        refine s_goto 14 dX3_pairs_42 (by decide) ?_
        refine s_sub [0, 2, 1, 3] rfl ?_
        exact ih (x10 + (1 : Int32)) (x12 + (1 : Int32)) h19 k hk
theorem sX3_pairs_L4 (G : Gl) (n : Nat) (K : Nat → Nat) (hK : K = G.ad) (y4 : Nat) : ∀ (f : Nat) (x2 : Int32) (x3 : Int32) (h : AH), Sim G yX3_pairs.cls yX3_pairs.name cX3_pairs 4 (some .int) 6 cvI 4 [(2, .int x2), (1, .int x3), (0, .ref y4)] [] h (F_X3_pairs_L4 n K y4 f x2 x3 h) := by
  intro f
  induction f with
  | zero =>
    intro x2 x3 h
    exact s_none
  | succ f ih =>
    intro x2 x3 h
    unfold F_X3_pairs_L4
    refine s_iload_n dX3_pairs_4 0 rfl ?_
    refine s_aload_n dX3_pairs_5 2 rfl ?_
    refine s_chk (fun hk7 => ?_)
    refine s_callV_I 4 (kX3_places G n K hK y4 h) (by decide) (by decide) dX3_pairs_6 hk7 rfl rfl q1495 q1497 qs65 q109 q1498 hyX3_places rfl rfl (Nat.le_of_ble_eq_true rfl) (fun r5 h6 => ?_)
    refine s_icmp_ge 51 dX3_pairs_9 (by decide) (fun c8 => ?_) (fun c8 => ?_)
    · refine s_iload_n dX3_pairs_51 1 rfl ?_
      exact s_iret dX3_pairs_52 rfl rfl
    · refine s_iconst (0 : Int32) dX3_pairs_12 (by decide) ?_
      refine s_istore_n [(3, .int (0 : Int32)), (2, .int x2), (1, .int x3), (0, .ref y4)] dX3_pairs_13 (by decide) (by decide) rfl ?_
      refine sX3_pairs_L14 G n K hK x2 y4 n (0 : Int32) x3 h6 _ ?_
      intro x22 h23
      refine s_iinc (1 : Int32) [(2, .int (x2 + (1 : Int32))), (1, .int x22), (0, .ref y4)] dX3_pairs_45 0 rfl (by decide) (by decide) (by decide) rfl ?_
      refine s_goto 4 dX3_pairs_48 (by decide) ?_
      exact ih (x2 + (1 : Int32)) x22 h23
theorem kX3_pairs (G : Gl) (n : Nat) (K : Nat → Nat) (hK : K = G.ad) (p0 : Nat) (h : AH) : OkM G yX3_pairs cX3_pairs 4 (some .int) 6 cvI [.ref p0] h (F_X3_pairs n K p0 h) := by
  refine ok_of_sim [(0, .ref p0)] (by decide +kernel) (fun r => ⟨_, rfl⟩) (by simp [uns, lv_args, lg_sl, catI, catL, catA, va_rfc]) (by simp [uns, lv_args, lg_sl, catI, catL, catA, va_rfc]) (by simp [uns, lv_args, lg_sl, catI, catL, catA, va_rfc]) ?_
  unfold F_X3_pairs
  refine s_iconst (0 : Int32) dX3_pairs_0 (by decide) ?_
  refine s_istore_n [(1, .int (0 : Int32)), (0, .ref p0)] dX3_pairs_1 (by decide) (by decide) rfl ?_
  refine s_iconst (0 : Int32) dX3_pairs_2 (by decide) ?_
  refine s_istore_n [(2, .int (0 : Int32)), (1, .int (0 : Int32)), (0, .ref p0)] dX3_pairs_3 (by decide) (by decide) rfl ?_
  exact sX3_pairs_L4 G n K hK p0 n (0 : Int32) (0 : Int32) h
theorem hyX3_move : yX3_move.cls ≠ "java/lang/invoke/MethodHandle" ∧ yX3_move.cls ≠ "java/lang/invoke/VarHandle" ∧ (parseMethodDescriptor yX3_move.desc).map (fun d => d.parameters.length) = some 3 := by decide +kernel
theorem kX3_move (G : Gl) (n : Nat) (K : Nat → Nat) (hK : K = G.ad) (p0 : Nat) (p1 : Int32) (p2 : Int32) (p3 : Int32) (h : AH) : OkM G yX3_move cX3_move 5 (some .int) 8 cvI [.ref p0, .int p1, .int p2, .int p3] h (F_X3_move n K p0 p1 p2 p3 h) := by
  refine ok_of_sim [(0, .ref p0), (1, .int p1), (2, .int p2), (3, .int p3)] (by decide +kernel) (fun r => ⟨_, rfl⟩) (by simp [uns, lv_args, lg_sl, catI, catL, catA, va_rfc]) (by simp [uns, lv_args, lg_sl, catI, catL, catA, va_rfc]) (by simp [uns, lv_args, lg_sl, catI, catL, catA, va_rfc]) ?_
  unfold F_X3_move
  refine s_aload_n dX3_move_0 0 rfl ?_
  refine s_iload_n dX3_move_1 1 rfl ?_
  refine s_chk (fun hk3 => ?_)
  refine s_callV_I 4 (kX3_isVoter G n K hK p0 p1 h) (by decide) (by decide) dX3_move_2 hk3 rfl rfl q1483 q1485 qs63 q109 q1486 hyX3_isVoter rfl rfl (Nat.le_of_ble_eq_true rfl) (fun r1 h2 => ?_)
  refine s_if_eq 49 dX3_move_5 (by decide) (fun c4 => ?_) (fun c4 => ?_)
  · refine s_iconst (-1 : Int32) dX3_move_49 (by decide) ?_
    exact s_iret dX3_move_50 rfl rfl
  · refine s_iload_n dX3_move_8 2 rfl ?_
    refine s_iload_n dX3_move_9 3 rfl ?_
    refine s_callS_I (kX3_isPoint G n K hK p2 p3 h2) (by decide) (by decide) dX3_move_10 q1503 q1504 q109 q1505 hyX3_isPoint rfl rfl (Nat.le_of_ble_eq_true rfl) (fun r5 h6 => ?_)
    refine s_if_eq 49 dX3_move_13 (by decide) (fun c7 => ?_) (fun c7 => ?_)
    · refine s_iconst (-1 : Int32) dX3_move_49 (by decide) ?_
      exact s_iret dX3_move_50 rfl rfl
    · refine s_aload_n dX3_move_16 0 rfl ?_
      refine s_chk (fun hk8 => ?_)
      refine s_get (j := 6) 4 (va_rf (h6.R p0 6)) dX3_move_17 hk8 rfl (by decide) q1243 (Or.inl rfl) rfl ?_
      refine s_iconst (0 : Int32) dX3_move_20 (by decide) ?_
      refine s_ob (r := h6.R p0 6) (fun z => [(0, .ref p0), (1, .int p1), (2, .int p2), (3, .int p3)]) (fun z => [.int (0 : Int32), z]) (fun a9 => ?_)
      refine s_chk (fun hk10 => ?_)
      refine s_chk (fun hi11 => ?_)
      refine s_aald dX3_move_21 hk10 rfl rfl rfl hi11 ?_
      refine s_iload_n dX3_move_22 1 rfl ?_
      refine s_ob (r := h6.R a9 (ix (0 : Int32))) (fun z => [(0, .ref p0), (1, .int p1), (2, .int p2), (3, .int p3)]) (fun z => [.int p1, z]) (fun a12 => ?_)
      refine s_chk (fun hk13 => ?_)
      refine s_chk (fun hi14 => ?_)
      refine s_iald dX3_move_23 hk13 rfl hi14 ?_
      refine s_iload_n dX3_move_24 2 rfl ?_
      refine s_jn (fun j15 => Sim G yX3_move.cls yX3_move.name cX3_move 5 (some .int) 8 cvI 40 [(0, .ref p0), (1, .int p1), (2, .int p2), (3, .int p3)] [] h6 (j15 )) ?_ (fun j15 hj97 => ?_)
      · skip
        refine s_aload_n dX3_move_40 0 rfl ?_
        refine s_get (j := 48) 4 (.int (h6.I p0 48)) dX3_move_41 hk8 rfl (by decide) q1285 (Or.inl rfl) rfl ?_
        refine s_bipush (40 : Int32) dX3_move_44 (by decide) ?_
        refine s_icmp_ne 51 dX3_move_46 (by decide) (fun c16 => ?_) (fun c16 => ?_)
        · refine s_aload_n dX3_move_51 0 rfl ?_
          refine s_get (j := 47) 4 (va_rf (h6.R p0 47)) dX3_move_52 hk8 rfl (by decide) q1284 (Or.inl rfl) rfl ?_
          refine s_aload_n dX3_move_55 0 rfl ?_
          refine s_get (j := 48) 4 (.int (h6.I p0 48)) dX3_move_56 hk8 rfl (by decide) q1285 (Or.inl rfl) rfl ?_
          refine s_ob (r := h6.R p0 47) (fun z => [(0, .ref p0), (1, .int p1), (2, .int p2), (3, .int p3)]) (fun z => [.int (h6.I p0 48), z]) (fun a17 => ?_)
          refine s_chk (fun hk18 => ?_)
          refine s_chk (fun hi19 => ?_)
          refine s_aald dX3_move_59 hk18 rfl rfl rfl hi19 ?_
          refine s_ostore [(4, va_rf (h6.R a17 (ix (h6.I p0 48)))), (0, .ref p0), (1, .int p1), (2, .int p2), (3, .int p3)] dX3_move_60 (by decide) (by decide) rfl ?_
          refine s_oload dX3_move_62 0 rfl (by decide) ?_
          refine s_iconst (0 : Int32) dX3_move_64 (by decide) ?_
          refine s_iload_n dX3_move_65 2 rfl ?_
          refine s_ob (r := h6.R a17 (ix (h6.I p0 48))) (fun z => [(4, z), (0, .ref p0), (1, .int p1), (2, .int p2), (3, .int p3)]) (fun z => [.int p1, .int (0 : Int32), z]) (fun a20 => ?_)
          refine s_chk (fun hk21 => ?_)
          refine s_chk (fun hi22 => ?_)
          refine s_iast dX3_move_66 hk21 rfl (by decide) hi22 ?_
          refine s_hl (fun h23 e24 => ?_)
          refine s_aload dX3_move_67 0 rfl (by decide) ?_
          refine s_iconst (1 : Int32) dX3_move_69 (by decide) ?_
          refine s_aload_n dX3_move_70 1 rfl ?_
          refine s_get (j := 6) 4 (va_rf (h23.R p0 6)) dX3_move_71 (show h23.kind p0 = 5 by rw [e24]; exact hk8) rfl (by decide) q1243 (Or.inl rfl) rfl ?_
          refine s_iconst (0 : Int32) dX3_move_74 (by decide) ?_
          refine s_ob (r := h23.R p0 6) (fun z => [(4, .ref a20), (0, .ref p0), (1, .int p1), (2, .int p2), (3, .int p3)]) (fun z => [.int (0 : Int32), z, .int (1 : Int32), .ref a20]) (fun a25 => ?_)
          refine s_chk (fun hk26 => ?_)
          refine s_chk (fun hi27 => ?_)
          refine s_aald dX3_move_75 hk26 rfl rfl rfl hi27 ?_
          refine s_iload_n dX3_move_76 2 rfl ?_
          refine s_ob (r := h23.R a25 (ix (0 : Int32))) (fun z => [(4, .ref a20), (0, .ref p0), (1, .int p1), (2, .int p2), (3, .int p3)]) (fun z => [.int p1, z, .int (1 : Int32), .ref a20]) (fun a28 => ?_)
          refine s_chk (fun hk29 => ?_)
          refine s_chk (fun hi30 => ?_)
          refine s_iald dX3_move_77 hk29 rfl hi30 ?_
          refine s_chk (fun hi31 => ?_)
          refine s_iast dX3_move_78 (show h23.kind a20 = 32 by rw [e24]; exact hk21) rfl (by decide) hi31 ?_
          refine s_hl (fun h32 e33 => ?_)
          refine s_aload dX3_move_79 0 rfl (by decide) ?_
          refine s_iconst (2 : Int32) dX3_move_81 (by decide) ?_
          refine s_aload_n dX3_move_82 1 rfl ?_
          refine s_get (j := 7) 4 (va_rf (h32.R p0 7)) dX3_move_83 (show h32.kind p0 = 5 by rw [e33, e24]; exact hk8) rfl (by decide) q1244 (Or.inl rfl) rfl ?_
          refine s_iconst (0 : Int32) dX3_move_86 (by decide) ?_
          refine s_ob (r := h32.R p0 7) (fun z => [(4, .ref a20), (0, .ref p0), (1, .int p1), (2, .int p2), (3, .int p3)]) (fun z => [.int (0 : Int32), z, .int (2 : Int32), .ref a20]) (fun a34 => ?_)
          refine s_chk (fun hk35 => ?_)
          refine s_chk (fun hi36 => ?_)
          refine s_aald dX3_move_87 hk35 rfl rfl rfl hi36 ?_
          refine s_iload_n dX3_move_88 2 rfl ?_
          refine s_ob (r := h32.R a34 (ix (0 : Int32))) (fun z => [(4, .ref a20), (0, .ref p0), (1, .int p1), (2, .int p2), (3, .int p3)]) (fun z => [.int p1, z, .int (2 : Int32), .ref a20]) (fun a37 => ?_)
          refine s_chk (fun hk38 => ?_)
          refine s_chk (fun hi39 => ?_)
          refine s_iald dX3_move_89 hk38 rfl hi39 ?_
          refine s_chk (fun hi40 => ?_)
          refine s_iast dX3_move_90 (show h32.kind a20 = 32 by rw [e33, e24]; exact hk21) rfl (by decide) hi40 ?_
          refine s_hl (fun h41 e42 => ?_)
          refine s_aload dX3_move_91 0 rfl (by decide) ?_
          refine s_iconst (3 : Int32) dX3_move_93 (by decide) ?_
          refine s_iload_n dX3_move_94 3 rfl ?_
          refine s_chk (fun hi43 => ?_)
          refine s_iast dX3_move_95 (show h41.kind a20 = 32 by rw [e42, e33, e24]; exact hk21) rfl (by decide) hi43 ?_
          refine s_hl (fun h44 e45 => ?_)
          refine s_aload dX3_move_96 0 rfl (by decide) ?_
          refine s_iconst (4 : Int32) dX3_move_98 (by decide) ?_
          refine s_iload_n dX3_move_99 4 rfl ?_
          refine s_chk (fun hi46 => ?_)
          refine s_iast dX3_move_100 (show h44.kind a20 = 32 by rw [e45, e42, e33, e24]; exact hk21) rfl (by decide) hi46 ?_
          refine s_hl (fun h47 e48 => ?_)
          refine s_aload dX3_move_101 0 rfl (by decide) ?_
          refine s_iconst (5 : Int32) dX3_move_103 (by decide) ?_
          refine s_aload_n dX3_move_104 1 rfl ?_
          refine s_callV_I 4 (kX3_pairs G n K hK p0 h47) (by decide) (by decide) dX3_move_105 (show h47.kind p0 = 5 by rw [e48, e45, e42, e33, e24]; exact hk8) rfl rfl q1748 q1750 qs101 q109 q1751 hyX3_pairs rfl rfl (Nat.le_of_ble_eq_true rfl) (fun r49 h50 => ?_)
          refine s_chk (fun hk51 => ?_)
          refine s_chk (fun hi52 => ?_)
          refine s_iast dX3_move_108 hk51 rfl (by decide) hi52 ?_
          refine s_hl (fun h53 e54 => ?_)
          refine s_aload dX3_move_109 0 rfl (by decide) ?_
          refine s_bipush (7 : Int32) dX3_move_111 (by decide) ?_
          refine s_aload_n dX3_move_113 1 rfl ?_
          refine s_chk (fun hk57 => ?_)
          refine s_callV_I 4 (kX3_peace G n K hK p0 h53) (by decide) (by decide) dX3_move_114 hk57 rfl rfl q1722 q1711 q1712 q109 q1713 hyX3_peace rfl rfl (Nat.le_of_ble_eq_true rfl) (fun r55 h56 => ?_)
          refine s_chk (fun hk58 => ?_)
          refine s_chk (fun hi59 => ?_)
          refine s_iast dX3_move_117 hk58 rfl (by decide) hi59 ?_
          refine s_hl (fun h60 e61 => ?_)
          refine s_aload_n dX3_move_118 1 rfl ?_
          refine s_chk (fun hk62 => ?_)
          refine s_get (j := 6) 4 (va_rf (h60.R p0 6)) dX3_move_119 hk62 rfl (by decide) q1243 (Or.inl rfl) rfl ?_
          refine s_iconst (0 : Int32) dX3_move_122 (by decide) ?_
          refine s_ob (r := h60.R p0 6) (fun z => [(4, .ref a20), (0, .ref p0), (1, .int p1), (2, .int p2), (3, .int p3)]) (fun z => [.int (0 : Int32), z]) (fun a63 => ?_)
          refine s_chk (fun hk64 => ?_)
          refine s_chk (fun hi65 => ?_)
          refine s_aald dX3_move_123 hk64 rfl rfl rfl hi65 ?_
          refine s_iload_n dX3_move_124 2 rfl ?_
          refine s_iload_n dX3_move_125 3 rfl ?_
          refine s_ob (r := h60.R a63 (ix (0 : Int32))) (fun z => [(4, .ref a20), (0, .ref p0), (1, .int p1), (2, .int p2), (3, .int p3)]) (fun z => [.int p2, .int p1, z]) (fun a66 => ?_)
          refine s_chk (fun hk67 => ?_)
          refine s_chk (fun hi68 => ?_)
          refine s_iast dX3_move_126 hk67 rfl (by decide) hi68 ?_
          refine s_hl (fun h69 e70 => ?_)
          refine s_aload_n dX3_move_127 1 rfl ?_
          refine s_get (j := 7) 4 (va_rf (h69.R p0 7)) dX3_move_128 (show h69.kind p0 = 5 by rw [e70]; exact hk62) rfl (by decide) q1244 (Or.inl rfl) rfl ?_
          refine s_iconst (0 : Int32) dX3_move_131 (by decide) ?_
          refine s_ob (r := h69.R p0 7) (fun z => [(4, .ref a20), (0, .ref p0), (1, .int p1), (2, .int p2), (3, .int p3)]) (fun z => [.int (0 : Int32), z]) (fun a71 => ?_)
          refine s_chk (fun hk72 => ?_)
          refine s_chk (fun hi73 => ?_)
          refine s_aald dX3_move_132 hk72 rfl rfl rfl hi73 ?_
          refine s_iload_n dX3_move_133 2 rfl ?_
          refine s_iload_n dX3_move_134 4 rfl ?_
          refine s_ob (r := h69.R a71 (ix (0 : Int32))) (fun z => [(4, .ref a20), (0, .ref p0), (1, .int p1), (2, .int p2), (3, .int p3)]) (fun z => [.int p3, .int p1, z]) (fun a74 => ?_)
          refine s_chk (fun hk75 => ?_)
          refine s_chk (fun hi76 => ?_)
          refine s_iast dX3_move_135 hk75 rfl (by decide) hi76 ?_
          refine s_hl (fun h77 e78 => ?_)
          refine s_aload dX3_move_136 0 rfl (by decide) ?_
          refine s_bipush (6 : Int32) dX3_move_138 (by decide) ?_
          refine s_aload_n dX3_move_140 1 rfl ?_
          refine s_callV_I 4 (kX3_pairs G n K hK p0 h77) (by decide) (by decide) dX3_move_141 (show h77.kind p0 = 5 by rw [e78, e70]; exact hk62) rfl rfl q1748 q1750 qs101 q109 q1751 hyX3_pairs rfl rfl (Nat.le_of_ble_eq_true rfl) (fun r79 h80 => ?_)
          refine s_chk (fun hk81 => ?_)
          refine s_chk (fun hi82 => ?_)
          refine s_iast dX3_move_144 hk81 rfl (by decide) hi82 ?_
          refine s_hl (fun h83 e84 => ?_)
          refine s_aload dX3_move_145 0 rfl (by decide) ?_
          refine s_bipush (8 : Int32) dX3_move_147 (by decide) ?_
          refine s_aload_n dX3_move_149 1 rfl ?_
          refine s_chk (fun hk87 => ?_)
          refine s_callV_I 4 (kX3_peace G n K hK p0 h83) (by decide) (by decide) dX3_move_150 hk87 rfl rfl q1722 q1711 q1712 q109 q1713 hyX3_peace rfl rfl (Nat.le_of_ble_eq_true rfl) (fun r85 h86 => ?_)
          refine s_chk (fun hk88 => ?_)
          refine s_chk (fun hi89 => ?_)
          refine s_iast dX3_move_153 hk88 rfl (by decide) hi89 ?_
          refine s_hl (fun h90 e91 => ?_)
          refine s_aload_n dX3_move_154 1 rfl ?_
          refine s_dup dX3_move_155 rfl ?_
          refine s_chk (fun hk92 => ?_)
          refine s_get (j := 48) 4 (.int (h90.I p0 48)) dX3_move_156 hk92 rfl (by decide) q1285 (Or.inl rfl) rfl ?_
          refine s_iconst (1 : Int32) dX3_move_159 (by decide) ?_
          refine s_iadd dX3_move_160 ?_
          refine s_put (j := 48) 4 (v := .int ((h90.I p0 48) + (1 : Int32))) dX3_move_161 hk92 rfl (by decide) q1285 (Or.inl rfl) rfl rfl rfl (Upd.i (fun _ => rfl)) ?_
          refine s_hl (fun h93 e94 => ?_)
          refine s_aload_n dX3_move_164 1 rfl ?_
          refine s_iconst (0 : Int32) dX3_move_165 (by decide) ?_
          refine s_put (j := 29) 4 (v := .int (0 : Int32)) dX3_move_166 (show h93.kind p0 = 5 by rw [e94]; exact hk92) rfl (by decide) q1266 (Or.inl rfl) rfl rfl rfl (Upd.i (fun _ => rfl)) ?_
          refine s_hl (fun h95 e96 => ?_)
          refine s_aload_n dX3_move_169 1 rfl ?_
          refine s_get (j := 48) 4 (.int (h95.I p0 48)) dX3_move_170 (show h95.kind p0 = 5 by rw [e96, e94]; exact hk92) rfl (by decide) q1285 (Or.inl rfl) rfl ?_
          exact s_iret dX3_move_173 rfl rfl
        · refine s_iconst (-1 : Int32) dX3_move_49 (by decide) ?_
          exact s_iret dX3_move_50 rfl rfl
      refine s_icmp_ne 40 dX3_move_25 (by decide) (fun c98 => ?_) (fun c98 => ?_)
      · exact hj97
      · refine s_aload_n dX3_move_28 0 rfl ?_
        refine s_get (j := 7) 4 (va_rf (h6.R p0 7)) dX3_move_29 hk8 rfl (by decide) q1244 (Or.inl rfl) rfl ?_
        refine s_iconst (0 : Int32) dX3_move_32 (by decide) ?_
        refine s_ob (r := h6.R p0 7) (fun z => [(0, .ref p0), (1, .int p1), (2, .int p2), (3, .int p3)]) (fun z => [.int (0 : Int32), z]) (fun a99 => ?_)
        refine s_chk (fun hk100 => ?_)
        refine s_chk (fun hi101 => ?_)
        refine s_aald dX3_move_33 hk100 rfl rfl rfl hi101 ?_
        refine s_iload_n dX3_move_34 1 rfl ?_
        refine s_ob (r := h6.R a99 (ix (0 : Int32))) (fun z => [(0, .ref p0), (1, .int p1), (2, .int p2), (3, .int p3)]) (fun z => [.int p1, z]) (fun a102 => ?_)
        refine s_chk (fun hk103 => ?_)
        refine s_chk (fun hi104 => ?_)
        refine s_iald dX3_move_35 hk103 rfl hi104 ?_
        refine s_iload_n dX3_move_36 3 rfl ?_
        refine s_icmp_eq 49 dX3_move_37 (by decide) (fun c105 => ?_) (fun c105 => ?_)
        · refine s_iconst (-1 : Int32) dX3_move_49 (by decide) ?_
          exact s_iret dX3_move_50 rfl rfl
        · exact hj97
theorem hyX3_undo : yX3_undo.cls ≠ "java/lang/invoke/MethodHandle" ∧ yX3_undo.cls ≠ "java/lang/invoke/VarHandle" ∧ (parseMethodDescriptor yX3_undo.desc).map (fun d => d.parameters.length) = some 0 := by decide +kernel
theorem kX3_undo (G : Gl) (n : Nat) (K : Nat → Nat) (hK : K = G.ad) (p0 : Nat) (h : AH) : OkM G yX3_undo cX3_undo 2 (some .int) 1 cvI [.ref p0] h (F_X3_undo n K p0 h) := by
  refine ok_of_sim [(0, .ref p0)] (by decide +kernel) (fun r => ⟨_, rfl⟩) (by simp [uns, lv_args, lg_sl, catI, catL, catA, va_rfc]) (by simp [uns, lv_args, lg_sl, catI, catL, catA, va_rfc]) (by simp [uns, lv_args, lg_sl, catI, catL, catA, va_rfc]) ?_
  unfold F_X3_undo
  refine s_aload_n dX3_undo_0 0 rfl ?_
  refine s_chk (fun hk1 => ?_)
  refine s_get (j := 48) 4 (.int (h.I p0 48)) dX3_undo_1 hk1 rfl (by decide) q1285 (Or.inl rfl) rfl ?_
  refine s_if_ne 9 dX3_undo_4 (by decide) (fun c2 => ?_) (fun c2 => ?_)
  · refine s_aload_n dX3_undo_9 0 rfl ?_
    refine s_dup dX3_undo_10 rfl ?_
    refine s_get (j := 48) 4 (.int (h.I p0 48)) dX3_undo_11 hk1 rfl (by decide) q1285 (Or.inl rfl) rfl ?_
    refine s_iconst (1 : Int32) dX3_undo_14 (by decide) ?_
    refine s_isub dX3_undo_15 ?_
    refine s_put (j := 48) 4 (v := .int ((h.I p0 48) - (1 : Int32))) dX3_undo_16 hk1 rfl (by decide) q1285 (Or.inl rfl) rfl rfl rfl (Upd.i (fun _ => rfl)) ?_
    refine s_hl (fun h3 e4 => ?_)
    refine s_aload_n dX3_undo_19 0 rfl ?_
    refine s_get (j := 47) 4 (va_rf (h3.R p0 47)) dX3_undo_20 (show h3.kind p0 = 5 by rw [e4]; exact hk1) rfl (by decide) q1284 (Or.inl rfl) rfl ?_
    refine s_aload_n dX3_undo_23 0 rfl ?_
    refine s_get (j := 48) 4 (.int (h3.I p0 48)) dX3_undo_24 (show h3.kind p0 = 5 by rw [e4]; exact hk1) rfl (by decide) q1285 (Or.inl rfl) rfl ?_
    refine s_ob (r := h3.R p0 47) (fun z => [(0, .ref p0)]) (fun z => [.int (h3.I p0 48), z]) (fun a5 => ?_)
    refine s_chk (fun hk6 => ?_)
    refine s_chk (fun hi7 => ?_)
    refine s_aald dX3_undo_27 hk6 rfl rfl rfl hi7 ?_
    refine s_iconst (0 : Int32) dX3_undo_28 (by decide) ?_
    refine s_ob (r := h3.R a5 (ix (h3.I p0 48))) (fun z => [(0, .ref p0)]) (fun z => [.int (0 : Int32), z]) (fun a8 => ?_)
    refine s_chk (fun hk9 => ?_)
    refine s_chk (fun hi10 => ?_)
    refine s_iald dX3_undo_29 hk9 rfl hi10 ?_
    refine s_istore_n [(1, .int (h3.I a8 (ix (0 : Int32)))), (0, .ref p0)] dX3_undo_30 (by decide) (by decide) rfl ?_
    refine s_aload_n dX3_undo_31 1 rfl ?_
    refine s_get (j := 6) 4 (va_rf (h3.R p0 6)) dX3_undo_32 (show h3.kind p0 = 5 by rw [e4]; exact hk1) rfl (by decide) q1243 (Or.inl rfl) rfl ?_
    refine s_iconst (0 : Int32) dX3_undo_35 (by decide) ?_
    refine s_ob (r := h3.R p0 6) (fun z => [(1, .int (h3.I a8 (ix (0 : Int32)))), (0, .ref p0)]) (fun z => [.int (0 : Int32), z]) (fun a11 => ?_)
    refine s_chk (fun hk12 => ?_)
    refine s_chk (fun hi13 => ?_)
    refine s_aald dX3_undo_36 hk12 rfl rfl rfl hi13 ?_
    refine s_iload_n dX3_undo_37 0 rfl ?_
    refine s_aload_n dX3_undo_38 1 rfl ?_
    refine s_get (j := 47) 4 (va_rf (h3.R p0 47)) dX3_undo_39 (show h3.kind p0 = 5 by rw [e4]; exact hk1) rfl (by decide) q1284 (Or.inl rfl) rfl ?_
    refine s_aload_n dX3_undo_42 1 rfl ?_
    refine s_get (j := 48) 4 (.int (h3.I p0 48)) dX3_undo_43 (show h3.kind p0 = 5 by rw [e4]; exact hk1) rfl (by decide) q1285 (Or.inl rfl) rfl ?_
    refine s_ob (r := h3.R p0 47) (fun z => [(1, .int (h3.I a8 (ix (0 : Int32)))), (0, .ref p0)]) (fun z => [.int (h3.I p0 48), z, .int (h3.I a8 (ix (0 : Int32))), va_rf (h3.R a11 (ix (0 : Int32)))]) (fun a14 => ?_)
    refine s_chk (fun hk15 => ?_)
    refine s_chk (fun hi16 => ?_)
    refine s_aald dX3_undo_46 hk15 rfl rfl rfl hi16 ?_
    refine s_iconst (1 : Int32) dX3_undo_47 (by decide) ?_
    refine s_ob (r := h3.R a14 (ix (h3.I p0 48))) (fun z => [(1, .int (h3.I a8 (ix (0 : Int32)))), (0, .ref p0)]) (fun z => [.int (1 : Int32), z, .int (h3.I a8 (ix (0 : Int32))), va_rf (h3.R a11 (ix (0 : Int32)))]) (fun a17 => ?_)
    refine s_chk (fun hk18 => ?_)
    refine s_chk (fun hi19 => ?_)
    refine s_iald dX3_undo_48 hk18 rfl hi19 ?_
    refine s_ob (r := h3.R a11 (ix (0 : Int32))) (fun z => [(1, .int (h3.I a8 (ix (0 : Int32)))), (0, .ref p0)]) (fun z => [.int (h3.I a17 (ix (1 : Int32))), .int (h3.I a8 (ix (0 : Int32))), z]) (fun a20 => ?_)
    refine s_chk (fun hk21 => ?_)
    refine s_chk (fun hi22 => ?_)
    refine s_iast dX3_undo_49 hk21 rfl (by decide) hi22 ?_
    refine s_hl (fun h23 e24 => ?_)
    refine s_aload_n dX3_undo_50 1 rfl ?_
    refine s_get (j := 7) 4 (va_rf (h23.R p0 7)) dX3_undo_51 (show h23.kind p0 = 5 by rw [e24, e4]; exact hk1) rfl (by decide) q1244 (Or.inl rfl) rfl ?_
    refine s_iconst (0 : Int32) dX3_undo_54 (by decide) ?_
    refine s_ob (r := h23.R p0 7) (fun z => [(1, .int (h3.I a8 (ix (0 : Int32)))), (0, .ref p0)]) (fun z => [.int (0 : Int32), z]) (fun a25 => ?_)
    refine s_chk (fun hk26 => ?_)
    refine s_chk (fun hi27 => ?_)
    refine s_aald dX3_undo_55 hk26 rfl rfl rfl hi27 ?_
    refine s_iload_n dX3_undo_56 0 rfl ?_
    refine s_aload_n dX3_undo_57 1 rfl ?_
    refine s_get (j := 47) 4 (va_rf (h23.R p0 47)) dX3_undo_58 (show h23.kind p0 = 5 by rw [e24, e4]; exact hk1) rfl (by decide) q1284 (Or.inl rfl) rfl ?_
    refine s_aload_n dX3_undo_61 1 rfl ?_
    refine s_get (j := 48) 4 (.int (h23.I p0 48)) dX3_undo_62 (show h23.kind p0 = 5 by rw [e24, e4]; exact hk1) rfl (by decide) q1285 (Or.inl rfl) rfl ?_
    refine s_ob (r := h23.R p0 47) (fun z => [(1, .int (h3.I a8 (ix (0 : Int32)))), (0, .ref p0)]) (fun z => [.int (h23.I p0 48), z, .int (h3.I a8 (ix (0 : Int32))), va_rf (h23.R a25 (ix (0 : Int32)))]) (fun a28 => ?_)
    refine s_chk (fun hk29 => ?_)
    refine s_chk (fun hi30 => ?_)
    refine s_aald dX3_undo_65 hk29 rfl rfl rfl hi30 ?_
    refine s_iconst (2 : Int32) dX3_undo_66 (by decide) ?_
    refine s_ob (r := h23.R a28 (ix (h23.I p0 48))) (fun z => [(1, .int (h3.I a8 (ix (0 : Int32)))), (0, .ref p0)]) (fun z => [.int (2 : Int32), z, .int (h3.I a8 (ix (0 : Int32))), va_rf (h23.R a25 (ix (0 : Int32)))]) (fun a31 => ?_)
    refine s_chk (fun hk32 => ?_)
    refine s_chk (fun hi33 => ?_)
    refine s_iald dX3_undo_67 hk32 rfl hi33 ?_
    refine s_ob (r := h23.R a25 (ix (0 : Int32))) (fun z => [(1, .int (h3.I a8 (ix (0 : Int32)))), (0, .ref p0)]) (fun z => [.int (h23.I a31 (ix (2 : Int32))), .int (h3.I a8 (ix (0 : Int32))), z]) (fun a34 => ?_)
    refine s_chk (fun hk35 => ?_)
    refine s_chk (fun hi36 => ?_)
    refine s_iast dX3_undo_68 hk35 rfl (by decide) hi36 ?_
    refine s_hl (fun h37 e38 => ?_)
    refine s_aload_n dX3_undo_69 1 rfl ?_
    refine s_iconst (0 : Int32) dX3_undo_70 (by decide) ?_
    refine s_put (j := 29) 4 (v := .int (0 : Int32)) dX3_undo_71 (show h37.kind p0 = 5 by rw [e38, e24, e4]; exact hk1) rfl (by decide) q1266 (Or.inl rfl) rfl rfl rfl (Upd.i (fun _ => rfl)) ?_
    refine s_hl (fun h39 e40 => ?_)
    refine s_iload_n dX3_undo_74 0 rfl ?_
    exact s_iret dX3_undo_75 rfl rfl
  · refine s_iconst (-1 : Int32) dX3_undo_7 (by decide) ?_
    exact s_iret dX3_undo_8 rfl rfl
theorem hyX3_moved : yX3_moved.cls ≠ "java/lang/invoke/MethodHandle" ∧ yX3_moved.cls ≠ "java/lang/invoke/VarHandle" ∧ (parseMethodDescriptor yX3_moved.desc).map (fun d => d.parameters.length) = some 2 := by decide +kernel
theorem kX3_moved (G : Gl) (n : Nat) (K : Nat → Nat) (hK : K = G.ad) (p0 : Nat) (p1 : Int32) (p2 : Int32) (h : AH) : OkM G yX3_moved cX3_moved 3 (some .int) 2 cvI [.ref p0, .int p1, .int p2] h (F_X3_moved n K p0 p1 p2 h) := by
  refine ok_of_sim [(0, .ref p0), (1, .int p1), (2, .int p2)] (by decide +kernel) (fun r => ⟨_, rfl⟩) (by simp [uns, lv_args, lg_sl, catI, catL, catA, va_rfc]) (by simp [uns, lv_args, lg_sl, catI, catL, catA, va_rfc]) (by simp [uns, lv_args, lg_sl, catI, catL, catA, va_rfc]) ?_
  unfold F_X3_moved
  refine s_iload_n dX3_moved_0 1 rfl ?_
  refine s_i2l dX3_moved_1 ?_
  refine s_lconst (0 : Int64) dX3_moved_2 (by decide) ?_
  refine s_aload_n dX3_moved_3 0 rfl ?_
  refine s_chk (fun hk1 => ?_)
  refine s_get (j := 48) 4 (.int (h.I p0 48)) dX3_moved_4 hk1 rfl (by decide) q1285 (Or.inl rfl) rfl ?_
  refine s_iconst (1 : Int32) dX3_moved_7 (by decide) ?_
  refine s_isub dX3_moved_8 ?_
  refine s_i2l dX3_moved_9 ?_
  refine s_callS_I (kX3_in G n K hK p1.toInt64 (0 : Int64) (((h.I p0 48) - (1 : Int32)).toInt64) h) (by decide) (by decide) dX3_moved_10 q1397 q1398 q109 q1399 hyX3_in rfl rfl (Nat.le_of_ble_eq_true rfl) (fun r2 h3 => ?_)
  refine s_if_eq 39 dX3_moved_13 (by decide) (fun c4 => ?_) (fun c4 => ?_)
  · refine s_iconst (-1 : Int32) dX3_moved_39 (by decide) ?_
    exact s_iret dX3_moved_40 rfl rfl
  · refine s_iload_n dX3_moved_16 2 rfl ?_
    refine s_i2l dX3_moved_17 ?_
    refine s_lconst (0 : Int64) dX3_moved_18 (by decide) ?_
    refine s_ldc2 (v := (8 : Int64)) dX3_moved_19 q1760 ?_
    refine s_callS_I (kX3_in G n K hK p2.toInt64 (0 : Int64) (8 : Int64) h3) (by decide) (by decide) dX3_moved_22 q1397 q1398 q109 q1399 hyX3_in rfl rfl (Nat.le_of_ble_eq_true rfl) (fun r5 h6 => ?_)
    refine s_if_eq 39 dX3_moved_25 (by decide) (fun c7 => ?_) (fun c7 => ?_)
    · refine s_iconst (-1 : Int32) dX3_moved_39 (by decide) ?_
      exact s_iret dX3_moved_40 rfl rfl
    · refine s_aload_n dX3_moved_28 0 rfl ?_
      refine s_chk (fun hk8 => ?_)
      refine s_get (j := 47) 4 (va_rf (h6.R p0 47)) dX3_moved_29 hk8 rfl (by decide) q1284 (Or.inl rfl) rfl ?_
      refine s_iload_n dX3_moved_32 1 rfl ?_
      refine s_ob (r := h6.R p0 47) (fun z => [(0, .ref p0), (1, .int p1), (2, .int p2)]) (fun z => [.int p1, z]) (fun a9 => ?_)
      refine s_chk (fun hk10 => ?_)
      refine s_chk (fun hi11 => ?_)
      refine s_aald dX3_moved_33 hk10 rfl rfl rfl hi11 ?_
      refine s_iload_n dX3_moved_34 2 rfl ?_
      refine s_ob (r := h6.R a9 (ix p1)) (fun z => [(0, .ref p0), (1, .int p1), (2, .int p2)]) (fun z => [.int p2, z]) (fun a12 => ?_)
      refine s_chk (fun hk13 => ?_)
      refine s_chk (fun hi14 => ?_)
      refine s_iald dX3_moved_35 hk13 rfl hi14 ?_
      refine s_goto 40 dX3_moved_36 (by decide) ?_
      exact s_iret dX3_moved_40 rfl rfl
theorem hyX3_count : yX3_count.cls ≠ "java/lang/invoke/MethodHandle" ∧ yX3_count.cls ≠ "java/lang/invoke/VarHandle" ∧ (parseMethodDescriptor yX3_count.desc).map (fun d => d.parameters.length) = some 1 := by decide +kernel
theorem kX3_count (G : Gl) (n : Nat) (K : Nat → Nat) (hK : K = G.ad) (p0 : Nat) (p1 : Int32) (h : AH) : OkM G yX3_count cX3_count 2 (some .int) 7 cvI [.ref p0, .int p1] h (F_X3_count n K p0 p1 h) := by
  refine ok_of_sim [(0, .ref p0), (1, .int p1)] (by decide +kernel) (fun r => ⟨_, rfl⟩) (by simp [uns, lv_args, lg_sl, catI, catL, catA, va_rfc]) (by simp [uns, lv_args, lg_sl, catI, catL, catA, va_rfc]) (by simp [uns, lv_args, lg_sl, catI, catL, catA, va_rfc]) ?_
  unfold F_X3_count
  refine s_iload_n dX3_count_0 1 rfl ?_
  refine s_ite (fun c1 => ?_) (fun c1 => ?_)
  · refine s_tblIn (0 : Int32) 40 c1 dX3_count_1 (by decide) (by decide) rfl (by decide) ?_
    refine s_aload_n dX3_count_40 0 rfl ?_
    refine s_chk (fun hk4 => ?_)
    refine s_callV_I 4 (kX3_voters G n K hK p0 h) (by decide) (by decide) dX3_count_41 hk4 rfl rfl q1475 q1477 qs62 q109 q1478 hyX3_voters rfl rfl (Nat.le_of_ble_eq_true rfl) (fun r2 h3 => ?_)
    exact s_iret dX3_count_44 rfl rfl
  refine s_ite (fun c5 => ?_) (fun c5 => ?_)
  · refine s_tblIn (1 : Int32) 45 c5 dX3_count_1 (by decide) (by decide) rfl (by decide) ?_
    refine s_aload_n dX3_count_45 0 rfl ?_
    refine s_chk (fun hk8 => ?_)
    refine s_callV_I 4 (kX3_places G n K hK p0 h) (by decide) (by decide) dX3_count_46 hk8 rfl rfl q1495 q1497 qs65 q109 q1498 hyX3_places rfl rfl (Nat.le_of_ble_eq_true rfl) (fun r6 h7 => ?_)
    exact s_iret dX3_count_49 rfl rfl
  refine s_ite (fun c9 => ?_) (fun c9 => ?_)
  · refine s_tblIn (2 : Int32) 50 c9 dX3_count_1 (by decide) (by decide) rfl (by decide) ?_
    refine s_aload_n dX3_count_50 0 rfl ?_
    refine s_chk (fun hk12 => ?_)
    refine s_callV_I 4 (kX3_total G n K hK p0 h) (by decide) (by decide) dX3_count_51 hk12 rfl rfl q1548 q1550 qs73 q109 q1551 hyX3_total rfl rfl (Nat.le_of_ble_eq_true rfl) (fun r10 h11 => ?_)
    exact s_iret dX3_count_54 rfl rfl
  refine s_ite (fun c13 => ?_) (fun c13 => ?_)
  · refine s_tblIn (3 : Int32) 55 c13 dX3_count_1 (by decide) (by decide) rfl (by decide) ?_
    refine s_aload_n dX3_count_55 0 rfl ?_
    refine s_chk (fun hk14 => ?_)
    refine s_get (j := 48) 4 (.int (h.I p0 48)) dX3_count_56 hk14 rfl (by decide) q1285 (Or.inl rfl) rfl ?_
    exact s_iret dX3_count_59 rfl rfl
  refine s_ite (fun c15 => ?_) (fun c15 => ?_)
  · refine s_tblIn (4 : Int32) 60 c15 dX3_count_1 (by decide) (by decide) rfl (by decide) ?_
    refine s_aload_n dX3_count_60 0 rfl ?_
    refine s_chk (fun hk16 => ?_)
    refine s_get (j := 1) 4 (.int (h.I p0 1)) dX3_count_61 hk16 rfl (by decide) q1238 (Or.inl rfl) rfl ?_
    exact s_iret dX3_count_64 rfl rfl
  refine s_ite (fun c17 => ?_) (fun c17 => ?_)
  · refine s_tblIn (5 : Int32) 65 c17 dX3_count_1 (by decide) (by decide) rfl (by decide) ?_
    refine s_aload_n dX3_count_65 0 rfl ?_
    refine s_chk (fun hk20 => ?_)
    refine s_callV_I 4 (kX3_pairs G n K hK p0 h) (by decide) (by decide) dX3_count_66 hk20 rfl rfl q1748 q1750 qs101 q109 q1751 hyX3_pairs rfl rfl (Nat.le_of_ble_eq_true rfl) (fun r18 h19 => ?_)
    exact s_iret dX3_count_69 rfl rfl
  have zc1 := lv_neT c1 (a := 0) rfl
  have zc5 := lv_neT c5 (a := 1) rfl
  have zc9 := lv_neT c9 (a := 2) rfl
  have zc13 := lv_neT c13 (a := 3) rfl
  have zc15 := lv_neT c15 (a := 4) rfl
  have zc17 := lv_neT c17 (a := 5) rfl
  refine s_tblOut 70 dX3_count_1 (by omega) (by decide) ?_
  refine s_iconst (-1 : Int32) dX3_count_70 (by decide) ?_
  exact s_iret dX3_count_71 rfl rfl
