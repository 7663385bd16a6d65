set_option maxRecDepth 100000
theorem hyX3_winRead : yX3_winRead.cls ≠ "java/lang/invoke/MethodHandle" ∧ yX3_winRead.cls ≠ "java/lang/invoke/VarHandle" ∧ (parseMethodDescriptor yX3_winRead.desc).map (fun d => d.parameters.length) = some 0 := by decide +kernel
theorem kX3_winRead (G : Gl) (n : Nat) (K : Nat → Nat) (hK : K = G.ad) (p0 : Nat) (h : AH) : OkM G yX3_winRead cX3_winRead 1 (some .boolean) 6 cvI [.ref p0] h (F_X3_winRead n K p0 h) := by
  refine ok_of_sim [(0, .ref p0)] (by decide +kernel) (fun r => ⟨_, rfl⟩) (by simp [uns, lv_args, lg_sl, catI, catL, catA, va_rfc]) (by simp [uns, lv_args, lg_sl, catI, catL, catA, va_rfc]) (by simp [uns, lv_args, lg_sl, catI, catL, catA, va_rfc]) ?_
  unfold F_X3_winRead
  refine s_aload_n dX3_winRead_0 0 rfl ?_
  refine s_iconst (1 : Int32) dX3_winRead_1 (by decide) ?_
  refine s_chk (fun hk1 => ?_)
  refine s_put (j := 22) 4 (v := .int (1 : Int32)) dX3_winRead_2 hk1 rfl (by decide) q1259 (Or.inl rfl) rfl rfl rfl (Upd.i (fun _ => rfl)) ?_
  refine s_hl (fun h2 e3 => ?_)
  refine s_aload_n dX3_winRead_5 0 rfl ?_
  refine s_ldcS dX3_winRead_6 14 rfl hK ?_
  refine s_callV_I 4 (kX3_isWord G n K hK p0 (some (K 15)) h2) (by decide) (by decide) dX3_winRead_8 (show h2.kind p0 = 5 by rw [e3]; exact hk1) rfl rfl q1423 q1425 qs53 q109 q1426 hyX3_isWord rfl rfl (Nat.le_of_ble_eq_true rfl) (fun r4 h5 => ?_)
  refine s_if_eq 41 dX3_winRead_11 (by decide) (fun c6 => ?_) (fun c6 => ?_)
  · refine s_aload_n dX3_winRead_41 0 rfl ?_
    refine s_chk (fun hk7 => ?_)
    refine s_get (j := 16) 4 (va_rf (h5.R p0 16)) dX3_winRead_42 hk7 rfl (by decide) q1253 (Or.inl rfl) rfl ?_
    refine s_iconst (1 : Int32) dX3_winRead_45 (by decide) ?_
    refine s_aload_n dX3_winRead_46 0 rfl ?_
    refine s_ldcS dX3_winRead_47 15 rfl hK ?_
    refine s_callV_I 4 (kX3_isWord G n K hK p0 (some (K 16)) h5) (by decide) (by decide) dX3_winRead_49 hk7 rfl rfl q1423 q1425 qs53 q109 q1426 hyX3_isWord rfl rfl (by simp [catI, catL, catA, va_rfc]) (fun r8 h9 => ?_)
    refine s_jn (fun j11 => ∀ (x10 : Int32), Sim G yX3_winRead.cls yX3_winRead.name cX3_winRead 1 (some .boolean) 6 cvI 60 [(0, .ref p0)] [.int x10, .int (1 : Int32), va_rf (h5.R p0 16)] h9 (j11 x10)) ?_ (fun j11 hj71 => ?_)
    · intro x10
      refine s_ob (r := h5.R p0 16) (fun z => [(0, .ref p0)]) (fun z => [.int x10, .int (1 : Int32), z]) (fun a12 => ?_)
      refine s_chk (fun hk13 => ?_)
      refine s_chk (fun hi14 => ?_)
      refine s_iast dX3_winRead_60 hk13 rfl (by decide) hi14 ?_
      refine s_hl (fun h15 e16 => ?_)
      refine s_aload_n dX3_winRead_61 0 rfl ?_
      refine s_aload_n dX3_winRead_62 0 rfl ?_
      refine s_ldcS dX3_winRead_63 15 rfl hK ?_
      refine s_chk (fun hk19 => ?_)
      refine s_callV_I 4 (kX3_isWord G n K hK p0 (some (K 16)) h15) (by decide) (by decide) dX3_winRead_65 hk19 rfl rfl q1423 q1425 qs53 q109 q1426 hyX3_isWord rfl rfl (Nat.le_of_ble_eq_true rfl) (fun r17 h18 => ?_)
      refine s_jn (fun j22 => ∀ (x20 : Int32) (h21 : AH), Sim G yX3_winRead.cls yX3_winRead.name cX3_winRead 1 (some .boolean) 6 cvI 85 [(0, .ref p0)] [.int x20, .ref p0] h21 (j22 x20 h21)) ?_ (fun j22 hj65 => ?_)
      · intro x20 h21
        refine s_chk (fun hk25 => ?_)
        refine s_callV_I 4 (kX3_passes G n K hK p0 x20 h21) (by decide) (by decide) dX3_winRead_85 hk25 rfl rfl q1429 q1431 qs54 q109 q1432 hyX3_passes rfl rfl (Nat.le_of_ble_eq_true rfl) (fun r23 h24 => ?_)
        refine s_if_eq 101 dX3_winRead_88 (by decide) (fun c26 => ?_) (fun c26 => ?_)
        · refine s_iconst (0 : Int32) dX3_winRead_101 (by decide) ?_
          exact s_zret dX3_winRead_102 rfl rfl rfl
        · refine s_aload_n dX3_winRead_91 0 rfl ?_
          refine s_iconst (1 : Int32) dX3_winRead_92 (by decide) ?_
          refine s_bipush (99 : Int32) dX3_winRead_93 (by decide) ?_
          refine s_chk (fun hk29 => ?_)
          refine s_callV_I 4 (kX3_number G n K hK p0 (1 : Int32) (99 : Int32) h24) (by decide) (by decide) dX3_winRead_95 hk29 rfl rfl q1446 q1448 qs58 q109 q1449 hyX3_number rfl rfl (Nat.le_of_ble_eq_true rfl) (fun r27 h28 => ?_)
          refine s_if_ne 103 dX3_winRead_98 (by decide) (fun c30 => ?_) (fun c30 => ?_)
          · refine s_aload_n dX3_winRead_103 0 rfl ?_
            refine s_chk (fun hk31 => ?_)
            refine s_get (j := 17) 4 (va_rf (h28.R p0 17)) dX3_winRead_104 hk31 rfl (by decide) q1254 (Or.inl rfl) rfl ?_
            refine s_iconst (1 : Int32) dX3_winRead_107 (by decide) ?_
            refine s_aload_n dX3_winRead_108 0 rfl ?_
            refine s_get (j := 5) 4 (.int (h28.I p0 5)) dX3_winRead_109 hk31 rfl (by decide) q1242 (Or.inl rfl) rfl ?_
            refine s_ob (r := h28.R p0 17) (fun z => [(0, .ref p0)]) (fun z => [.int (h28.I p0 5), .int (1 : Int32), z]) (fun a32 => ?_)
            refine s_chk (fun hk33 => ?_)
            refine s_chk (fun hi34 => ?_)
            refine s_iast dX3_winRead_112 hk33 rfl (by decide) hi34 ?_
            refine s_hl (fun h35 e36 => ?_)
            refine s_aload_n dX3_winRead_113 0 rfl ?_
            refine s_aload_n dX3_winRead_114 0 rfl ?_
            refine s_bipush (47 : Int32) dX3_winRead_115 (by decide) ?_
            refine s_callV_I 4 (kX3_isSign G n K hK p0 (47 : Int32) h35) (by decide) (by decide) dX3_winRead_117 (show h35.kind p0 = 5 by rw [e36]; exact hk31) rfl rfl q1437 q1439 qs56 q109 q1440 hyX3_isSign rfl rfl (Nat.le_of_ble_eq_true rfl) (fun r37 h38 => ?_)
            refine s_chk (fun hk41 => ?_)
            refine s_callV_I 4 (kX3_passes G n K hK p0 r37 h38) (by decide) (by decide) dX3_winRead_120 hk41 rfl rfl q1429 q1431 qs54 q109 q1432 hyX3_passes rfl rfl (Nat.le_of_ble_eq_true rfl) (fun r39 h40 => ?_)
            refine s_if_eq 156 dX3_winRead_123 (by decide) (fun c42 => ?_) (fun c42 => ?_)
            · refine s_iconst (0 : Int32) dX3_winRead_156 (by decide) ?_
              exact s_zret dX3_winRead_157 rfl rfl rfl
            · refine s_aload_n dX3_winRead_126 0 rfl ?_
              refine s_iconst (1 : Int32) dX3_winRead_127 (by decide) ?_
              refine s_aload_n dX3_winRead_128 0 rfl ?_
              refine s_chk (fun hk43 => ?_)
              refine s_get (j := 17) 4 (va_rf (h40.R p0 17)) dX3_winRead_129 hk43 rfl (by decide) q1254 (Or.inl rfl) rfl ?_
              refine s_iconst (1 : Int32) dX3_winRead_132 (by decide) ?_
              refine s_ob (r := h40.R p0 17) (fun z => [(0, .ref p0)]) (fun z => [.int (1 : Int32), z, .int (1 : Int32), .ref p0]) (fun a44 => ?_)
              refine s_chk (fun hk45 => ?_)
              refine s_chk (fun hi46 => ?_)
              refine s_iald dX3_winRead_133 hk45 rfl hi46 ?_
              refine s_mmax dX3_winRead_134 (by decide) q1469 q474 q116 q475 (Nat.le_of_ble_eq_true rfl) ?_
              refine s_bipush (99 : Int32) dX3_winRead_137 (by decide) ?_
              refine s_iconst (2 : Int32) dX3_winRead_139 (by decide) ?_
              refine s_aload_n dX3_winRead_140 0 rfl ?_
              refine s_get (j := 17) 4 (va_rf (h40.R p0 17)) dX3_winRead_141 hk43 rfl (by decide) q1254 (Or.inl rfl) rfl ?_
              refine s_iconst (1 : Int32) dX3_winRead_144 (by decide) ?_
              refine s_ob (r := h40.R p0 17) (fun z => [(0, .ref p0)]) (fun z => [.int (1 : Int32), z, .int (2 : Int32), .int (99 : Int32), .int (if (1 : Int32) < (h40.I a44 (ix (1 : Int32))) then (h40.I a44 (ix (1 : Int32))) else (1 : Int32)), .ref p0]) (fun a47 => ?_)
              refine s_chk (fun hk48 => ?_)
              refine s_chk (fun hi49 => ?_)
              refine s_iald dX3_winRead_145 hk48 rfl hi49 ?_
              refine s_imul dX3_winRead_146 ?_
              refine s_mmin dX3_winRead_147 (by decide) q1470 q477 q116 q478 (Nat.le_of_ble_eq_true rfl) ?_
              refine s_callV_I 4 (kX3_number G n K hK p0 (if (1 : Int32) < (h40.I a44 (ix (1 : Int32))) then (h40.I a44 (ix (1 : Int32))) else (1 : Int32)) (if ((2 : Int32) * (h40.I a47 (ix (1 : Int32)))) < (99 : Int32) then ((2 : Int32) * (h40.I a47 (ix (1 : Int32)))) else (99 : Int32)) h40) (by decide) (by decide) dX3_winRead_150 hk43 rfl rfl q1446 q1448 qs58 q109 q1449 hyX3_number rfl rfl (Nat.le_of_ble_eq_true rfl) (fun r50 h51 => ?_)
              refine s_if_ne 158 dX3_winRead_153 (by decide) (fun c52 => ?_) (fun c52 => ?_)
              · refine s_aload_n dX3_winRead_158 0 rfl ?_
                refine s_chk (fun hk53 => ?_)
                refine s_get (j := 18) 4 (va_rf (h51.R p0 18)) dX3_winRead_159 hk53 rfl (by decide) q1255 (Or.inl rfl) rfl ?_
                refine s_iconst (1 : Int32) dX3_winRead_162 (by decide) ?_
                refine s_aload_n dX3_winRead_163 0 rfl ?_
                refine s_get (j := 5) 4 (.int (h51.I p0 5)) dX3_winRead_164 hk53 rfl (by decide) q1242 (Or.inl rfl) rfl ?_
                refine s_ob (r := h51.R p0 18) (fun z => [(0, .ref p0)]) (fun z => [.int (h51.I p0 5), .int (1 : Int32), z]) (fun a54 => ?_)
                refine s_chk (fun hk55 => ?_)
                refine s_chk (fun hi56 => ?_)
                refine s_iast dX3_winRead_167 hk55 rfl (by decide) hi56 ?_
                refine s_hl (fun h57 e58 => ?_)
                refine s_aload_n dX3_winRead_168 0 rfl ?_
                refine s_aload_n dX3_winRead_169 0 rfl ?_
                refine s_bipush (59 : Int32) dX3_winRead_170 (by decide) ?_
                refine s_callV_I 4 (kX3_isSign G n K hK p0 (59 : Int32) h57) (by decide) (by decide) dX3_winRead_172 (show h57.kind p0 = 5 by rw [e58]; exact hk53) rfl rfl q1437 q1439 qs56 q109 q1440 hyX3_isSign rfl rfl (Nat.le_of_ble_eq_true rfl) (fun r59 h60 => ?_)
                refine s_chk (fun hk63 => ?_)
                refine s_callV_I 4 (kX3_passes G n K hK p0 r59 h60) (by decide) (by decide) dX3_winRead_175 hk63 rfl rfl q1429 q1431 qs54 q109 q1432 hyX3_passes rfl rfl (Nat.le_of_ble_eq_true rfl) (fun r61 h62 => ?_)
                refine s_chk (fun hb64 => ?_)
                exact s_zret dX3_winRead_178 rfl (nb01 hb64) rfl
              · refine s_iconst (0 : Int32) dX3_winRead_156 (by decide) ?_
                exact s_zret dX3_winRead_157 rfl rfl rfl
          · refine s_iconst (0 : Int32) dX3_winRead_101 (by decide) ?_
            exact s_zret dX3_winRead_102 rfl rfl rfl
      refine s_if_ne 80 dX3_winRead_68 (by decide) (fun c66 => ?_) (fun c66 => ?_)
      · refine s_iconst (1 : Int32) dX3_winRead_80 (by decide) ?_
        refine s_goto 85 dX3_winRead_81 (by decide) ?_
        exact hj65 (1 : Int32) h18
      · refine s_aload_n dX3_winRead_71 0 rfl ?_
        refine s_ldcS dX3_winRead_72 16 rfl hK ?_
        refine s_chk (fun hk69 => ?_)
        refine s_callV_I 4 (kX3_isWord G n K hK p0 (some (K 17)) h18) (by decide) (by decide) dX3_winRead_74 hk69 rfl rfl q1423 q1425 qs53 q109 q1426 hyX3_isWord rfl rfl (Nat.le_of_ble_eq_true rfl) (fun r67 h68 => ?_)
        refine s_if_eq 84 dX3_winRead_77 (by decide) (fun c70 => ?_) (fun c70 => ?_)
        · refine s_iconst (0 : Int32) dX3_winRead_84 (by decide) ?_
          exact hj65 (0 : Int32) h68
        · refine s_iconst (1 : Int32) dX3_winRead_80 (by decide) ?_
          refine s_goto 85 dX3_winRead_81 (by decide) ?_
          exact hj65 (1 : Int32) h68
    refine s_if_eq 59 dX3_winRead_52 (by decide) (fun c72 => ?_) (fun c72 => ?_)
    · refine s_iconst (2 : Int32) dX3_winRead_59 (by decide) ?_
      exact hj71 (2 : Int32)
    · refine s_iconst (1 : Int32) dX3_winRead_55 (by decide) ?_
      refine s_goto 60 dX3_winRead_56 (by decide) ?_
      exact hj71 (1 : Int32)
  · refine s_aload_n dX3_winRead_14 0 rfl ?_
    refine s_iconst (1 : Int32) dX3_winRead_15 (by decide) ?_
    refine s_chk (fun hk75 => ?_)
    refine s_callV_I 4 (kX3_passes G n K hK p0 (1 : Int32) h5) (by decide) (by decide) dX3_winRead_16 hk75 rfl rfl q1429 q1431 qs54 q109 q1432 hyX3_passes rfl rfl (Nat.le_of_ble_eq_true rfl) (fun r73 h74 => ?_)
    refine s_if_eq 39 dX3_winRead_19 (by decide) (fun c76 => ?_) (fun c76 => ?_)
    · refine s_iconst (0 : Int32) dX3_winRead_39 (by decide) ?_
      exact s_zret dX3_winRead_40 rfl rfl rfl
    · refine s_aload_n dX3_winRead_22 0 rfl ?_
      refine s_aload_n dX3_winRead_23 0 rfl ?_
      refine s_bipush (59 : Int32) dX3_winRead_24 (by decide) ?_
      refine s_chk (fun hk79 => ?_)
      refine s_callV_I 4 (kX3_isSign G n K hK p0 (59 : Int32) h74) (by decide) (by decide) dX3_winRead_26 hk79 rfl rfl q1437 q1439 qs56 q109 q1440 hyX3_isSign rfl rfl (Nat.le_of_ble_eq_true rfl) (fun r77 h78 => ?_)
      refine s_chk (fun hk82 => ?_)
      refine s_callV_I 4 (kX3_passes G n K hK p0 r77 h78) (by decide) (by decide) dX3_winRead_29 hk82 rfl rfl q1429 q1431 qs54 q109 q1432 hyX3_passes rfl rfl (Nat.le_of_ble_eq_true rfl) (fun r80 h81 => ?_)
      refine s_if_eq 39 dX3_winRead_32 (by decide) (fun c83 => ?_) (fun c83 => ?_)
      · refine s_iconst (0 : Int32) dX3_winRead_39 (by decide) ?_
        exact s_zret dX3_winRead_40 rfl rfl rfl
      · refine s_iconst (1 : Int32) dX3_winRead_35 (by decide) ?_
        refine s_goto 40 dX3_winRead_36 (by decide) ?_
        exact s_zret dX3_winRead_40 rfl rfl rfl
theorem hyX3_told : yX3_told.cls ≠ "java/lang/invoke/MethodHandle" ∧ yX3_told.cls ≠ "java/lang/invoke/VarHandle" ∧ (parseMethodDescriptor yX3_told.desc).map (fun d => d.parameters.length) = some 0 := by decide +kernel
theorem kX3_told (G : Gl) (n : Nat) (K : Nat → Nat) (hK : K = G.ad) (p0 : Nat) (h : AH) : OkM G yX3_told cX3_told 1 (some .boolean) 7 cvI [.ref p0] h (F_X3_told n K p0 h) := by
  refine ok_of_sim [(0, .ref p0)] (by decide +kernel) (fun r => ⟨_, rfl⟩) (by simp [uns, lv_args, lg_sl, catI, catL, catA, va_rfc]) (by simp [uns, lv_args, lg_sl, catI, catL, catA, va_rfc]) (by simp [uns, lv_args, lg_sl, catI, catL, catA, va_rfc]) ?_
  unfold F_X3_told
  refine s_aload_n dX3_told_0 0 rfl ?_
  refine s_ldcS dX3_told_1 8 rfl hK ?_
  refine s_chk (fun hk3 => ?_)
  refine s_callV_I 4 (kX3_isWord G n K hK p0 (some (K 9)) h) (by decide) (by decide) dX3_told_3 hk3 rfl rfl q1423 q1425 qs53 q109 q1426 hyX3_isWord rfl rfl (Nat.le_of_ble_eq_true rfl) (fun r1 h2 => ?_)
  refine s_if_eq 30 dX3_told_6 (by decide) (fun c4 => ?_) (fun c4 => ?_)
  · refine s_aload_n dX3_told_30 0 rfl ?_
    refine s_ldcS dX3_told_31 9 rfl hK ?_
    refine s_chk (fun hk7 => ?_)
    refine s_callV_I 4 (kX3_isWord G n K hK p0 (some (K 10)) h2) (by decide) (by decide) dX3_told_33 hk7 rfl rfl q1423 q1425 qs53 q109 q1426 hyX3_isWord rfl rfl (Nat.le_of_ble_eq_true rfl) (fun r5 h6 => ?_)
    refine s_if_eq 60 dX3_told_36 (by decide) (fun c8 => ?_) (fun c8 => ?_)
    · refine s_aload_n dX3_told_60 0 rfl ?_
      refine s_ldcS dX3_told_61 10 rfl hK ?_
      refine s_chk (fun hk11 => ?_)
      refine s_callV_I 4 (kX3_isWord G n K hK p0 (some (K 11)) h6) (by decide) (by decide) dX3_told_63 hk11 rfl rfl q1423 q1425 qs53 q109 q1426 hyX3_isWord rfl rfl (Nat.le_of_ble_eq_true rfl) (fun r9 h10 => ?_)
      refine s_if_eq 105 dX3_told_66 (by decide) (fun c12 => ?_) (fun c12 => ?_)
      · refine s_aload_n dX3_told_105 0 rfl ?_
        refine s_ldcS dX3_told_106 12 rfl hK ?_
        refine s_chk (fun hk15 => ?_)
        refine s_callV_I 4 (kX3_isWord G n K hK p0 (some (K 13)) h10) (by decide) (by decide) dX3_told_108 hk15 rfl rfl q1423 q1425 qs53 q109 q1426 hyX3_isWord rfl rfl (Nat.le_of_ble_eq_true rfl) (fun r13 h14 => ?_)
        refine s_if_eq 150 dX3_told_111 (by decide) (fun c16 => ?_) (fun c16 => ?_)
        · refine s_aload_n dX3_told_150 0 rfl ?_
          refine s_aload_n dX3_told_151 0 rfl ?_
          refine s_ldcS dX3_told_152 13 rfl hK ?_
          refine s_chk (fun hk19 => ?_)
          refine s_callV_I 4 (kX3_isWord G n K hK p0 (some (K 14)) h14) (by decide) (by decide) dX3_told_154 hk19 rfl rfl q1423 q1425 qs53 q109 q1426 hyX3_isWord rfl rfl (Nat.le_of_ble_eq_true rfl) (fun r17 h18 => ?_)
          refine s_jn (fun j21 => ∀ (x20 : Int32), Sim G yX3_told.cls yX3_told.name cX3_told 1 (some .boolean) 7 cvI 172 [(0, .ref p0)] [.int x20, .ref p0] h18 (j21 x20)) ?_ (fun j21 hj30 => ?_)
          · intro x20
            refine s_chk (fun hk24 => ?_)
            refine s_callV_I 4 (kX3_passes G n K hK p0 x20 h18) (by decide) (by decide) dX3_told_172 hk24 rfl rfl q1429 q1431 qs54 q109 q1432 hyX3_passes rfl rfl (Nat.le_of_ble_eq_true rfl) (fun r22 h23 => ?_)
            refine s_if_eq 189 dX3_told_175 (by decide) (fun c25 => ?_) (fun c25 => ?_)
            · refine s_iconst (0 : Int32) dX3_told_189 (by decide) ?_
              exact s_zret dX3_told_190 rfl rfl rfl
            · refine s_aload_n dX3_told_178 0 rfl ?_
              refine s_chk (fun hk28 => ?_)
              refine s_callV_I 4 (kX3_winRead G n K hK p0 h23) (by decide) (by decide) dX3_told_179 hk28 rfl rfl q1462 q1464 qs61 q109 q1465 hyX3_winRead rfl rfl (Nat.le_of_ble_eq_true rfl) (fun r26 h27 => ?_)
              refine s_if_eq 189 dX3_told_182 (by decide) (fun c29 => ?_) (fun c29 => ?_)
              · refine s_iconst (0 : Int32) dX3_told_189 (by decide) ?_
                exact s_zret dX3_told_190 rfl rfl rfl
              · refine s_iconst (1 : Int32) dX3_told_185 (by decide) ?_
                refine s_goto 190 dX3_told_186 (by decide) ?_
                exact s_zret dX3_told_190 rfl rfl rfl
          refine s_if_eq 171 dX3_told_157 (by decide) (fun c31 => ?_) (fun c31 => ?_)
          · refine s_iconst (0 : Int32) dX3_told_171 (by decide) ?_
            exact hj30 (0 : Int32)
          · refine s_aload_n dX3_told_160 0 rfl ?_
            refine s_chk (fun hk32 => ?_)
            refine s_get (j := 22) 4 (.int (h18.I p0 22)) dX3_told_161 hk32 rfl (by decide) q1259 (Or.inl rfl) rfl ?_
            refine s_if_ne 171 dX3_told_164 (by decide) (fun c33 => ?_) (fun c33 => ?_)
            · refine s_iconst (0 : Int32) dX3_told_171 (by decide) ?_
              exact hj30 (0 : Int32)
            · refine s_iconst (1 : Int32) dX3_told_167 (by decide) ?_
              refine s_goto 172 dX3_told_168 (by decide) ?_
              exact hj30 (1 : Int32)
        · refine s_aload_n dX3_told_114 0 rfl ?_
          refine s_aload_n dX3_told_115 0 rfl ?_
          refine s_chk (fun hk34 => ?_)
          refine s_get (j := 15) 4 (va_rf (h14.R p0 15)) dX3_told_116 hk34 rfl (by decide) q1252 (Or.inl rfl) rfl ?_
          refine s_iconst (1 : Int32) dX3_told_119 (by decide) ?_
          refine s_ob (r := h14.R p0 15) (fun z => [(0, .ref p0)]) (fun z => [.int (1 : Int32), z, .ref p0]) (fun a35 => ?_)
          refine s_chk (fun hk36 => ?_)
          refine s_chk (fun hi37 => ?_)
          refine s_iald dX3_told_120 hk36 rfl hi37 ?_
          refine s_bipush (20 : Int32) dX3_told_121 (by decide) ?_
          refine s_jn (fun j39 => ∀ (x38 : Int32), Sim G yX3_told.cls yX3_told.name cX3_told 1 (some .boolean) 7 cvI 131 [(0, .ref p0)] [.int x38, .ref p0] h14 (j39 x38)) ?_ (fun j39 hj47 => ?_)
          · intro x38
            refine s_callV_I 4 (kX3_passes G n K hK p0 x38 h14) (by decide) (by decide) dX3_told_131 hk34 rfl rfl q1429 q1431 qs54 q109 q1432 hyX3_passes rfl rfl (Nat.le_of_ble_eq_true rfl) (fun r40 h41 => ?_)
            refine s_if_eq 148 dX3_told_134 (by decide) (fun c42 => ?_) (fun c42 => ?_)
            · refine s_iconst (0 : Int32) dX3_told_148 (by decide) ?_
              exact s_zret dX3_told_149 rfl rfl rfl
            · refine s_aload_n dX3_told_137 0 rfl ?_
              refine s_chk (fun hk45 => ?_)
              refine s_callV_I 4 (kX3_placeRead G n K hK p0 h41) (by decide) (by decide) dX3_told_138 hk45 rfl rfl q1457 q1459 qs60 q109 q1460 hyX3_placeRead rfl rfl (Nat.le_of_ble_eq_true rfl) (fun r43 h44 => ?_)
              refine s_if_eq 148 dX3_told_141 (by decide) (fun c46 => ?_) (fun c46 => ?_)
              · refine s_iconst (0 : Int32) dX3_told_148 (by decide) ?_
                exact s_zret dX3_told_149 rfl rfl rfl
              · refine s_iconst (1 : Int32) dX3_told_144 (by decide) ?_
                refine s_goto 149 dX3_told_145 (by decide) ?_
                exact s_zret dX3_told_149 rfl rfl rfl
          refine s_icmp_ge 130 dX3_told_123 (by decide) (fun c48 => ?_) (fun c48 => ?_)
          · refine s_iconst (0 : Int32) dX3_told_130 (by decide) ?_
            exact hj47 (0 : Int32)
          · refine s_iconst (1 : Int32) dX3_told_126 (by decide) ?_
            refine s_goto 131 dX3_told_127 (by decide) ?_
            exact hj47 (1 : Int32)
      · refine s_aload_n dX3_told_69 0 rfl ?_
        refine s_aload_n dX3_told_70 0 rfl ?_
        refine s_chk (fun hk49 => ?_)
        refine s_get (j := 14) 4 (va_rf (h10.R p0 14)) dX3_told_71 hk49 rfl (by decide) q1251 (Or.inl rfl) rfl ?_
        refine s_iconst (1 : Int32) dX3_told_74 (by decide) ?_
        refine s_ob (r := h10.R p0 14) (fun z => [(0, .ref p0)]) (fun z => [.int (1 : Int32), z, .ref p0]) (fun a50 => ?_)
        refine s_chk (fun hk51 => ?_)
        refine s_chk (fun hi52 => ?_)
        refine s_iald dX3_told_75 hk51 rfl hi52 ?_
        refine s_bipush (15 : Int32) dX3_told_76 (by decide) ?_
        refine s_jn (fun j54 => ∀ (x53 : Int32), Sim G yX3_told.cls yX3_told.name cX3_told 1 (some .boolean) 7 cvI 86 [(0, .ref p0)] [.int x53, .ref p0] h10 (j54 x53)) ?_ (fun j54 hj62 => ?_)
        · intro x53
          refine s_callV_I 4 (kX3_passes G n K hK p0 x53 h10) (by decide) (by decide) dX3_told_86 hk49 rfl rfl q1429 q1431 qs54 q109 q1432 hyX3_passes rfl rfl (Nat.le_of_ble_eq_true rfl) (fun r55 h56 => ?_)
          refine s_if_eq 103 dX3_told_89 (by decide) (fun c57 => ?_) (fun c57 => ?_)
          · refine s_iconst (0 : Int32) dX3_told_103 (by decide) ?_
            exact s_zret dX3_told_104 rfl rfl rfl
          · refine s_aload_n dX3_told_92 0 rfl ?_
            refine s_chk (fun hk60 => ?_)
            refine s_callV_I 4 (kX3_voterRead G n K hK p0 h56) (by decide) (by decide) dX3_told_93 hk60 rfl rfl q1451 q1453 qs59 q109 q1454 hyX3_voterRead rfl rfl (Nat.le_of_ble_eq_true rfl) (fun r58 h59 => ?_)
            refine s_if_eq 103 dX3_told_96 (by decide) (fun c61 => ?_) (fun c61 => ?_)
            · refine s_iconst (0 : Int32) dX3_told_103 (by decide) ?_
              exact s_zret dX3_told_104 rfl rfl rfl
            · refine s_iconst (1 : Int32) dX3_told_99 (by decide) ?_
              refine s_goto 104 dX3_told_100 (by decide) ?_
              exact s_zret dX3_told_104 rfl rfl rfl
        refine s_icmp_ge 85 dX3_told_78 (by decide) (fun c63 => ?_) (fun c63 => ?_)
        · refine s_iconst (0 : Int32) dX3_told_85 (by decide) ?_
          exact hj62 (0 : Int32)
        · refine s_iconst (1 : Int32) dX3_told_81 (by decide) ?_
          refine s_goto 86 dX3_told_82 (by decide) ?_
          exact hj62 (1 : Int32)
    · refine s_aload_n dX3_told_39 0 rfl ?_
      refine s_iconst (1 : Int32) dX3_told_40 (by decide) ?_
      refine s_chk (fun hk66 => ?_)
      refine s_callV_I 4 (kX3_passes G n K hK p0 (1 : Int32) h6) (by decide) (by decide) dX3_told_41 hk66 rfl rfl q1429 q1431 qs54 q109 q1432 hyX3_passes rfl rfl (Nat.le_of_ble_eq_true rfl) (fun r64 h65 => ?_)
      refine s_if_eq 58 dX3_told_44 (by decide) (fun c67 => ?_) (fun c67 => ?_)
      · refine s_iconst (0 : Int32) dX3_told_58 (by decide) ?_
        exact s_zret dX3_told_59 rfl rfl rfl
      · refine s_aload_n dX3_told_47 0 rfl ?_
        refine s_chk (fun hk70 => ?_)
        refine s_callV_I 4 (kX3_stretch G n K hK p0 h65) (by decide) (by decide) dX3_told_48 hk70 rfl rfl q1442 q1444 qs57 q109 q1445 hyX3_stretch rfl rfl (Nat.le_of_ble_eq_true rfl) (fun r68 h69 => ?_)
        refine s_if_eq 58 dX3_told_51 (by decide) (fun c71 => ?_) (fun c71 => ?_)
        · refine s_iconst (0 : Int32) dX3_told_58 (by decide) ?_
          exact s_zret dX3_told_59 rfl rfl rfl
        · refine s_iconst (1 : Int32) dX3_told_54 (by decide) ?_
          refine s_goto 59 dX3_told_55 (by decide) ?_
          exact s_zret dX3_told_59 rfl rfl rfl
  · refine s_aload_n dX3_told_9 0 rfl ?_
    refine s_iconst (1 : Int32) dX3_told_10 (by decide) ?_
    refine s_chk (fun hk74 => ?_)
    refine s_callV_I 4 (kX3_passes G n K hK p0 (1 : Int32) h2) (by decide) (by decide) dX3_told_11 hk74 rfl rfl q1429 q1431 qs54 q109 q1432 hyX3_passes rfl rfl (Nat.le_of_ble_eq_true rfl) (fun r72 h73 => ?_)
    refine s_if_eq 28 dX3_told_14 (by decide) (fun c75 => ?_) (fun c75 => ?_)
    · refine s_iconst (0 : Int32) dX3_told_28 (by decide) ?_
      exact s_zret dX3_told_29 rfl rfl rfl
    · refine s_aload_n dX3_told_17 0 rfl ?_
      refine s_chk (fun hk78 => ?_)
      refine s_callV_I 4 (kX3_near G n K hK p0 h73) (by decide) (by decide) dX3_told_18 hk78 rfl rfl q1433 q1435 qs55 q109 q1436 hyX3_near rfl rfl (Nat.le_of_ble_eq_true rfl) (fun r76 h77 => ?_)
      refine s_if_eq 28 dX3_told_21 (by decide) (fun c79 => ?_) (fun c79 => ?_)
      · refine s_iconst (0 : Int32) dX3_told_28 (by decide) ?_
        exact s_zret dX3_told_29 rfl rfl rfl
      · refine s_iconst (1 : Int32) dX3_told_24 (by decide) ?_
        refine s_goto 29 dX3_told_25 (by decide) ?_
        exact s_zret dX3_told_29 rfl rfl rfl
theorem hyX3_reads : yX3_reads.cls ≠ "java/lang/invoke/MethodHandle" ∧ yX3_reads.cls ≠ "java/lang/invoke/VarHandle" ∧ (parseMethodDescriptor yX3_reads.desc).map (fun d => d.parameters.length) = some 0 := by decide +kernel
theorem sX3_reads_L71 (G : Gl) (n : Nat) (K : Nat → Nat) (hK : K = G.ad) (y43 : Nat) : ∀ (f : Nat) (x42 : Int32) (h : AH), Sim G yX3_reads.cls yX3_reads.name cX3_reads 2 none 8 cvV 71 [(1, .int x42), (0, .ref y43)] [] h (F_X3_reads_L71 n K y43 f x42 h) := by
  intro f
  induction f with
  | zero =>
    intro x42 h
    exact s_none
  | succ f ih =>
    intro x42 h
    unfold F_X3_reads_L71
    refine s_iload_n dX3_reads_71 0 rfl ?_
    refine s_jn (fun j44 => Sim G yX3_reads.cls yX3_reads.name cX3_reads 2 none 8 cvV 94 [(1, .int x42), (0, .ref y43)] [] h (j44 )) ?_ (fun j44 hj53 => ?_)
    · skip
      refine s_iload_n dX3_reads_94 0 rfl ?_
      refine s_if_eq 115 dX3_reads_95 (by decide) (fun c45 => ?_) (fun c45 => ?_)
      · exact s_vret dX3_reads_115 rfl rfl
      · refine s_aload_n dX3_reads_98 1 rfl ?_
        refine s_chk (fun hk46 => ?_)
        refine s_get (j := 14) 4 (va_rf (h.R y43 14)) dX3_reads_99 hk46 rfl (by decide) q1251 (Or.inl rfl) rfl ?_
        refine s_iconst (1 : Int32) dX3_reads_102 (by decide) ?_
        refine s_ob (r := h.R y43 14) (fun z => [(1, .int x42), (0, .ref y43)]) (fun z => [.int (1 : Int32), z]) (fun a47 => ?_)
        refine s_chk (fun hk48 => ?_)
        refine s_chk (fun hi49 => ?_)
        refine s_iald dX3_reads_103 hk48 rfl hi49 ?_
        refine s_if_ne 115 dX3_reads_104 (by decide) (fun c50 => ?_) (fun c50 => ?_)
        · exact s_vret dX3_reads_115 rfl rfl
        · refine s_aload_n dX3_reads_107 1 rfl ?_
          refine s_aload_n dX3_reads_108 1 rfl ?_
          refine s_get (j := 1) 4 (.int (h.I y43 1)) dX3_reads_109 hk46 rfl (by decide) q1238 (Or.inl rfl) rfl ?_
          refine s_put (j := 4) 4 (v := .int (h.I y43 1)) dX3_reads_112 hk46 rfl (by decide) q1241 (Or.inl rfl) rfl rfl rfl (Upd.i (fun _ => rfl)) ?_
          refine s_hl (fun h51 e52 => ?_)
          exact s_vret dX3_reads_115 rfl rfl
    refine s_if_eq 94 dX3_reads_72 (by decide) (fun c54 => ?_) (fun c54 => ?_)
    · exact hj53
    · refine s_aload_n dX3_reads_75 1 rfl ?_
      refine s_chk (fun hk55 => ?_)
      refine s_get (j := 2) 4 (.int (h.I y43 2)) dX3_reads_76 hk55 rfl (by decide) q1239 (Or.inl rfl) rfl ?_
      refine s_aload_n dX3_reads_79 1 rfl ?_
      refine s_get (j := 1) 4 (.int (h.I y43 1)) dX3_reads_80 hk55 rfl (by decide) q1238 (Or.inl rfl) rfl ?_
      refine s_icmp_ge 94 dX3_reads_83 (by decide) (fun c56 => ?_) (fun c56 => ?_)
      · exact hj53
      · refine s_aload_n dX3_reads_86 1 rfl ?_
        refine s_callV_I 4 (kX3_told G n K hK y43 h) (by decide) (by decide) dX3_reads_87 hk55 rfl rfl q1418 q1420 qs52 q109 q1421 hyX3_told rfl rfl (Nat.le_of_ble_eq_true rfl) (fun r57 h58 => ?_)
        refine s_istore_n [(1, .int r57), (0, .ref y43)] dX3_reads_90 (by decide) (by decide) rfl ?_
        refine s_goto 71 dX3_reads_91 (by decide) ?_
        exact ih r57 h58
theorem kX3_reads (G : Gl) (n : Nat) (K : Nat → Nat) (hK : K = G.ad) (p0 : Nat) (h : AH) : OkM G yX3_reads cX3_reads 2 none 8 cvV [.ref p0] h (F_X3_reads n K p0 h) := by
  refine ok_of_sim [(0, .ref p0)] (by decide +kernel) (fun r => ⟨_, rfl⟩) (by simp [uns, lv_args, lg_sl, catI, catL, catA, va_rfc]) (by simp [uns, lv_args, lg_sl, catI, catL, catA, va_rfc]) (by simp [uns, lv_args, lg_sl, catI, catL, catA, va_rfc]) ?_
  unfold F_X3_reads
  refine s_aload_n dX3_reads_0 0 rfl ?_
  refine s_iconst (-1 : Int32) dX3_reads_1 (by decide) ?_
  refine s_chk (fun hk1 => ?_)
  refine s_put (j := 4) 4 (v := .int (-1 : Int32)) dX3_reads_2 hk1 rfl (by decide) q1241 (Or.inl rfl) rfl rfl rfl (Upd.i (fun _ => rfl)) ?_
  refine s_hl (fun h2 e3 => ?_)
  refine s_aload_n dX3_reads_5 0 rfl ?_
  refine s_get (j := 14) 4 (va_rf (h2.R p0 14)) dX3_reads_6 (show h2.kind p0 = 5 by rw [e3]; exact hk1) rfl (by decide) q1251 (Or.inl rfl) rfl ?_
  refine s_iconst (1 : Int32) dX3_reads_9 (by decide) ?_
  refine s_iconst (0 : Int32) dX3_reads_10 (by decide) ?_
  refine s_ob (r := h2.R p0 14) (fun z => [(0, .ref p0)]) (fun z => [.int (0 : Int32), .int (1 : Int32), z]) (fun a4 => ?_)
  refine s_chk (fun hk5 => ?_)
  refine s_chk (fun hi6 => ?_)
  refine s_iast dX3_reads_11 hk5 rfl (by decide) hi6 ?_
  refine s_hl (fun h7 e8 => ?_)
  refine s_aload_n dX3_reads_12 0 rfl ?_
  refine s_get (j := 15) 4 (va_rf (h7.R p0 15)) dX3_reads_13 (show h7.kind p0 = 5 by rw [e8, e3]; exact hk1) rfl (by decide) q1252 (Or.inl rfl) rfl ?_
  refine s_iconst (1 : Int32) dX3_reads_16 (by decide) ?_
  refine s_iconst (0 : Int32) dX3_reads_17 (by decide) ?_
  refine s_ob (r := h7.R p0 15) (fun z => [(0, .ref p0)]) (fun z => [.int (0 : Int32), .int (1 : Int32), z]) (fun a9 => ?_)
  refine s_chk (fun hk10 => ?_)
  refine s_chk (fun hi11 => ?_)
  refine s_iast dX3_reads_18 hk10 rfl (by decide) hi11 ?_
  refine s_hl (fun h12 e13 => ?_)
  refine s_aload_n dX3_reads_19 0 rfl ?_
  refine s_get (j := 16) 4 (va_rf (h12.R p0 16)) dX3_reads_20 (show h12.kind p0 = 5 by rw [e13, e8, e3]; exact hk1) rfl (by decide) q1253 (Or.inl rfl) rfl ?_
  refine s_iconst (1 : Int32) dX3_reads_23 (by decide) ?_
  refine s_iconst (0 : Int32) dX3_reads_24 (by decide) ?_
  refine s_ob (r := h12.R p0 16) (fun z => [(0, .ref p0)]) (fun z => [.int (0 : Int32), .int (1 : Int32), z]) (fun a14 => ?_)
  refine s_chk (fun hk15 => ?_)
  refine s_chk (fun hi16 => ?_)
  refine s_iast dX3_reads_25 hk15 rfl (by decide) hi16 ?_
  refine s_hl (fun h17 e18 => ?_)
  refine s_aload_n dX3_reads_26 0 rfl ?_
  refine s_get (j := 17) 4 (va_rf (h17.R p0 17)) dX3_reads_27 (show h17.kind p0 = 5 by rw [e18, e13, e8, e3]; exact hk1) rfl (by decide) q1254 (Or.inl rfl) rfl ?_
  refine s_iconst (1 : Int32) dX3_reads_30 (by decide) ?_
  refine s_iconst (1 : Int32) dX3_reads_31 (by decide) ?_
  refine s_ob (r := h17.R p0 17) (fun z => [(0, .ref p0)]) (fun z => [.int (1 : Int32), .int (1 : Int32), z]) (fun a19 => ?_)
  refine s_chk (fun hk20 => ?_)
  refine s_chk (fun hi21 => ?_)
  refine s_iast dX3_reads_32 hk20 rfl (by decide) hi21 ?_
  refine s_hl (fun h22 e23 => ?_)
  refine s_aload_n dX3_reads_33 0 rfl ?_
  refine s_get (j := 18) 4 (va_rf (h22.R p0 18)) dX3_reads_34 (show h22.kind p0 = 5 by rw [e23, e18, e13, e8, e3]; exact hk1) rfl (by decide) q1255 (Or.inl rfl) rfl ?_
  refine s_iconst (1 : Int32) dX3_reads_37 (by decide) ?_
  refine s_iconst (2 : Int32) dX3_reads_38 (by decide) ?_
  refine s_ob (r := h22.R p0 18) (fun z => [(0, .ref p0)]) (fun z => [.int (2 : Int32), .int (1 : Int32), z]) (fun a24 => ?_)
  refine s_chk (fun hk25 => ?_)
  refine s_chk (fun hi26 => ?_)
  refine s_iast dX3_reads_39 hk25 rfl (by decide) hi26 ?_
  refine s_hl (fun h27 e28 => ?_)
  refine s_aload_n dX3_reads_40 0 rfl ?_
  refine s_iconst (0 : Int32) dX3_reads_41 (by decide) ?_
  refine s_put (j := 19) 4 (v := .int (0 : Int32)) dX3_reads_42 (show h27.kind p0 = 5 by rw [e28, e23, e18, e13, e8, e3]; exact hk1) rfl (by decide) q1256 (Or.inl rfl) rfl rfl rfl (Upd.i (fun _ => rfl)) ?_
  refine s_hl (fun h29 e30 => ?_)
  refine s_aload_n dX3_reads_45 0 rfl ?_
  refine s_iconst (1 : Int32) dX3_reads_46 (by decide) ?_
  refine s_put (j := 20) 4 (v := .int (1 : Int32)) dX3_reads_47 (show h29.kind p0 = 5 by rw [e30, e28, e23, e18, e13, e8, e3]; exact hk1) rfl (by decide) q1257 (Or.inl rfl) rfl rfl rfl (Upd.i (fun _ => rfl)) ?_
  refine s_hl (fun h31 e32 => ?_)
  refine s_aload_n dX3_reads_50 0 rfl ?_
  refine s_iconst (1 : Int32) dX3_reads_51 (by decide) ?_
  refine s_put (j := 21) 4 (v := .int (1 : Int32)) dX3_reads_52 (show h31.kind p0 = 5 by rw [e32, e30, e28, e23, e18, e13, e8, e3]; exact hk1) rfl (by decide) q1258 (Or.inl rfl) rfl rfl rfl (Upd.i (fun _ => rfl)) ?_
  refine s_hl (fun h33 e34 => ?_)
  refine s_aload_n dX3_reads_55 0 rfl ?_
  refine s_iconst (0 : Int32) dX3_reads_56 (by decide) ?_
  refine s_put (j := 22) 4 (v := .int (0 : Int32)) dX3_reads_57 (show h33.kind p0 = 5 by rw [e34, e32, e30, e28, e23, e18, e13, e8, e3]; exact hk1) rfl (by decide) q1259 (Or.inl rfl) rfl rfl rfl (Upd.i (fun _ => rfl)) ?_
  refine s_hl (fun h35 e36 => ?_)
  refine s_aload_n dX3_reads_60 0 rfl ?_
  refine s_iconst (0 : Int32) dX3_reads_61 (by decide) ?_
  refine s_put (j := 2) 4 (v := .int (0 : Int32)) dX3_reads_62 (show h35.kind p0 = 5 by rw [e36, e34, e32, e30, e28, e23, e18, e13, e8, e3]; exact hk1) rfl (by decide) q1239 (Or.inl rfl) rfl rfl rfl (Upd.i (fun _ => rfl)) ?_
  refine s_hl (fun h37 e38 => ?_)
  refine s_aload_n dX3_reads_65 0 rfl ?_
  refine s_callV_V 4 (kX3_skips G n K hK p0 h37) (by decide) (by decide) dX3_reads_66 (show h37.kind p0 = 5 by rw [e38, e36, e34, e32, e30, e28, e23, e18, e13, e8, e3]; exact hk1) rfl rfl q1408 q1410 qs51 q109 q1411 hyX3_skips rfl rfl (Nat.le_of_ble_eq_true rfl) (fun r39 h40 => ?_)
  refine s_iconst (1 : Int32) dX3_reads_69 (by decide) ?_
  refine s_istore_n [(1, .int (1 : Int32)), (0, .ref p0)] dX3_reads_70 (by decide) (by decide) rfl ?_
  exact sX3_reads_L71 G n K hK p0 n (1 : Int32) h40
theorem hyX3_fault : yX3_fault.cls ≠ "java/lang/invoke/MethodHandle" ∧ yX3_fault.cls ≠ "java/lang/invoke/VarHandle" ∧ (parseMethodDescriptor yX3_fault.desc).map (fun d => d.parameters.length) = some 0 := by decide +kernel
theorem kX3_fault (G : Gl) (n : Nat) (K : Nat → Nat) (hK : K = G.ad) (p0 : Nat) (h : AH) : OkM G yX3_fault cX3_fault 1 (some .int) 9 cvI [.ref p0] h (F_X3_fault n K p0 h) := by
  refine ok_of_sim [(0, .ref p0)] (by decide +kernel) (fun r => ⟨_, rfl⟩) (by simp [uns, lv_args, lg_sl, catI, catL, catA, va_rfc]) (by simp [uns, lv_args, lg_sl, catI, catL, catA, va_rfc]) (by simp [uns, lv_args, lg_sl, catI, catL, catA, va_rfc]) ?_
  unfold F_X3_fault
  refine s_aload_n dX3_fault_0 0 rfl ?_
  refine s_chk (fun hk3 => ?_)
  refine s_callV_V 4 (kX3_reads G n K hK p0 h) (by decide) (by decide) dX3_fault_1 hk3 rfl rfl q1404 q1406 qs50 q109 q1407 hyX3_reads rfl rfl (Nat.le_of_ble_eq_true rfl) (fun r1 h2 => ?_)
  refine s_aload_n dX3_fault_4 0 rfl ?_
  refine s_chk (fun hk4 => ?_)
  refine s_get (j := 4) 4 (.int (h2.I p0 4)) dX3_fault_5 hk4 rfl (by decide) q1241 (Or.inl rfl) rfl ?_
  exact s_iret dX3_fault_8 rfl rfl
theorem hyX3_voters : yX3_voters.cls ≠ "java/lang/invoke/MethodHandle" ∧ yX3_voters.cls ≠ "java/lang/invoke/VarHandle" ∧ (parseMethodDescriptor yX3_voters.desc).map (fun d => d.parameters.length) = some 0 := by decide +kernel
theorem kX3_voters (G : Gl) (n : Nat) (K : Nat → Nat) (hK : K = G.ad) (p0 : Nat) (h : AH) : OkM G yX3_voters cX3_voters 1 (some .int) 1 cvI [.ref p0] h (F_X3_voters n K p0 h) := by
  refine ok_of_sim [(0, .ref p0)] (by decide +kernel) (fun r => ⟨_, rfl⟩) (by simp [uns, lv_args, lg_sl, catI, catL, catA, va_rfc]) (by simp [uns, lv_args, lg_sl, catI, catL, catA, va_rfc]) (by simp [uns, lv_args, lg_sl, catI, catL, catA, va_rfc]) ?_
  unfold F_X3_voters
  refine s_aload_n dX3_voters_0 0 rfl ?_
  refine s_chk (fun hk1 => ?_)
  refine s_get (j := 14) 4 (va_rf (h.R p0 14)) dX3_voters_1 hk1 rfl (by decide) q1251 (Or.inl rfl) rfl ?_
  refine s_iconst (0 : Int32) dX3_voters_4 (by decide) ?_
  refine s_ob (r := h.R p0 14) (fun z => [(0, .ref p0)]) (fun z => [.int (0 : Int32), z]) (fun a2 => ?_)
  refine s_chk (fun hk3 => ?_)
  refine s_chk (fun hi4 => ?_)
  refine s_iald dX3_voters_5 hk3 rfl hi4 ?_
  exact s_iret dX3_voters_6 rfl rfl
theorem hyX3_sheet : yX3_sheet.cls ≠ "java/lang/invoke/MethodHandle" ∧ yX3_sheet.cls ≠ "java/lang/invoke/VarHandle" ∧ (parseMethodDescriptor yX3_sheet.desc).map (fun d => d.parameters.length) = some 0 := by decide +kernel
theorem sX3_sheet_L76 (G : Gl) (n : Nat) (K : Nat → Nat) (hK : K = G.ad) (y38 : Nat) : ∀ (f : Nat) (x37 : Int32) (h : AH) (k : AH → Option (Int32 × AH)) (hk : ∀ (h : AH), Sim G yX3_sheet.cls yX3_sheet.name cX3_sheet 2 (some .int) 9 cvI 184 [(0, .ref y38)] [] h (k h)), Sim G yX3_sheet.cls yX3_sheet.name cX3_sheet 2 (some .int) 9 cvI 76 [(1, .int x37), (0, .ref y38)] [] h (F_X3_sheet_L76 n K y38 f x37 h k) := by
  intro f
  induction f with
  | zero =>
    intro x37 h k hk
    exact s_none
  | succ f ih =>
    intro x37 h k hk
    unfold F_X3_sheet_L76
    refine s_iload_n dX3_sheet_76 0 rfl ?_
    refine s_bipush (15 : Int32) dX3_sheet_77 (by decide) ?_
    refine s_icmp_ge 184 dX3_sheet_79 (by decide) (fun c39 => ?_) (fun c39 => ?_)
    · refine s_sub [1] rfl ?_
      exact hk h
    · refine s_aload_n dX3_sheet_82 1 rfl ?_
      refine s_chk (fun hk40 => ?_)
      refine s_get (j := 6) 4 (va_rf (h.R y38 6)) dX3_sheet_83 hk40 rfl (by decide) q1243 (Or.inl rfl) rfl ?_
      refine s_iconst (0 : Int32) dX3_sheet_86 (by decide) ?_
      refine s_ob (r := h.R y38 6) (fun z => [(1, .int x37), (0, .ref y38)]) (fun z => [.int (0 : Int32), z]) (fun a41 => ?_)
      refine s_chk (fun hk42 => ?_)
      refine s_chk (fun hi43 => ?_)
      refine s_aald dX3_sheet_87 hk42 rfl rfl rfl hi43 ?_
      refine s_iload_n dX3_sheet_88 0 rfl ?_
      refine s_aload_n dX3_sheet_89 1 rfl ?_
      refine s_get (j := 6) 4 (va_rf (h.R y38 6)) dX3_sheet_90 hk40 rfl (by decide) q1243 (Or.inl rfl) rfl ?_
      refine s_iconst (1 : Int32) dX3_sheet_93 (by decide) ?_
      refine s_ob (r := h.R y38 6) (fun z => [(1, .int x37), (0, .ref y38)]) (fun z => [.int (1 : Int32), z, .int x37, va_rf (h.R a41 (ix (0 : Int32)))]) (fun a44 => ?_)
      refine s_chk (fun hk45 => ?_)
      refine s_chk (fun hi46 => ?_)
      refine s_aald dX3_sheet_94 hk45 rfl rfl rfl hi46 ?_
      refine s_iload_n dX3_sheet_95 0 rfl ?_
      refine s_ob (r := h.R a44 (ix (1 : Int32))) (fun z => [(1, .int x37), (0, .ref y38)]) (fun z => [.int x37, z, .int x37, va_rf (h.R a41 (ix (0 : Int32)))]) (fun a47 => ?_)
      refine s_chk (fun hk48 => ?_)
      refine s_chk (fun hi49 => ?_)
      refine s_iald dX3_sheet_96 hk48 rfl hi49 ?_
      refine s_ob (r := h.R a41 (ix (0 : Int32))) (fun z => [(1, .int x37), (0, .ref y38)]) (fun z => [.int (h.I a47 (ix x37)), .int x37, z]) (fun a50 => ?_)
      refine s_chk (fun hk51 => ?_)
      refine s_chk (fun hi52 => ?_)
      refine s_iast dX3_sheet_97 hk51 rfl (by decide) hi52 ?_
      refine s_hl (fun h53 e54 => ?_)
      refine s_aload_n dX3_sheet_98 1 rfl ?_
      refine s_get (j := 7) 4 (va_rf (h53.R y38 7)) dX3_sheet_99 (show h53.kind y38 = 5 by rw [e54]; exact hk40) rfl (by decide) q1244 (Or.inl rfl) rfl ?_
      refine s_iconst (0 : Int32) dX3_sheet_102 (by decide) ?_
      refine s_ob (r := h53.R y38 7) (fun z => [(1, .int x37), (0, .ref y38)]) (fun z => [.int (0 : Int32), z]) (fun a55 => ?_)
      refine s_chk (fun hk56 => ?_)
      refine s_chk (fun hi57 => ?_)
      refine s_aald dX3_sheet_103 hk56 rfl rfl rfl hi57 ?_
      refine s_iload_n dX3_sheet_104 0 rfl ?_
      refine s_aload_n dX3_sheet_105 1 rfl ?_
      refine s_get (j := 7) 4 (va_rf (h53.R y38 7)) dX3_sheet_106 (show h53.kind y38 = 5 by rw [e54]; exact hk40) rfl (by decide) q1244 (Or.inl rfl) rfl ?_
      refine s_iconst (1 : Int32) dX3_sheet_109 (by decide) ?_
      refine s_ob (r := h53.R y38 7) (fun z => [(1, .int x37), (0, .ref y38)]) (fun z => [.int (1 : Int32), z, .int x37, va_rf (h53.R a55 (ix (0 : Int32)))]) (fun a58 => ?_)
      refine s_chk (fun hk59 => ?_)
      refine s_chk (fun hi60 => ?_)
      refine s_aald dX3_sheet_110 hk59 rfl rfl rfl hi60 ?_
      refine s_iload_n dX3_sheet_111 0 rfl ?_
      refine s_ob (r := h53.R a58 (ix (1 : Int32))) (fun z => [(1, .int x37), (0, .ref y38)]) (fun z => [.int x37, z, .int x37, va_rf (h53.R a55 (ix (0 : Int32)))]) (fun a61 => ?_)
      refine s_chk (fun hk62 => ?_)
      refine s_chk (fun hi63 => ?_)
      refine s_iald dX3_sheet_112 hk62 rfl hi63 ?_
      refine s_ob (r := h53.R a55 (ix (0 : Int32))) (fun z => [(1, .int x37), (0, .ref y38)]) (fun z => [.int (h53.I a61 (ix x37)), .int x37, z]) (fun a64 => ?_)
      refine s_chk (fun hk65 => ?_)
      refine s_chk (fun hi66 => ?_)
      refine s_iast dX3_sheet_113 hk65 rfl (by decide) hi66 ?_
      refine s_hl (fun h67 e68 => ?_)
      refine s_aload_n dX3_sheet_114 1 rfl ?_
      refine s_get (j := 8) 4 (va_rf (h67.R y38 8)) dX3_sheet_115 (show h67.kind y38 = 5 by rw [e68, e54]; exact hk40) rfl (by decide) q1245 (Or.inl rfl) rfl ?_
      refine s_iconst (0 : Int32) dX3_sheet_118 (by decide) ?_
      refine s_ob (r := h67.R y38 8) (fun z => [(1, .int x37), (0, .ref y38)]) (fun z => [.int (0 : Int32), z]) (fun a69 => ?_)
      refine s_chk (fun hk70 => ?_)
      refine s_chk (fun hi71 => ?_)
      refine s_aald dX3_sheet_119 hk70 rfl rfl rfl hi71 ?_
      refine s_iload_n dX3_sheet_120 0 rfl ?_
      refine s_aload_n dX3_sheet_121 1 rfl ?_
      refine s_get (j := 8) 4 (va_rf (h67.R y38 8)) dX3_sheet_122 (show h67.kind y38 = 5 by rw [e68, e54]; exact hk40) rfl (by decide) q1245 (Or.inl rfl) rfl ?_
      refine s_iconst (1 : Int32) dX3_sheet_125 (by decide) ?_
      refine s_ob (r := h67.R y38 8) (fun z => [(1, .int x37), (0, .ref y38)]) (fun z => [.int (1 : Int32), z, .int x37, va_rf (h67.R a69 (ix (0 : Int32)))]) (fun a72 => ?_)
      refine s_chk (fun hk73 => ?_)
      refine s_chk (fun hi74 => ?_)
      refine s_aald dX3_sheet_126 hk73 rfl rfl rfl hi74 ?_
      refine s_iload_n dX3_sheet_127 0 rfl ?_
      refine s_ob (r := h67.R a72 (ix (1 : Int32))) (fun z => [(1, .int x37), (0, .ref y38)]) (fun z => [.int x37, z, .int x37, va_rf (h67.R a69 (ix (0 : Int32)))]) (fun a75 => ?_)
      refine s_chk (fun hk76 => ?_)
      refine s_chk (fun hi77 => ?_)
      refine s_iald dX3_sheet_128 hk76 rfl hi77 ?_
      refine s_ob (r := h67.R a69 (ix (0 : Int32))) (fun z => [(1, .int x37), (0, .ref y38)]) (fun z => [.int (h67.I a75 (ix x37)), .int x37, z]) (fun a78 => ?_)
      refine s_chk (fun hk79 => ?_)
      refine s_chk (fun hi80 => ?_)
      refine s_iast dX3_sheet_129 hk79 rfl (by decide) hi80 ?_
      refine s_hl (fun h81 e82 => ?_)
      refine s_aload_n dX3_sheet_130 1 rfl ?_
      refine s_get (j := 9) 4 (va_rf (h81.R y38 9)) dX3_sheet_131 (show h81.kind y38 = 5 by rw [e82, e68, e54]; exact hk40) rfl (by decide) q1246 (Or.inl rfl) rfl ?_
      refine s_iconst (0 : Int32) dX3_sheet_134 (by decide) ?_
      refine s_ob (r := h81.R y38 9) (fun z => [(1, .int x37), (0, .ref y38)]) (fun z => [.int (0 : Int32), z]) (fun a83 => ?_)
      refine s_chk (fun hk84 => ?_)
      refine s_chk (fun hi85 => ?_)
      refine s_aald dX3_sheet_135 hk84 rfl rfl rfl hi85 ?_
      refine s_iload_n dX3_sheet_136 0 rfl ?_
      refine s_aload_n dX3_sheet_137 1 rfl ?_
      refine s_get (j := 9) 4 (va_rf (h81.R y38 9)) dX3_sheet_138 (show h81.kind y38 = 5 by rw [e82, e68, e54]; exact hk40) rfl (by decide) q1246 (Or.inl rfl) rfl ?_
      refine s_iconst (1 : Int32) dX3_sheet_141 (by decide) ?_
      refine s_ob (r := h81.R y38 9) (fun z => [(1, .int x37), (0, .ref y38)]) (fun z => [.int (1 : Int32), z, .int x37, va_rf (h81.R a83 (ix (0 : Int32)))]) (fun a86 => ?_)
      refine s_chk (fun hk87 => ?_)
      refine s_chk (fun hi88 => ?_)
      refine s_aald dX3_sheet_142 hk87 rfl rfl rfl hi88 ?_
      refine s_iload_n dX3_sheet_143 0 rfl ?_
      refine s_ob (r := h81.R a86 (ix (1 : Int32))) (fun z => [(1, .int x37), (0, .ref y38)]) (fun z => [.int x37, z, .int x37, va_rf (h81.R a83 (ix (0 : Int32)))]) (fun a89 => ?_)
      refine s_chk (fun hk90 => ?_)
      refine s_chk (fun hi91 => ?_)
      refine s_iald dX3_sheet_144 hk90 rfl hi91 ?_
      refine s_ob (r := h81.R a83 (ix (0 : Int32))) (fun z => [(1, .int x37), (0, .ref y38)]) (fun z => [.int (h81.I a89 (ix x37)), .int x37, z]) (fun a92 => ?_)
      refine s_chk (fun hk93 => ?_)
      refine s_chk (fun hi94 => ?_)
      refine s_iast dX3_sheet_145 hk93 rfl (by decide) hi94 ?_
      refine s_hl (fun h95 e96 => ?_)
      refine s_aload_n dX3_sheet_146 1 rfl ?_
      refine s_get (j := 10) 4 (va_rf (h95.R y38 10)) dX3_sheet_147 (show h95.kind y38 = 5 by rw [e96, e82, e68, e54]; exact hk40) rfl (by decide) q1247 (Or.inl rfl) rfl ?_
      refine s_iconst (0 : Int32) dX3_sheet_150 (by decide) ?_
      refine s_ob (r := h95.R y38 10) (fun z => [(1, .int x37), (0, .ref y38)]) (fun z => [.int (0 : Int32), z]) (fun a97 => ?_)
      refine s_chk (fun hk98 => ?_)
      refine s_chk (fun hi99 => ?_)
      refine s_aald dX3_sheet_151 hk98 rfl rfl rfl hi99 ?_
      refine s_iload_n dX3_sheet_152 0 rfl ?_
      refine s_aload_n dX3_sheet_153 1 rfl ?_
      refine s_get (j := 10) 4 (va_rf (h95.R y38 10)) dX3_sheet_154 (show h95.kind y38 = 5 by rw [e96, e82, e68, e54]; exact hk40) rfl (by decide) q1247 (Or.inl rfl) rfl ?_
      refine s_iconst (1 : Int32) dX3_sheet_157 (by decide) ?_
      refine s_ob (r := h95.R y38 10) (fun z => [(1, .int x37), (0, .ref y38)]) (fun z => [.int (1 : Int32), z, .int x37, va_rf (h95.R a97 (ix (0 : Int32)))]) (fun a100 => ?_)
      refine s_chk (fun hk101 => ?_)
      refine s_chk (fun hi102 => ?_)
      refine s_aald dX3_sheet_158 hk101 rfl rfl rfl hi102 ?_
      refine s_iload_n dX3_sheet_159 0 rfl ?_
      refine s_ob (r := h95.R a100 (ix (1 : Int32))) (fun z => [(1, .int x37), (0, .ref y38)]) (fun z => [.int x37, z, .int x37, va_rf (h95.R a97 (ix (0 : Int32)))]) (fun a103 => ?_)
      refine s_chk (fun hk104 => ?_)
      refine s_chk (fun hi105 => ?_)
      refine s_iald dX3_sheet_160 hk104 rfl hi105 ?_
      refine s_ob (r := h95.R a97 (ix (0 : Int32))) (fun z => [(1, .int x37), (0, .ref y38)]) (fun z => [.int (h95.I a103 (ix x37)), .int x37, z]) (fun a106 => ?_)
      refine s_chk (fun hk107 => ?_)
      refine s_chk (fun hi108 => ?_)
      refine s_iast dX3_sheet_161 hk107 rfl (by decide) hi108 ?_
      refine s_hl (fun h109 e110 => ?_)
      refine s_aload_n dX3_sheet_162 1 rfl ?_
      refine s_get (j := 11) 4 (va_rf (h109.R y38 11)) dX3_sheet_163 (show h109.kind y38 = 5 by rw [e110, e96, e82, e68, e54]; exact hk40) rfl (by decide) q1248 (Or.inl rfl) rfl ?_
      refine s_iconst (0 : Int32) dX3_sheet_166 (by decide) ?_
      refine s_ob (r := h109.R y38 11) (fun z => [(1, .int x37), (0, .ref y38)]) (fun z => [.int (0 : Int32), z]) (fun a111 => ?_)
      refine s_chk (fun hk112 => ?_)
      refine s_chk (fun hi113 => ?_)
      refine s_aald dX3_sheet_167 hk112 rfl rfl rfl hi113 ?_
      refine s_iload_n dX3_sheet_168 0 rfl ?_
      refine s_aload_n dX3_sheet_169 1 rfl ?_
      refine s_get (j := 11) 4 (va_rf (h109.R y38 11)) dX3_sheet_170 (show h109.kind y38 = 5 by rw [e110, e96, e82, e68, e54]; exact hk40) rfl (by decide) q1248 (Or.inl rfl) rfl ?_
      refine s_iconst (1 : Int32) dX3_sheet_173 (by decide) ?_
      refine s_ob (r := h109.R y38 11) (fun z => [(1, .int x37), (0, .ref y38)]) (fun z => [.int (1 : Int32), z, .int x37, va_rf (h109.R a111 (ix (0 : Int32)))]) (fun a114 => ?_)
      refine s_chk (fun hk115 => ?_)
      refine s_chk (fun hi116 => ?_)
      refine s_aald dX3_sheet_174 hk115 rfl rfl rfl hi116 ?_
      refine s_iload_n dX3_sheet_175 0 rfl ?_
      refine s_ob (r := h109.R a114 (ix (1 : Int32))) (fun z => [(1, .int x37), (0, .ref y38)]) (fun z => [.int x37, z, .int x37, va_rf (h109.R a111 (ix (0 : Int32)))]) (fun a117 => ?_)
      refine s_chk (fun hk118 => ?_)
      refine s_chk (fun hi119 => ?_)
      refine s_iald dX3_sheet_176 hk118 rfl hi119 ?_
      refine s_ob (r := h109.R a111 (ix (0 : Int32))) (fun z => [(1, .int x37), (0, .ref y38)]) (fun z => [.int (h109.I a117 (ix x37)), .int x37, z]) (fun a120 => ?_)
      refine s_chk (fun hk121 => ?_)
      refine s_chk (fun hi122 => ?_)
      refine s_iast dX3_sheet_177 hk121 rfl (by decide) hi122 ?_
      refine s_hl (fun h123 e124 => ?_)
      refine s_iinc (1 : Int32) [(1, .int (x37 + (1 : Int32))), (0, .ref y38)] dX3_sheet_178 0 rfl (by decide) (by decide) (by decide) rfl ?_
      refine s_goto 76 dX3_sheet_181 (by decide) ?_
      exact ih (x37 + (1 : Int32)) h123 k hk
theorem sX3_sheet_L186 (G : Gl) (n : Nat) (K : Nat → Nat) (hK : K = G.ad) (y128 : Nat) : ∀ (f : Nat) (x127 : Int32) (h : AH), Sim G yX3_sheet.cls yX3_sheet.name cX3_sheet 2 (some .int) 9 cvI 186 [(1, .int x127), (0, .ref y128)] [] h (F_X3_sheet_L186 n K y128 f x127 h) := by
  intro f
  induction f with
  | zero =>
    intro x127 h
    exact s_none
  | succ f ih =>
    intro x127 h
    unfold F_X3_sheet_L186
    refine s_iload_n dX3_sheet_186 0 rfl ?_
    refine s_bipush (20 : Int32) dX3_sheet_187 (by decide) ?_
    refine s_icmp_ge 230 dX3_sheet_189 (by decide) (fun c129 => ?_) (fun c129 => ?_)
    · refine s_aload_n dX3_sheet_230 1 rfl ?_
      refine s_iconst (0 : Int32) dX3_sheet_231 (by decide) ?_
      refine s_chk (fun hk130 => ?_)
      refine s_put (j := 1) 4 (v := .int (0 : Int32)) dX3_sheet_232 hk130 rfl (by decide) q1238 (Or.inl rfl) rfl rfl rfl (Upd.i (fun _ => rfl)) ?_
      refine s_hl (fun h131 e132 => ?_)
      refine s_aload_n dX3_sheet_235 1 rfl ?_
      refine s_iconst (0 : Int32) dX3_sheet_236 (by decide) ?_
      refine s_put (j := 48) 4 (v := .int (0 : Int32)) dX3_sheet_237 (show h131.kind y128 = 5 by rw [e132]; exact hk130) rfl (by decide) q1285 (Or.inl rfl) rfl rfl rfl (Upd.i (fun _ => rfl)) ?_
      refine s_hl (fun h133 e134 => ?_)
      refine s_aload_n dX3_sheet_240 1 rfl ?_
      refine s_iconst (0 : Int32) dX3_sheet_241 (by decide) ?_
      refine s_put (j := 29) 4 (v := .int (0 : Int32)) dX3_sheet_242 (show h133.kind y128 = 5 by rw [e134, e132]; exact hk130) rfl (by decide) q1266 (Or.inl rfl) rfl rfl rfl (Upd.i (fun _ => rfl)) ?_
      refine s_hl (fun h135 e136 => ?_)
      refine s_aload_n dX3_sheet_245 1 rfl ?_
      refine s_callV_I 4 (kX3_voters G n K hK y128 h135) (by decide) (by decide) dX3_sheet_246 (show h135.kind y128 = 5 by rw [e136, e134, e132]; exact hk130) rfl rfl q1475 q1477 qs62 q109 q1478 hyX3_voters rfl rfl (Nat.le_of_ble_eq_true rfl) (fun r137 h138 => ?_)
      exact s_iret dX3_sheet_249 rfl rfl
    · refine s_aload_n dX3_sheet_192 1 rfl ?_
      refine s_chk (fun hk139 => ?_)
      refine s_get (j := 12) 4 (va_rf (h.R y128 12)) dX3_sheet_193 hk139 rfl (by decide) q1249 (Or.inl rfl) rfl ?_
      refine s_iconst (0 : Int32) dX3_sheet_196 (by decide) ?_
      refine s_ob (r := h.R y128 12) (fun z => [(1, .int x127), (0, .ref y128)]) (fun z => [.int (0 : Int32), z]) (fun a140 => ?_)
      refine s_chk (fun hk141 => ?_)
      refine s_chk (fun hi142 => ?_)
      refine s_aald dX3_sheet_197 hk141 rfl rfl rfl hi142 ?_
      refine s_iload_n dX3_sheet_198 0 rfl ?_
      refine s_aload_n dX3_sheet_199 1 rfl ?_
      refine s_get (j := 12) 4 (va_rf (h.R y128 12)) dX3_sheet_200 hk139 rfl (by decide) q1249 (Or.inl rfl) rfl ?_
      refine s_iconst (1 : Int32) dX3_sheet_203 (by decide) ?_
      refine s_ob (r := h.R y128 12) (fun z => [(1, .int x127), (0, .ref y128)]) (fun z => [.int (1 : Int32), z, .int x127, va_rf (h.R a140 (ix (0 : Int32)))]) (fun a143 => ?_)
      refine s_chk (fun hk144 => ?_)
      refine s_chk (fun hi145 => ?_)
      refine s_aald dX3_sheet_204 hk144 rfl rfl rfl hi145 ?_
      refine s_iload_n dX3_sheet_205 0 rfl ?_
      refine s_ob (r := h.R a143 (ix (1 : Int32))) (fun z => [(1, .int x127), (0, .ref y128)]) (fun z => [.int x127, z, .int x127, va_rf (h.R a140 (ix (0 : Int32)))]) (fun a146 => ?_)
      refine s_chk (fun hk147 => ?_)
      refine s_chk (fun hi148 => ?_)
      refine s_iald dX3_sheet_206 hk147 rfl hi148 ?_
      refine s_ob (r := h.R a140 (ix (0 : Int32))) (fun z => [(1, .int x127), (0, .ref y128)]) (fun z => [.int (h.I a146 (ix x127)), .int x127, z]) (fun a149 => ?_)
      refine s_chk (fun hk150 => ?_)
      refine s_chk (fun hi151 => ?_)
      refine s_iast dX3_sheet_207 hk150 rfl (by decide) hi151 ?_
      refine s_hl (fun h152 e153 => ?_)
      refine s_aload_n dX3_sheet_208 1 rfl ?_
      refine s_get (j := 13) 4 (va_rf (h152.R y128 13)) dX3_sheet_209 (show h152.kind y128 = 5 by rw [e153]; exact hk139) rfl (by decide) q1250 (Or.inl rfl) rfl ?_
      refine s_iconst (0 : Int32) dX3_sheet_212 (by decide) ?_
      refine s_ob (r := h152.R y128 13) (fun z => [(1, .int x127), (0, .ref y128)]) (fun z => [.int (0 : Int32), z]) (fun a154 => ?_)
      refine s_chk (fun hk155 => ?_)
      refine s_chk (fun hi156 => ?_)
      refine s_aald dX3_sheet_213 hk155 rfl rfl rfl hi156 ?_
      refine s_iload_n dX3_sheet_214 0 rfl ?_
      refine s_aload_n dX3_sheet_215 1 rfl ?_
      refine s_get (j := 13) 4 (va_rf (h152.R y128 13)) dX3_sheet_216 (show h152.kind y128 = 5 by rw [e153]; exact hk139) rfl (by decide) q1250 (Or.inl rfl) rfl ?_
      refine s_iconst (1 : Int32) dX3_sheet_219 (by decide) ?_
      refine s_ob (r := h152.R y128 13) (fun z => [(1, .int x127), (0, .ref y128)]) (fun z => [.int (1 : Int32), z, .int x127, va_rf (h152.R a154 (ix (0 : Int32)))]) (fun a157 => ?_)
      refine s_chk (fun hk158 => ?_)
      refine s_chk (fun hi159 => ?_)
      refine s_aald dX3_sheet_220 hk158 rfl rfl rfl hi159 ?_
      refine s_iload_n dX3_sheet_221 0 rfl ?_
      refine s_ob (r := h152.R a157 (ix (1 : Int32))) (fun z => [(1, .int x127), (0, .ref y128)]) (fun z => [.int x127, z, .int x127, va_rf (h152.R a154 (ix (0 : Int32)))]) (fun a160 => ?_)
      refine s_chk (fun hk161 => ?_)
      refine s_chk (fun hi162 => ?_)
      refine s_iald dX3_sheet_222 hk161 rfl hi162 ?_
      refine s_ob (r := h152.R a154 (ix (0 : Int32))) (fun z => [(1, .int x127), (0, .ref y128)]) (fun z => [.int (h152.I a160 (ix x127)), .int x127, z]) (fun a163 => ?_)
      refine s_chk (fun hk164 => ?_)
      refine s_chk (fun hi165 => ?_)
      refine s_iast dX3_sheet_223 hk164 rfl (by decide) hi165 ?_
      refine s_hl (fun h166 e167 => ?_)
      refine s_iinc (1 : Int32) [(1, .int (x127 + (1 : Int32))), (0, .ref y128)] dX3_sheet_224 0 rfl (by decide) (by decide) (by decide) rfl ?_
      refine s_goto 186 dX3_sheet_227 (by decide) ?_
      exact ih (x127 + (1 : Int32)) h166
theorem kX3_sheet (G : Gl) (n : Nat) (K : Nat → Nat) (hK : K = G.ad) (p0 : Nat) (h : AH) : OkM G yX3_sheet cX3_sheet 2 (some .int) 9 cvI [.ref p0] h (F_X3_sheet n K p0 h) := by
  refine ok_of_sim [(0, .ref p0)] (by decide +kernel) (fun r => ⟨_, rfl⟩) (by simp [uns, lv_args, lg_sl, catI, catL, catA, va_rfc]) (by simp [uns, lv_args, lg_sl, catI, catL, catA, va_rfc]) (by simp [uns, lv_args, lg_sl, catI, catL, catA, va_rfc]) ?_
  unfold F_X3_sheet
  refine s_aload_n dX3_sheet_0 0 rfl ?_
  refine s_chk (fun hk3 => ?_)
  refine s_callV_V 4 (kX3_reads G n K hK p0 h) (by decide) (by decide) dX3_sheet_1 hk3 rfl rfl q1404 q1406 qs50 q109 q1407 hyX3_reads rfl rfl (Nat.le_of_ble_eq_true rfl) (fun r1 h2 => ?_)
  refine s_aload_n dX3_sheet_4 0 rfl ?_
  refine s_chk (fun hk4 => ?_)
  refine s_get (j := 4) 4 (.int (h2.I p0 4)) dX3_sheet_5 hk4 rfl (by decide) q1241 (Or.inl rfl) rfl ?_
  refine s_iconst (-1 : Int32) dX3_sheet_8 (by decide) ?_
  refine s_icmp_eq 14 dX3_sheet_9 (by decide) (fun c5 => ?_) (fun c5 => ?_)
  · refine s_aload_n dX3_sheet_14 0 rfl ?_
    refine s_get (j := 14) 4 (va_rf (h2.R p0 14)) dX3_sheet_15 hk4 rfl (by decide) q1251 (Or.inl rfl) rfl ?_
    refine s_iconst (0 : Int32) dX3_sheet_18 (by decide) ?_
    refine s_aload_n dX3_sheet_19 0 rfl ?_
    refine s_get (j := 14) 4 (va_rf (h2.R p0 14)) dX3_sheet_20 hk4 rfl (by decide) q1251 (Or.inl rfl) rfl ?_
    refine s_iconst (1 : Int32) dX3_sheet_23 (by decide) ?_
    refine s_ob (r := h2.R p0 14) (fun z => [(0, .ref p0)]) (fun z => [.int (1 : Int32), z, .int (0 : Int32), z]) (fun a6 => ?_)
    refine s_chk (fun hk7 => ?_)
    refine s_chk (fun hi8 => ?_)
    refine s_iald dX3_sheet_24 hk7 rfl hi8 ?_
    refine s_chk (fun hi9 => ?_)
    refine s_iast dX3_sheet_25 hk7 rfl (by decide) hi9 ?_
    refine s_hl (fun h10 e11 => ?_)
    refine s_aload_n dX3_sheet_26 0 rfl ?_
    refine s_get (j := 15) 4 (va_rf (h10.R p0 15)) dX3_sheet_27 (show h10.kind p0 = 5 by rw [e11]; exact hk4) rfl (by decide) q1252 (Or.inl rfl) rfl ?_
    refine s_iconst (0 : Int32) dX3_sheet_30 (by decide) ?_
    refine s_aload_n dX3_sheet_31 0 rfl ?_
    refine s_get (j := 15) 4 (va_rf (h10.R p0 15)) dX3_sheet_32 (show h10.kind p0 = 5 by rw [e11]; exact hk4) rfl (by decide) q1252 (Or.inl rfl) rfl ?_
    refine s_iconst (1 : Int32) dX3_sheet_35 (by decide) ?_
    refine s_ob (r := h10.R p0 15) (fun z => [(0, .ref p0)]) (fun z => [.int (1 : Int32), z, .int (0 : Int32), z]) (fun a12 => ?_)
    refine s_chk (fun hk13 => ?_)
    refine s_chk (fun hi14 => ?_)
    refine s_iald dX3_sheet_36 hk13 rfl hi14 ?_
    refine s_chk (fun hi15 => ?_)
    refine s_iast dX3_sheet_37 hk13 rfl (by decide) hi15 ?_
    refine s_hl (fun h16 e17 => ?_)
    refine s_aload_n dX3_sheet_38 0 rfl ?_
    refine s_get (j := 16) 4 (va_rf (h16.R p0 16)) dX3_sheet_39 (show h16.kind p0 = 5 by rw [e17, e11]; exact hk4) rfl (by decide) q1253 (Or.inl rfl) rfl ?_
    refine s_iconst (0 : Int32) dX3_sheet_42 (by decide) ?_
    refine s_aload_n dX3_sheet_43 0 rfl ?_
    refine s_get (j := 16) 4 (va_rf (h16.R p0 16)) dX3_sheet_44 (show h16.kind p0 = 5 by rw [e17, e11]; exact hk4) rfl (by decide) q1253 (Or.inl rfl) rfl ?_
    refine s_iconst (1 : Int32) dX3_sheet_47 (by decide) ?_
    refine s_ob (r := h16.R p0 16) (fun z => [(0, .ref p0)]) (fun z => [.int (1 : Int32), z, .int (0 : Int32), z]) (fun a18 => ?_)
    refine s_chk (fun hk19 => ?_)
    refine s_chk (fun hi20 => ?_)
    refine s_iald dX3_sheet_48 hk19 rfl hi20 ?_
    refine s_chk (fun hi21 => ?_)
    refine s_iast dX3_sheet_49 hk19 rfl (by decide) hi21 ?_
    refine s_hl (fun h22 e23 => ?_)
    refine s_aload_n dX3_sheet_50 0 rfl ?_
    refine s_get (j := 17) 4 (va_rf (h22.R p0 17)) dX3_sheet_51 (show h22.kind p0 = 5 by rw [e23, e17, e11]; exact hk4) rfl (by decide) q1254 (Or.inl rfl) rfl ?_
    refine s_iconst (0 : Int32) dX3_sheet_54 (by decide) ?_
    refine s_aload_n dX3_sheet_55 0 rfl ?_
    refine s_get (j := 17) 4 (va_rf (h22.R p0 17)) dX3_sheet_56 (show h22.kind p0 = 5 by rw [e23, e17, e11]; exact hk4) rfl (by decide) q1254 (Or.inl rfl) rfl ?_
    refine s_iconst (1 : Int32) dX3_sheet_59 (by decide) ?_
    refine s_ob (r := h22.R p0 17) (fun z => [(0, .ref p0)]) (fun z => [.int (1 : Int32), z, .int (0 : Int32), z]) (fun a24 => ?_)
    refine s_chk (fun hk25 => ?_)
    refine s_chk (fun hi26 => ?_)
    refine s_iald dX3_sheet_60 hk25 rfl hi26 ?_
    refine s_chk (fun hi27 => ?_)
    refine s_iast dX3_sheet_61 hk25 rfl (by decide) hi27 ?_
    refine s_hl (fun h28 e29 => ?_)
    refine s_aload_n dX3_sheet_62 0 rfl ?_
    refine s_get (j := 18) 4 (va_rf (h28.R p0 18)) dX3_sheet_63 (show h28.kind p0 = 5 by rw [e29, e23, e17, e11]; exact hk4) rfl (by decide) q1255 (Or.inl rfl) rfl ?_
    refine s_iconst (0 : Int32) dX3_sheet_66 (by decide) ?_
    refine s_aload_n dX3_sheet_67 0 rfl ?_
    refine s_get (j := 18) 4 (va_rf (h28.R p0 18)) dX3_sheet_68 (show h28.kind p0 = 5 by rw [e29, e23, e17, e11]; exact hk4) rfl (by decide) q1255 (Or.inl rfl) rfl ?_
    refine s_iconst (1 : Int32) dX3_sheet_71 (by decide) ?_
    refine s_ob (r := h28.R p0 18) (fun z => [(0, .ref p0)]) (fun z => [.int (1 : Int32), z, .int (0 : Int32), z]) (fun a30 => ?_)
    refine s_chk (fun hk31 => ?_)
    refine s_chk (fun hi32 => ?_)
    refine s_iald dX3_sheet_72 hk31 rfl hi32 ?_
    refine s_chk (fun hi33 => ?_)
    refine s_iast dX3_sheet_73 hk31 rfl (by decide) hi33 ?_
    refine s_hl (fun h34 e35 => ?_)
    refine s_iconst (0 : Int32) dX3_sheet_74 (by decide) ?_
    refine s_istore_n [(1, .int (0 : Int32)), (0, .ref p0)] dX3_sheet_75 (by decide) (by decide) rfl ?_
    refine sX3_sheet_L76 G n K hK p0 n (0 : Int32) h34 _ ?_
    intro h125
    refine s_iconst (0 : Int32) dX3_sheet_184 (by decide) ?_
    refine s_istore_n [(1, .int (0 : Int32)), (0, .ref p0)] dX3_sheet_185 (by decide) (by decide) rfl ?_
    exact sX3_sheet_L186 G n K hK p0 n (0 : Int32) h125
  · refine s_iconst (-1 : Int32) dX3_sheet_12 (by decide) ?_
    exact s_iret dX3_sheet_13 rfl rfl
theorem hyX3_isVoter : yX3_isVoter.cls ≠ "java/lang/invoke/MethodHandle" ∧ yX3_isVoter.cls ≠ "java/lang/invoke/VarHandle" ∧ (parseMethodDescriptor yX3_isVoter.desc).map (fun d => d.parameters.length) = some 1 := by decide +kernel
theorem kX3_isVoter (G : Gl) (n : Nat) (K : Nat → Nat) (hK : K = G.ad) (p0 : Nat) (p1 : Int32) (h : AH) : OkM G yX3_isVoter cX3_isVoter 2 (some .boolean) 2 cvI [.ref p0, .int p1] h (F_X3_isVoter n K p0 p1 h) := by
  refine ok_of_sim [(0, .ref p0), (1, .int p1)] (by decide +kernel) (fun r => ⟨_, rfl⟩) (by simp [uns, lv_args, lg_sl, catI, catL, catA, va_rfc]) (by simp [uns, lv_args, lg_sl, catI, catL, catA, va_rfc]) (by simp [uns, lv_args, lg_sl, catI, catL, catA, va_rfc]) ?_
  unfold F_X3_isVoter
  refine s_iload_n dX3_isVoter_0 1 rfl ?_
  refine s_i2l dX3_isVoter_1 ?_
  refine s_lconst (0 : Int64) dX3_isVoter_2 (by decide) ?_
  refine s_aload_n dX3_isVoter_3 0 rfl ?_
  refine s_chk (fun hk3 => ?_)
  refine s_callV_I 4 (kX3_voters G n K hK p0 h) (by decide) (by decide) dX3_isVoter_4 hk3 rfl rfl q1475 q1477 qs62 q109 q1478 hyX3_voters rfl rfl (Nat.le_of_ble_eq_true rfl) (fun r1 h2 => ?_)
  refine s_iconst (1 : Int32) dX3_isVoter_7 (by decide) ?_
  refine s_isub dX3_isVoter_8 ?_
  refine s_i2l dX3_isVoter_9 ?_
  refine s_callS_I (kX3_in G n K hK p1.toInt64 (0 : Int64) ((r1 - (1 : Int32)).toInt64) h2) (by decide) (by decide) dX3_isVoter_10 q1397 q1398 q109 q1399 hyX3_in rfl rfl (Nat.le_of_ble_eq_true rfl) (fun r4 h5 => ?_)
  refine s_chk (fun hb6 => ?_)
  exact s_zret dX3_isVoter_13 rfl (nb01 hb6) rfl
theorem hyX3_voter : yX3_voter.cls ≠ "java/lang/invoke/MethodHandle" ∧ yX3_voter.cls ≠ "java/lang/invoke/VarHandle" ∧ (parseMethodDescriptor yX3_voter.desc).map (fun d => d.parameters.length) = some 2 := by decide +kernel
theorem kX3_voter (G : Gl) (n : Nat) (K : Nat → Nat) (hK : K = G.ad) (p0 : Nat) (p1 : Int32) (p2 : Int32) (h : AH) : OkM G yX3_voter cX3_voter 3 (some .int) 3 cvI [.ref p0, .int p1, .int p2] h (F_X3_voter n K p0 p1 p2 h) := by
  refine ok_of_sim [(0, .ref p0), (1, .int p1), (2, .int p2)] (by decide +kernel) (fun r => ⟨_, rfl⟩) (by simp [uns, lv_args, lg_sl, catI, catL, catA, va_rfc]) (by simp [uns, lv_args, lg_sl, catI, catL, catA, va_rfc]) (by simp [uns, lv_args, lg_sl, catI, catL, catA, va_rfc]) ?_
  unfold F_X3_voter
  refine s_aload_n dX3_voter_0 0 rfl ?_
  refine s_iload_n dX3_voter_1 1 rfl ?_
  refine s_chk (fun hk3 => ?_)
  refine s_callV_I 4 (kX3_isVoter G n K hK p0 p1 h) (by decide) (by decide) dX3_voter_2 hk3 rfl rfl q1483 q1485 qs63 q109 q1486 hyX3_isVoter rfl rfl (Nat.le_of_ble_eq_true rfl) (fun r1 h2 => ?_)
  refine s_if_ne 10 dX3_voter_5 (by decide) (fun c4 => ?_) (fun c4 => ?_)
  · refine s_iload_n dX3_voter_10 2 rfl ?_
    refine s_ite (fun c5 => ?_) (fun c5 => ?_)
    · refine s_tblIn (0 : Int32) 48 c5 dX3_voter_11 (by decide) (by decide) rfl (by decide) ?_
      refine s_aload_n dX3_voter_48 0 rfl ?_
      refine s_chk (fun hk6 => ?_)
      refine s_get (j := 6) 4 (va_rf (h2.R p0 6)) dX3_voter_49 hk6 rfl (by decide) q1243 (Or.inl rfl) rfl ?_
      refine s_iconst (0 : Int32) dX3_voter_52 (by decide) ?_
      refine s_ob (r := h2.R p0 6) (fun z => [(0, .ref p0), (1, .int p1), (2, .int p2)]) (fun z => [.int (0 : Int32), z]) (fun a7 => ?_)
      refine s_chk (fun hk8 => ?_)
      refine s_chk (fun hi9 => ?_)
      refine s_aald dX3_voter_53 hk8 rfl rfl rfl hi9 ?_
      refine s_iload_n dX3_voter_54 1 rfl ?_
      refine s_ob (r := h2.R a7 (ix (0 : Int32))) (fun z => [(0, .ref p0), (1, .int p1), (2, .int p2)]) (fun z => [.int p1, z]) (fun a10 => ?_)
      refine s_chk (fun hk11 => ?_)
      refine s_chk (fun hi12 => ?_)
      refine s_iald dX3_voter_55 hk11 rfl hi12 ?_
      exact s_iret dX3_voter_56 rfl rfl
    refine s_ite (fun c13 => ?_) (fun c13 => ?_)
    · refine s_tblIn (1 : Int32) 57 c13 dX3_voter_11 (by decide) (by decide) rfl (by decide) ?_
      refine s_aload_n dX3_voter_57 0 rfl ?_
      refine s_chk (fun hk14 => ?_)
      refine s_get (j := 7) 4 (va_rf (h2.R p0 7)) dX3_voter_58 hk14 rfl (by decide) q1244 (Or.inl rfl) rfl ?_
      refine s_iconst (0 : Int32) dX3_voter_61 (by decide) ?_
      refine s_ob (r := h2.R p0 7) (fun z => [(0, .ref p0), (1, .int p1), (2, .int p2)]) (fun z => [.int (0 : Int32), z]) (fun a15 => ?_)
      refine s_chk (fun hk16 => ?_)
      refine s_chk (fun hi17 => ?_)
      refine s_aald dX3_voter_62 hk16 rfl rfl rfl hi17 ?_
      refine s_iload_n dX3_voter_63 1 rfl ?_
      refine s_ob (r := h2.R a15 (ix (0 : Int32))) (fun z => [(0, .ref p0), (1, .int p1), (2, .int p2)]) (fun z => [.int p1, z]) (fun a18 => ?_)
      refine s_chk (fun hk19 => ?_)
      refine s_chk (fun hi20 => ?_)
      refine s_iald dX3_voter_64 hk19 rfl hi20 ?_
      exact s_iret dX3_voter_65 rfl rfl
    refine s_ite (fun c21 => ?_) (fun c21 => ?_)
    · refine s_tblIn (2 : Int32) 66 c21 dX3_voter_11 (by decide) (by decide) rfl (by decide) ?_
      refine s_aload_n dX3_voter_66 0 rfl ?_
      refine s_chk (fun hk22 => ?_)
      refine s_get (j := 8) 4 (va_rf (h2.R p0 8)) dX3_voter_67 hk22 rfl (by decide) q1245 (Or.inl rfl) rfl ?_
      refine s_iconst (0 : Int32) dX3_voter_70 (by decide) ?_
      refine s_ob (r := h2.R p0 8) (fun z => [(0, .ref p0), (1, .int p1), (2, .int p2)]) (fun z => [.int (0 : Int32), z]) (fun a23 => ?_)
      refine s_chk (fun hk24 => ?_)
      refine s_chk (fun hi25 => ?_)
      refine s_aald dX3_voter_71 hk24 rfl rfl rfl hi25 ?_
      refine s_iload_n dX3_voter_72 1 rfl ?_
      refine s_ob (r := h2.R a23 (ix (0 : Int32))) (fun z => [(0, .ref p0), (1, .int p1), (2, .int p2)]) (fun z => [.int p1, z]) (fun a26 => ?_)
      refine s_chk (fun hk27 => ?_)
      refine s_chk (fun hi28 => ?_)
      refine s_iald dX3_voter_73 hk27 rfl hi28 ?_
      exact s_iret dX3_voter_74 rfl rfl
    refine s_ite (fun c29 => ?_) (fun c29 => ?_)
    · refine s_tblIn (3 : Int32) 75 c29 dX3_voter_11 (by decide) (by decide) rfl (by decide) ?_
      refine s_aload_n dX3_voter_75 0 rfl ?_
      refine s_chk (fun hk30 => ?_)
      refine s_get (j := 9) 4 (va_rf (h2.R p0 9)) dX3_voter_76 hk30 rfl (by decide) q1246 (Or.inl rfl) rfl ?_
      refine s_iconst (0 : Int32) dX3_voter_79 (by decide) ?_
      refine s_ob (r := h2.R p0 9) (fun z => [(0, .ref p0), (1, .int p1), (2, .int p2)]) (fun z => [.int (0 : Int32), z]) (fun a31 => ?_)
      refine s_chk (fun hk32 => ?_)
      refine s_chk (fun hi33 => ?_)
      refine s_aald dX3_voter_80 hk32 rfl rfl rfl hi33 ?_
      refine s_iload_n dX3_voter_81 1 rfl ?_
      refine s_ob (r := h2.R a31 (ix (0 : Int32))) (fun z => [(0, .ref p0), (1, .int p1), (2, .int p2)]) (fun z => [.int p1, z]) (fun a34 => ?_)
      refine s_chk (fun hk35 => ?_)
      refine s_chk (fun hi36 => ?_)
      refine s_iald dX3_voter_82 hk35 rfl hi36 ?_
      exact s_iret dX3_voter_83 rfl rfl
    refine s_ite (fun c37 => ?_) (fun c37 => ?_)
    · refine s_tblIn (4 : Int32) 84 c37 dX3_voter_11 (by decide) (by decide) rfl (by decide) ?_
      refine s_aload_n dX3_voter_84 0 rfl ?_
      refine s_chk (fun hk38 => ?_)
      refine s_get (j := 10) 4 (va_rf (h2.R p0 10)) dX3_voter_85 hk38 rfl (by decide) q1247 (Or.inl rfl) rfl ?_
      refine s_iconst (0 : Int32) dX3_voter_88 (by decide) ?_
      refine s_ob (r := h2.R p0 10) (fun z => [(0, .ref p0), (1, .int p1), (2, .int p2)]) (fun z => [.int (0 : Int32), z]) (fun a39 => ?_)
      refine s_chk (fun hk40 => ?_)
      refine s_chk (fun hi41 => ?_)
      refine s_aald dX3_voter_89 hk40 rfl rfl rfl hi41 ?_
      refine s_iload_n dX3_voter_90 1 rfl ?_
      refine s_ob (r := h2.R a39 (ix (0 : Int32))) (fun z => [(0, .ref p0), (1, .int p1), (2, .int p2)]) (fun z => [.int p1, z]) (fun a42 => ?_)
      refine s_chk (fun hk43 => ?_)
      refine s_chk (fun hi44 => ?_)
      refine s_iald dX3_voter_91 hk43 rfl hi44 ?_
      exact s_iret dX3_voter_92 rfl rfl
    refine s_ite (fun c45 => ?_) (fun c45 => ?_)
    · refine s_tblIn (5 : Int32) 93 c45 dX3_voter_11 (by decide) (by decide) rfl (by decide) ?_
      refine s_aload_n dX3_voter_93 0 rfl ?_
      refine s_chk (fun hk46 => ?_)
      refine s_get (j := 11) 4 (va_rf (h2.R p0 11)) dX3_voter_94 hk46 rfl (by decide) q1248 (Or.inl rfl) rfl ?_
      refine s_iconst (0 : Int32) dX3_voter_97 (by decide) ?_
      refine s_ob (r := h2.R p0 11) (fun z => [(0, .ref p0), (1, .int p1), (2, .int p2)]) (fun z => [.int (0 : Int32), z]) (fun a47 => ?_)
      refine s_chk (fun hk48 => ?_)
      refine s_chk (fun hi49 => ?_)
      refine s_aald dX3_voter_98 hk48 rfl rfl rfl hi49 ?_
      refine s_iload_n dX3_voter_99 1 rfl ?_
      refine s_ob (r := h2.R a47 (ix (0 : Int32))) (fun z => [(0, .ref p0), (1, .int p1), (2, .int p2)]) (fun z => [.int p1, z]) (fun a50 => ?_)
      refine s_chk (fun hk51 => ?_)
      refine s_chk (fun hi52 => ?_)
      refine s_iald dX3_voter_100 hk51 rfl hi52 ?_
      exact s_iret dX3_voter_101 rfl rfl
    have zc5 := lv_neT c5 (a := 0) rfl
    have zc13 := lv_neT c13 (a := 1) rfl
    have zc21 := lv_neT c21 (a := 2) rfl
    have zc29 := lv_neT c29 (a := 3) rfl
    have zc37 := lv_neT c37 (a := 4) rfl
    have zc45 := lv_neT c45 (a := 5) rfl
    refine s_tblOut 102 dX3_voter_11 (by omega) (by decide) ?_
    refine s_iconst (-1 : Int32) dX3_voter_102 (by decide) ?_
    exact s_iret dX3_voter_103 rfl rfl
  · refine s_iconst (-1 : Int32) dX3_voter_8 (by decide) ?_
    exact s_iret dX3_voter_9 rfl rfl
theorem hyX3_places : yX3_places.cls ≠ "java/lang/invoke/MethodHandle" ∧ yX3_places.cls ≠ "java/lang/invoke/VarHandle" ∧ (parseMethodDescriptor yX3_places.desc).map (fun d => d.parameters.length) = some 0 := by decide +kernel
theorem kX3_places (G : Gl) (n : Nat) (K : Nat → Nat) (hK : K = G.ad) (p0 : Nat) (h : AH) : OkM G yX3_places cX3_places 1 (some .int) 1 cvI [.ref p0] h (F_X3_places n K p0 h) := by
  refine ok_of_sim [(0, .ref p0)] (by decide +kernel) (fun r => ⟨_, rfl⟩) (by simp [uns, lv_args, lg_sl, catI, catL, catA, va_rfc]) (by simp [uns, lv_args, lg_sl, catI, catL, catA, va_rfc]) (by simp [uns, lv_args, lg_sl, catI, catL, catA, va_rfc]) ?_
  unfold F_X3_places
  refine s_aload_n dX3_places_0 0 rfl ?_
  refine s_chk (fun hk1 => ?_)
  refine s_get (j := 15) 4 (va_rf (h.R p0 15)) dX3_places_1 hk1 rfl (by decide) q1252 (Or.inl rfl) rfl ?_
  refine s_iconst (0 : Int32) dX3_places_4 (by decide) ?_
  refine s_ob (r := h.R p0 15) (fun z => [(0, .ref p0)]) (fun z => [.int (0 : Int32), z]) (fun a2 => ?_)
  refine s_chk (fun hk3 => ?_)
  refine s_chk (fun hi4 => ?_)
  refine s_iald dX3_places_5 hk3 rfl hi4 ?_
  exact s_iret dX3_places_6 rfl rfl
