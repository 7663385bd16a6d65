/-! PURE PART QW: undo -/
set_option maxRecDepth 100000
def undoS (Z : Zt) : Int32 := if Z.nm = 0 then -1 else Z.Mo (Z.nm - 1) 0
def undoZ (Z : Zt) : Zt := if Z.nm = 0 then Z else (Z.S.put (ix (Z.Mo (Z.nm - 1) 0)) (Z.Mo (Z.nm - 1) 1) (Z.Mo (Z.nm - 1) 2), Z.2.1, (Z.nm - 1, Z.Mo))
theorem Bz_undo {Z : Zt} (bz : Bz Z) : Bz (undoZ Z) := by
  unfold undoZ
  by_cases c : Z.nm = 0
  · rw [if_pos c]; exact bz
  · rw [if_neg c]
    have h15 := bz.1.2.2.2.1
    have h40 := bz.2.2.1
    obtain ⟨v, a, b, hv, ha, hb, e0, e1, e2⟩ := bz.2.2.2 (Z.nm - 1) (by omega)
    rw [e0, e1, e2, ix_nI (by omega)]
    refine ⟨Bd_put bz.1 v ha hb, bz.2.1, by show Z.nm - 1 ≤ 40; omega, fun q hq => ?_⟩
    have hq' : q < Z.nm - 1 := hq
    exact bz.2.2.2 q (by omega)
theorem putsX_kind (h : AH) (x d : Nat) (a b : Int32) : (h.putsX x d a b).kind = h.kind := rfl
theorem ox_undo {n : Nat} {K : Nat → Nat} {x : Nat} {h : AH} {Z : Zt} (hn : 20000 < n) (bz : Bz Z) (I : InvX K x h Z) : XOk K x 0 0 (undoZ Z) (undoS Z) (F_X0_undo n K x h) h := by
  have I0 := I
  obtain ⟨e, c, E, bb, I1⟩ := I0
  have MS := I1.2.1
  have i3 := I1.2.2.1
  have X := I1.2.2.2.2.1
  have i8 := I1.2.2.2.2.2.2.2.1
  have i10 := I1.2.2.2.2.2.2.2.2.2.1
  have h15 := xnv hn X
  have h40 := bz.2.2.1
  have l4 : Ls K h (x + 7) (e 4) (c 4) (E 4) := (i3.1 4 (by omega)).1
  rw [i8] at l4
  unfold undoZ undoS
  by_cases c0 : Z.nm = 0
  · rw [if_pos c0, if_pos c0]
    refine xok_same I ?_
    have t : (Z.nm = 0) = True := eq_true c0
    simp only [F_X0_undo, chk_true, bnd_some, ob_some, oc_some, oc_none, hl_eq, jn_eq, ix_0, ix_1, if_true, if_false, inb0_2, inb1_2, not_true_eq_false, not_false_eq_true, ite_true, ite_false, true_or, or_true, or_self, zero_eq_one_I, one_eq_zero_I, xs_k0, xs_k1, xs_n1, xs_k2, xs_k3, xs_k4, xs_k5, xs_k6, xs_k7, xs_k8, xs_k9, xs_k10, xs_k11, xs_n11, xs_k12, xs_n12, xs_k13, xs_n13, xs_k14, xs_n14, xs_k15, xs_n15, xs_k16, xs_n16, xs_k17, xs_n17, xs_k18, xs_n18, xs_k27, xs_n27, xs_k28, xs_n28, xs_r0_0, xs_r0_1, xs_r2_8, xs_r2_9, xs_r0_2, xs_r0_3, xs_r0_4, xs_r0_8, xs_r0_9, xs_r0_10, xs_r0_18, xs_r0_19, xs_r0_20, xs_r0_21, xs_r0_22, xs_r0_25, xs_r0_26, xs_r0_27, xs_r0_28, X.1, l_isEmpty l4, t]
  · rw [if_neg c0, if_neg c0]
    obtain ⟨k, hk⟩ : ∃ k, Z.nm = k + 1 := ⟨Z.nm - 1, by omega⟩
    have ek : Z.nm - 1 = k := by omega
    rw [ek]
    obtain ⟨v, a, b, hv, ha, hb, e0, e1, e2⟩ := bz.2.2.2 k (by omega)
    rw [e0, e1, e2, ix_nI (by omega)]
    obtain ⟨c', h1, q1, q2, q3, q4, q5⟩ := XIn_pop (n := n) I1 h40 hk
    obtain ⟨g0, g1, g2, g3, _⟩ := i10 k (by omega)
    have X1 : XA K x h1 (e 2) (E 2) (e 3) (E 3) bb Z.S := q2.2.2.2.2.1
    have kv := x_vkind hn X1 hv
    have kk : h1.kind (E 4 k) = 14 := by rw [q4]; exact g0
    have IC := XIn_puts (Z := (Z.1, Z.2.1, (k, Z.Mo))) q2 hv (nI a) (nI b)
    have w0 : h1.I (E 4 k) 0 = nI v := by rw [q5, g1]; exact e0
    have w1 : h1.I (E 4 k) 1 = nI a := by rw [q5, g2]; exact e1
    have w2 : h1.I (E 4 k) 2 = nI b := by rw [q5, g3]; exact e2
    have w3 : (h1.putsX x (E 2 v) (nI a) (nI b)).I (E 4 k) 0 = nI v := by
      have nx : E 4 k ≠ x := by intro z; have := xs_k0 X1.1; rw [← z] at this; omega
      have nv : E 4 k ≠ E 2 v := by intro z; rw [← z] at kv; omega
      have ft := ((putsX_fr (x := x) (d := E 2 v) h1 (nI a) (nI b)).2.2.2.2.2 (E 4 k) (by omega)).2.2 0 (fun z => by
        rcases z with ⟨z, _⟩ | ⟨z, _⟩
        · exact nv z
        · exact nx z)
      rw [ft.1]
      exact w0
    refine ⟨h1.putsX x (E 2 v) (nI a) (nI b), ?_, ⟨e, c', E, bb, IC⟩, ?_⟩
    · rw [hk] at l4
      have t : (k + 1 = 0) = False := eq_false (by omega)
      have hx1 := xs_k0 X1.1
      simp only [F_X0_undo, chk_true, bnd_some, ob_some, oc_some, oc_none, hl_eq, jn_eq, ix_0, ix_1, if_true, if_false, inb0_2, inb1_2, not_true_eq_false, not_false_eq_true, ite_true, ite_false, true_or, or_true, or_self, zero_eq_one_I, one_eq_zero_I, xs_k0, xs_k1, xs_n1, xs_k2, xs_k3, xs_k4, xs_k5, xs_k6, xs_k7, xs_k8, xs_k9, xs_k10, xs_k11, xs_n11, xs_k12, xs_n12, xs_k13, xs_n13, xs_k14, xs_n14, xs_k15, xs_n15, xs_k16, xs_n16, xs_k17, xs_n17, xs_k18, xs_n18, xs_k27, xs_n27, xs_k28, xs_n28, xs_r0_0, xs_r0_1, xs_r2_8, xs_r2_9, xs_r0_2, xs_r0_3, xs_r0_4, xs_r0_8, xs_r0_9, xs_r0_10, xs_r0_18, xs_r0_19, xs_r0_20, xs_r0_21, xs_r0_22, xs_r0_25, xs_r0_26, xs_r0_27, xs_r0_28, X.1, l_isEmpty l4, t, l_size l4, nI_pred, q1, kk, hx1, w0, w1, w2, x_puts hn X1 hv, putsX_kind, w3]
    · have F1 := putsX_fr (x := x) (d := E 2 v) h1 (nI a) (nI b)
      have MS1 := q2.2.1
      have out : ∀ d q, (d = E 2 v ∧ (q = 3 ∨ q = 4)) ∨ (d = x ∧ 11 ≤ q ∧ q ≤ 13) → ¬ RgM (x + 29) d := by
        rintro d q (⟨z, _⟩ | ⟨z, _⟩) w
        · have := mKs_kind MS1 w; rw [z] at this; omega
        · have := w.1; omega
      exact Fr_mono (Fr_trans (W := fun a _ => ¬ RgM (x + 29) a) q3 F1 (fun _ _ _ z => z) (fun d q _ z => out d q z)) (by omega) (by omega) (fun _ _ _ z => z)
theorem om_undo {n : Nat} {K : Nat → Nat} {m : Nat} {h : AH} {Z : Zt} (hn : 20000 < n) (bz : Bz Z) (I : InvM m h Z) : MOk m (undoZ Z) (undoS Z) (F_X3_undo n K m h) h := by
  have M := I.1
  have h15 := mnv hn M
  have h40 := bz.2.2.1
  have h48 : h.I m 48 = nI Z.nm := I.2.1.1
  have z48 : (nI Z.nm = 0) = (Z.nm = 0) := by rw [← nI_0]; exact propext (nI_eq (by omega) (by omega))
  unfold undoZ undoS
  by_cases c0 : Z.nm = 0
  · rw [if_pos c0, if_pos c0]
    refine mok_same bz I ?_
    have t : (Z.nm = 0) = True := eq_true c0
    simp only [F_X3_undo, chk_true, bnd_some, ob_some, oc_some, oc_none, hl_eq, jn_eq, ix_0, ix_1, if_true, if_false, inb0_2, inb1_2, not_true_eq_false, not_false_eq_true, ite_true, ite_false, true_or, or_true, or_self, zero_eq_one_I, one_eq_zero_I, ms_k0, ms_k1, ms_n1, ms_k2, ms_n2, ms_k3, ms_n3, ms_k4, ms_n4, ms_k5, ms_n5, ms_k6, ms_n6, ms_k7, ms_n7, ms_k8, ms_n8, ms_k9, ms_n9, ms_k10, ms_n10, ms_k11, ms_n11, ms_k12, ms_n12, ms_k13, ms_n13, ms_k14, ms_n14, ms_k15, ms_n15, ms_k16, ms_n16, ms_k17, ms_n17, ms_k18, ms_n18, ms_k19, ms_n19, ms_k20, ms_n20, ms_k21, ms_n21, ms_k22, ms_n22, ms_k23, ms_n23, ms_k24, ms_n24, ms_k25, ms_n25, ms_k26, ms_n26, ms_k27, ms_n27, ms_k28, ms_n28, ms_k29, ms_n29, ms_k30, ms_n30, ms_k31, ms_n31, ms_k32, ms_n32, ms_k33, ms_n33, ms_k34, ms_n34, ms_k35, ms_n35, ms_k36, ms_n36, ms_k37, ms_n37, ms_k38, ms_n38, ms_k39, ms_n39, ms_k40, ms_n40, ms_k41, ms_n41, ms_k50, ms_n50, ms_k51, ms_n51, ms_k52, ms_n52, ms_k53, ms_n53, ms_r0_0, ms_r0_6, ms_r2_0, ms_r2_1, ms_r0_7, ms_r5_0, ms_r5_1, ms_r0_8, ms_r8_0, ms_r8_1, ms_r0_9, ms_r11_0, ms_r11_1, ms_r0_10, ms_r14_0, ms_r14_1, ms_r0_11, ms_r17_0, ms_r17_1, ms_r0_12, ms_r20_0, ms_r20_1, ms_r0_13, ms_r23_0, ms_r23_1, ms_r0_14, ms_r0_15, ms_r0_16, ms_r0_17, ms_r0_18, ms_r0_23, ms_r0_24, ms_r0_25, ms_r0_26, ms_r0_30, ms_r0_31, ms_r0_32, ms_r0_35, ms_r0_36, ms_r0_39, ms_r0_40, ms_r0_41, ms_r0_42, ms_r0_43, ms_r0_47, M.1, h48, z48, t]
  · rw [if_neg c0, if_neg c0]
    obtain ⟨k, hk⟩ : ∃ k, Z.nm = k + 1 := ⟨Z.nm - 1, by omega⟩
    have ek : Z.nm - 1 = k := by omega
    rw [ek]
    obtain ⟨v, a, b, hv, ha, hb, e0, e1, e2⟩ := bz.2.2.2 k (by omega)
    rw [e0, e1, e2, ix_nI (by omega)]
    have w0 : h.I (m + 54 + k) 0 = nI v := by rw [I.2.1.2 k (by omega) 0 (by omega)]; exact e0
    have w1 : h.I (m + 54 + k) 1 = nI a := by rw [I.2.1.2 k (by omega) 1 (by omega)]; exact e1
    have w2 : h.I (m + 54 + k) 2 = nI b := by rw [I.2.1.2 k (by omega) 2 (by omega)]; exact e2
    obtain ⟨r1, r2, r3⟩ := ms_kept M.1 (show k < 40 by omega)
    have k53 := ms_k53 M.1
    have n53 := ms_n53 M.1
    have t1 : ix (nI k) = k := ix_nI (by omega)
    have t2 : inb (nI k) 40 = True := eq_true ((inb_nI (by omega)).2 (by omega))
    have t3 : ix (nI v) = v := ix_nI (by omega)
    have t4 : inb (nI v) 15 = True := eq_true ((inb_nI (by omega)).2 (by omega))
    have t5 : (k + 1 = 0) = False := eq_false (by omega)
    have s48 : (h.setI m 48 (nI k)).I m 48 = nI k := by rw [AH.I_setI, if_pos ⟨rfl, rfl⟩]
    have s0 : (h.setI m 48 (nI k)).I (m + 54 + k) 0 = nI v := by rw [AH.I_setI, if_neg (by omega)]; exact w0
    have s1 : (h.setI m 48 (nI k)).I (m + 54 + k) 1 = nI a := by rw [AH.I_setI, if_neg (by omega)]; exact w1
    have u48 : ((h.setI m 48 (nI k)).setI (m + 3) v (nI a)).I m 48 = nI k := by rw [AH.I_setI, if_neg (by omega)]; exact s48
    have u2 : ((h.setI m 48 (nI k)).setI (m + 3) v (nI a)).I (m + 54 + k) 2 = nI b := by rw [AH.I_setI, if_neg (by omega), AH.I_setI, if_neg (by omega)]; exact w2
    refine ⟨(((h.setI m 48 (nI k)).setI (m + 3) v (nI a)).setI (m + 6) v (nI b)).setI m 29 0, ?_, ?_, ?_⟩
    · rw [hk] at h48 z48
      simp only [F_X3_undo, chk_true, bnd_some, ob_some, oc_some, oc_none, hl_eq, jn_eq, ix_0, ix_1, if_true, if_false, inb0_2, inb1_2, not_true_eq_false, not_false_eq_true, ite_true, ite_false, true_or, or_true, or_self, zero_eq_one_I, one_eq_zero_I, AH.n_setI, AH.n_setL, AH.n_setR, AH.sl_setI, AH.sl_setL, AH.sl_setR, AH.kind_setI, AH.kind_setL, AH.kind_setR, AH.len_setI, AH.len_setL, AH.len_setR, AH.I_setL, AH.I_setR, AH.L_setI, AH.L_setR, AH.R_setI, AH.R_setL, ms_k0, ms_k1, ms_n1, ms_k2, ms_n2, ms_k3, ms_n3, ms_k4, ms_n4, ms_k5, ms_n5, ms_k6, ms_n6, ms_k7, ms_n7, ms_k8, ms_n8, ms_k9, ms_n9, ms_k10, ms_n10, ms_k11, ms_n11, ms_k12, ms_n12, ms_k13, ms_n13, ms_k14, ms_n14, ms_k15, ms_n15, ms_k16, ms_n16, ms_k17, ms_n17, ms_k18, ms_n18, ms_k19, ms_n19, ms_k20, ms_n20, ms_k21, ms_n21, ms_k22, ms_n22, ms_k23, ms_n23, ms_k24, ms_n24, ms_k25, ms_n25, ms_k26, ms_n26, ms_k27, ms_n27, ms_k28, ms_n28, ms_k29, ms_n29, ms_k30, ms_n30, ms_k31, ms_n31, ms_k32, ms_n32, ms_k33, ms_n33, ms_k34, ms_n34, ms_k35, ms_n35, ms_k36, ms_n36, ms_k37, ms_n37, ms_k38, ms_n38, ms_k39, ms_n39, ms_k40, ms_n40, ms_k41, ms_n41, ms_k50, ms_n50, ms_k51, ms_n51, ms_k52, ms_n52, ms_k53, ms_n53, ms_r0_0, ms_r0_6, ms_r2_0, ms_r2_1, ms_r0_7, ms_r5_0, ms_r5_1, ms_r0_8, ms_r8_0, ms_r8_1, ms_r0_9, ms_r11_0, ms_r11_1, ms_r0_10, ms_r14_0, ms_r14_1, ms_r0_11, ms_r17_0, ms_r17_1, ms_r0_12, ms_r20_0, ms_r20_1, ms_r0_13, ms_r23_0, ms_r23_1, ms_r0_14, ms_r0_15, ms_r0_16, ms_r0_17, ms_r0_18, ms_r0_23, ms_r0_24, ms_r0_25, ms_r0_26, ms_r0_30, ms_r0_31, ms_r0_32, ms_r0_35, ms_r0_36, ms_r0_39, ms_r0_40, ms_r0_41, ms_r0_42, ms_r0_43, ms_r0_47, M.1, h48, z48, t5, nI_pred, s48, k53, n53, t1, t2, r1, r2, r3, ib90, ib91, ib92, s0, s1, t3, t4, u48, ixl2, u2]
    · refine InvM_mv (S := Z.S) (tx := Z.2.1) (nm := Z.nm) (Mo := Z.Mo) (S' := Z.S.put v (nI a) (nI b)) I (hp := (h.setI (m + 3) v (nI a)).setI (m + 6) v (nI b)) rfl rfl rfl (fun i i3 i6 => ?_) (MA_put M v (nI a) (nI b)) rfl rfl rfl (fun i i0 i1 => ?_) (fun j j48 j29 => ?_) ?_ ?_ (fun q hq j hj => ?_)
      · exact setM_ne (by omega) (by omega) v (nI a) (nI b)
      · funext j
        rw [AH.I_setI, if_neg (by omega), AH.I_setI, AH.I_setI, AH.I_setI, AH.I_setI, AH.I_setI, if_neg (show ¬ (m + i = m ∧ j = 48) by omega)]
      · rw [AH.I_setI, if_neg (by omega), AH.I_setI, if_neg (by omega), AH.I_setI, if_neg (by omega), AH.I_setI, if_neg (by omega), AH.I_setI, if_neg (by omega), AH.I_setI, if_neg (by omega)]
      · rw [AH.I_setI, if_neg (by omega), AH.I_setI, if_neg (by omega), AH.I_setI, if_neg (by omega), AH.I_setI, if_pos ⟨rfl, rfl⟩]
      · rw [AH.I_setI, if_pos ⟨rfl, rfl⟩]
      · rw [AH.I_setI, if_neg (by omega), AH.I_setI, if_neg (by omega), AH.I_setI, if_neg (by omega), AH.I_setI, if_neg (by omega)]
        exact I.2.1.2 q (by omega) j hj
    · refine Fr_of rfl rfl rfl rfl rfl (fun d j z => ?_)
      have h1 : ∀ p, p ∈ mRs → p.1 ≠ 3 ∧ p.1 ≠ 6 ∧ (p.1 = 0 → p.2.1 ≠ 48 ∧ p.2.1 ≠ 29) := by decide
      have d2 : ¬ (d = m ∧ j = 29) := fun w => z ⟨⟨⟨by omega, by omega⟩, fun p hp y => by have := h1 p hp; omega⟩, by omega⟩
      have d3 : ¬ (d = m ∧ j = 48) := fun w => z ⟨⟨⟨by omega, by omega⟩, fun p hp y => by have := h1 p hp; omega⟩, by omega⟩
      have d4 : ¬ (d = m + 6 ∧ j = v) := fun w => z ⟨⟨⟨by omega, by omega⟩, fun p hp y => by have := h1 p hp; omega⟩, by omega⟩
      have d5 : ¬ (d = m + 3 ∧ j = v) := fun w => z ⟨⟨⟨by omega, by omega⟩, fun p hp y => by have := h1 p hp; omega⟩, by omega⟩
      rw [AH.I_setI, if_neg d2, AH.I_setI, if_neg d4, AH.I_setI, if_neg d5, AH.I_setI, if_neg d3]
