/-! PURE PART ST: the model reads all: fault -/
set_option maxRecDepth 100000
def GoM (K : Nat → Nat) (m : Nat) (Z : Zt) (h0 : AH) (r : Nat ⊕ PSt) (h : AH) : Prop := match r with
  | .inl p => FM K m Z h0 p h
  | .inr P => BM K m Z h0 h ∧ h.I m 4 = -1 ∧ QRm m h.I P
theorem m_readsL {n : Nat} {K : Nat → Nat} {m : Nat} {Z : Zt} {h0 : AH} (hn : 20000 < n) : ∀ f fuel P t h, RM K m Z h0 P t h → Z.tm - t.1 < f → f < fuel → ∃ h', F_X3_reads_L71 n K m fuel 1 h = some ((), h') ∧ GoM K m Z h0 (goP false Z.T Z.tm f P t) h' := by
  intro f
  induction f with
  | zero => intro fuel P t h R h1 h2; omega
  | succ f ih =>
    intro fuel P t h R h1 h2
    obtain ⟨g, rfl⟩ : ∃ g, fuel = g + 1 := ⟨fuel - 1, by omega⟩
    have B := R.1.1
    have H := BM_rd B
    have h6 := H.2.2
    have r2 := R.1.2.2.1
    have tk := R.1.2.2.2.2.1
    have t1 := tk.1
    have t2 := tk.2.1
    have n15 := R.2.2.1.2.1
    rw [goP_s]
    by_cases c : t.1 = Z.tm
    · rw [if_pos c]
      have e : (nI Z.tm ≤ nI t.1) = True := by rw [c]; exact eq_true (nI_le (Nat.le_refl _) (by omega))
      have z0 : (nI P.1.nv = 0) = (P.1.nv = 0) := by rw [← nI_0]; exact propext (nI_eq (by omega) (by omega))
      by_cases z : P.1.nv = 0
      · rw [if_pos z]
        have z' : (P.1.nv = 0) = True := eq_true z
        refine ⟨h.setI m 4 (nI Z.tm), ?_, BM_set B _ (Or.inl ⟨rfl, by omega⟩), setI_I _ _ _ _, Nat.le_refl _⟩
        simp only [F_X3_reads_L71, chk_true, bnd_some, ob_some, oc_some, oc_none, hl_eq, jn_eq, ix_0, ix_1, if_true, if_false, inb0_2, inb1_2, not_true_eq_false, not_false_eq_true, ite_true, ite_false, true_or, or_true, or_self, zero_eq_one_I, one_eq_zero_I, ms_k0, ms_k1, ms_n1, ms_k2, ms_n2, ms_k3, ms_n3, ms_k4, ms_n4, ms_k5, ms_n5, ms_k6, ms_n6, ms_k7, ms_n7, ms_k8, ms_n8, ms_k9, ms_n9, ms_k10, ms_n10, ms_k11, ms_n11, ms_k12, ms_n12, ms_k13, ms_n13, ms_k14, ms_n14, ms_k15, ms_n15, ms_k16, ms_n16, ms_k17, ms_n17, ms_k18, ms_n18, ms_k19, ms_n19, ms_k20, ms_n20, ms_k21, ms_n21, ms_k22, ms_n22, ms_k23, ms_n23, ms_k24, ms_n24, ms_k25, ms_n25, ms_k26, ms_n26, ms_k27, ms_n27, ms_k28, ms_n28, ms_k29, ms_n29, ms_k30, ms_n30, ms_k31, ms_n31, ms_k32, ms_n32, ms_k33, ms_n33, ms_k34, ms_n34, ms_k35, ms_n35, ms_k36, ms_n36, ms_k37, ms_n37, ms_k38, ms_n38, ms_k39, ms_n39, ms_k40, ms_n40, ms_k41, ms_n41, ms_k50, ms_n50, ms_k51, ms_n51, ms_k52, ms_n52, ms_k53, ms_n53, ms_r0_0, ms_r0_6, ms_r2_0, ms_r2_1, ms_r0_7, ms_r5_0, ms_r5_1, ms_r0_8, ms_r8_0, ms_r8_1, ms_r0_9, ms_r11_0, ms_r11_1, ms_r0_10, ms_r14_0, ms_r14_1, ms_r0_11, ms_r17_0, ms_r17_1, ms_r0_12, ms_r20_0, ms_r20_1, ms_r0_13, ms_r23_0, ms_r23_1, ms_r0_14, ms_r0_15, ms_r0_16, ms_r0_17, ms_r0_18, ms_r0_23, ms_r0_24, ms_r0_25, ms_r0_26, ms_r0_30, ms_r0_31, ms_r0_32, ms_r0_35, ms_r0_36, ms_r0_39, ms_r0_40, ms_r0_41, ms_r0_42, ms_r0_43, ms_r0_47, H.1, H.2.1.1, r2, e, R.2.2.1.1, z0, z']
      · rw [if_neg z]
        have z' : (P.1.nv = 0) = False := eq_false z
        refine ⟨h, ?_, B, R.1.2.1, R.2⟩
        simp only [F_X3_reads_L71, chk_true, bnd_some, ob_some, oc_some, oc_none, hl_eq, jn_eq, ix_0, ix_1, if_true, if_false, inb0_2, inb1_2, not_true_eq_false, not_false_eq_true, ite_true, ite_false, true_or, or_true, or_self, zero_eq_one_I, one_eq_zero_I, ms_k0, ms_k1, ms_n1, ms_k2, ms_n2, ms_k3, ms_n3, ms_k4, ms_n4, ms_k5, ms_n5, ms_k6, ms_n6, ms_k7, ms_n7, ms_k8, ms_n8, ms_k9, ms_n9, ms_k10, ms_n10, ms_k11, ms_n11, ms_k12, ms_n12, ms_k13, ms_n13, ms_k14, ms_n14, ms_k15, ms_n15, ms_k16, ms_n16, ms_k17, ms_n17, ms_k18, ms_n18, ms_k19, ms_n19, ms_k20, ms_n20, ms_k21, ms_n21, ms_k22, ms_n22, ms_k23, ms_n23, ms_k24, ms_n24, ms_k25, ms_n25, ms_k26, ms_n26, ms_k27, ms_n27, ms_k28, ms_n28, ms_k29, ms_n29, ms_k30, ms_n30, ms_k31, ms_n31, ms_k32, ms_n32, ms_k33, ms_n33, ms_k34, ms_n34, ms_k35, ms_n35, ms_k36, ms_n36, ms_k37, ms_n37, ms_k38, ms_n38, ms_k39, ms_n39, ms_k40, ms_n40, ms_k41, ms_n41, ms_k50, ms_n50, ms_k51, ms_n51, ms_k52, ms_n52, ms_k53, ms_n53, ms_r0_0, ms_r0_6, ms_r2_0, ms_r2_1, ms_r0_7, ms_r5_0, ms_r5_1, ms_r0_8, ms_r8_0, ms_r8_1, ms_r0_9, ms_r11_0, ms_r11_1, ms_r0_10, ms_r14_0, ms_r14_1, ms_r0_11, ms_r17_0, ms_r17_1, ms_r0_12, ms_r20_0, ms_r20_1, ms_r0_13, ms_r23_0, ms_r23_1, ms_r0_14, ms_r0_15, ms_r0_16, ms_r0_17, ms_r0_18, ms_r0_23, ms_r0_24, ms_r0_25, ms_r0_26, ms_r0_30, ms_r0_31, ms_r0_32, ms_r0_35, ms_r0_36, ms_r0_39, ms_r0_40, ms_r0_41, ms_r0_42, ms_r0_43, ms_r0_47, H.1, H.2.1.1, r2, e, R.2.2.1.1, z0, z']
    · rw [if_neg c]
      have lt := tk.2.2 (by omega)
      have e : (nI Z.tm ≤ nI t.1) = False := eq_false (nI_ge (by omega) (by omega))
      have told := m_told (n := n) hn R
      have pr := pr_tell (c := false) (T := Z.T) (P := P) tk
      cases hq : tellP false Z.T Z.tm P t with
      | inl p =>
        rw [hq] at told
        obtain ⟨h', e', q⟩ := told
        obtain ⟨g', rfl⟩ : ∃ g', g = g' + 1 := ⟨g - 1, by omega⟩
        refine ⟨h', ?_, q⟩
        simp only [F_X3_reads_L71, chk_true, bnd_some, ob_some, oc_some, oc_none, hl_eq, jn_eq, ix_0, ix_1, if_true, if_false, inb0_2, inb1_2, not_true_eq_false, not_false_eq_true, ite_true, ite_false, true_or, or_true, or_self, zero_eq_one_I, one_eq_zero_I, ms_k0, ms_k1, ms_n1, ms_k2, ms_n2, ms_k3, ms_n3, ms_k4, ms_n4, ms_k5, ms_n5, ms_k6, ms_n6, ms_k7, ms_n7, ms_k8, ms_n8, ms_k9, ms_n9, ms_k10, ms_n10, ms_k11, ms_n11, ms_k12, ms_n12, ms_k13, ms_n13, ms_k14, ms_n14, ms_k15, ms_n15, ms_k16, ms_n16, ms_k17, ms_n17, ms_k18, ms_n18, ms_k19, ms_n19, ms_k20, ms_n20, ms_k21, ms_n21, ms_k22, ms_n22, ms_k23, ms_n23, ms_k24, ms_n24, ms_k25, ms_n25, ms_k26, ms_n26, ms_k27, ms_n27, ms_k28, ms_n28, ms_k29, ms_n29, ms_k30, ms_n30, ms_k31, ms_n31, ms_k32, ms_n32, ms_k33, ms_n33, ms_k34, ms_n34, ms_k35, ms_n35, ms_k36, ms_n36, ms_k37, ms_n37, ms_k38, ms_n38, ms_k39, ms_n39, ms_k40, ms_n40, ms_k41, ms_n41, ms_k50, ms_n50, ms_k51, ms_n51, ms_k52, ms_n52, ms_k53, ms_n53, ms_r0_0, ms_r0_6, ms_r2_0, ms_r2_1, ms_r0_7, ms_r5_0, ms_r5_1, ms_r0_8, ms_r8_0, ms_r8_1, ms_r0_9, ms_r11_0, ms_r11_1, ms_r0_10, ms_r14_0, ms_r14_1, ms_r0_11, ms_r17_0, ms_r17_1, ms_r0_12, ms_r20_0, ms_r20_1, ms_r0_13, ms_r23_0, ms_r23_1, ms_r0_14, ms_r0_15, ms_r0_16, ms_r0_17, ms_r0_18, ms_r0_23, ms_r0_24, ms_r0_25, ms_r0_26, ms_r0_30, ms_r0_31, ms_r0_32, ms_r0_35, ms_r0_36, ms_r0_39, ms_r0_40, ms_r0_41, ms_r0_42, ms_r0_43, ms_r0_47, H.1, H.2.1.1, r2, e, e']
      | inr w =>
        obtain ⟨P', u⟩ := w
        rw [hq] at told
        obtain ⟨h', e', q⟩ := told
        have pu := pr P' u hq
        have u1 := pu.1.1
        have u2 := pu.1.2.1
        obtain ⟨h'', e'', q''⟩ := ih g P' u h' q (by omega) (by omega)
        refine ⟨h'', ?_, q''⟩
        simp only [F_X3_reads_L71, chk_true, bnd_some, ob_some, oc_some, oc_none, hl_eq, jn_eq, ix_0, ix_1, if_true, if_false, inb0_2, inb1_2, not_true_eq_false, not_false_eq_true, ite_true, ite_false, true_or, or_true, or_self, zero_eq_one_I, one_eq_zero_I, ms_k0, ms_k1, ms_n1, ms_k2, ms_n2, ms_k3, ms_n3, ms_k4, ms_n4, ms_k5, ms_n5, ms_k6, ms_n6, ms_k7, ms_n7, ms_k8, ms_n8, ms_k9, ms_n9, ms_k10, ms_n10, ms_k11, ms_n11, ms_k12, ms_n12, ms_k13, ms_n13, ms_k14, ms_n14, ms_k15, ms_n15, ms_k16, ms_n16, ms_k17, ms_n17, ms_k18, ms_n18, ms_k19, ms_n19, ms_k20, ms_n20, ms_k21, ms_n21, ms_k22, ms_n22, ms_k23, ms_n23, ms_k24, ms_n24, ms_k25, ms_n25, ms_k26, ms_n26, ms_k27, ms_n27, ms_k28, ms_n28, ms_k29, ms_n29, ms_k30, ms_n30, ms_k31, ms_n31, ms_k32, ms_n32, ms_k33, ms_n33, ms_k34, ms_n34, ms_k35, ms_n35, ms_k36, ms_n36, ms_k37, ms_n37, ms_k38, ms_n38, ms_k39, ms_n39, ms_k40, ms_n40, ms_k41, ms_n41, ms_k50, ms_n50, ms_k51, ms_n51, ms_k52, ms_n52, ms_k53, ms_n53, ms_r0_0, ms_r0_6, ms_r2_0, ms_r2_1, ms_r0_7, ms_r5_0, ms_r5_1, ms_r0_8, ms_r8_0, ms_r8_1, ms_r0_9, ms_r11_0, ms_r11_1, ms_r0_10, ms_r14_0, ms_r14_1, ms_r0_11, ms_r17_0, ms_r17_1, ms_r0_12, ms_r20_0, ms_r20_1, ms_r0_13, ms_r23_0, ms_r23_1, ms_r0_14, ms_r0_15, ms_r0_16, ms_r0_17, ms_r0_18, ms_r0_23, ms_r0_24, ms_r0_25, ms_r0_26, ms_r0_30, ms_r0_31, ms_r0_32, ms_r0_35, ms_r0_36, ms_r0_39, ms_r0_40, ms_r0_41, ms_r0_42, ms_r0_43, ms_r0_47, H.1, H.2.1.1, r2, e, e']
        exact e''
theorem m_reads {n : Nat} {K : Nat → Nat} {m : Nat} {Z : Zt} {h0 h : AH} (hn : 20000 < n) (B : BM K m Z h0 h) : ∃ h', F_X3_reads n K m h = some ((), h') ∧ GoM K m Z h0 (textP Z.T Z.tm) h' := by
  have S0 := (BM_rd B).1
  have h6 := (BM_rd B).2.2
  have B1 : BM K m Z h0 (((((((((((h.setI m 4 (-1)).setI (m + 26) 1 0).setI (m + 27) 1 0).setI (m + 28) 1 0).setI (m + 29) 1 1).setI (m + 30) 1 2).setI m 19 0).setI m 20 1).setI m 21 1).setI m 22 0).setI m 2 0) := by
    refine BM_set (BM_set (BM_set (BM_set (BM_set (BM_set (BM_set (BM_set (BM_set (BM_set (BM_set B _ ?_) _ ?_) _ ?_) _ ?_) _ ?_) _ ?_) _ ?_) _ ?_) _ ?_) _ ?_) _ ?_
    · exact Or.inl ⟨rfl, by omega⟩
    · exact Or.inr (Or.inr ⟨by omega, rfl⟩)
    · exact Or.inr (Or.inr ⟨by omega, rfl⟩)
    · exact Or.inr (Or.inr ⟨by omega, rfl⟩)
    · exact Or.inr (Or.inr ⟨by omega, rfl⟩)
    · exact Or.inr (Or.inr ⟨by omega, rfl⟩)
    · exact Or.inl ⟨rfl, by omega⟩
    · exact Or.inl ⟨rfl, by omega⟩
    · exact Or.inl ⟨rfl, by omega⟩
    · exact Or.inl ⟨rfl, by omega⟩
    · exact Or.inl ⟨rfl, by omega⟩
  have i2 : (((((((((((h.setI m 4 (-1)).setI (m + 26) 1 0).setI (m + 27) 1 0).setI (m + 28) 1 0).setI (m + 29) 1 1).setI (m + 30) 1 2).setI m 19 0).setI m 20 1).setI m 21 1).setI m 22 0).setI m 2 0).I m 2 = nI 0 := setI_I _ _ _ _
  have i4 : (((((((((((h.setI m 4 (-1)).setI (m + 26) 1 0).setI (m + 27) 1 0).setI (m + 28) 1 0).setI (m + 29) 1 1).setI (m + 30) 1 2).setI m 19 0).setI m 20 1).setI m 21 1).setI m 22 0).setI m 2 0).I m 4 = -1 := by simp [AH.I_setI]
  have Q1 : QRm m (((((((((((h.setI m 4 (-1)).setI (m + 26) 1 0).setI (m + 27) 1 0).setI (m + 28) 1 0).setI (m + 29) 1 1).setI (m + 30) 1 2).setI m 19 0).setI m 20 1).setI m 21 1).setI m 22 0).setI m 2 0).I P0 := by
    refine ⟨⟨?_, ?_, ?_, ?_⟩, ⟨?_, by show (0 : Nat) ≤ 15; omega, fun v hv => absurd hv (Nat.not_lt_zero v)⟩, ⟨?_, by show (0 : Nat) ≤ 20; omega, fun v hv => absurd hv (Nat.not_lt_zero v)⟩, ?_, ?_, ?_⟩
    · simp [AH.I_setI]; rfl
    · simp [AH.I_setI]; rfl
    · simp [AH.I_setI]; rfl
    · simp [AH.I_setI]; rfl
    · simp [AH.I_setI]; rfl
    · simp [AH.I_setI]; rfl
    · simp [AH.I_setI]; rfl
    · simp [AH.I_setI]; rfl
    · simp [AH.I_setI]; rfl
  have ev : F_X3_reads n K m h = bnd (F_X3_skips n K m (((((((((((h.setI m 4 (-1)).setI (m + 26) 1 0).setI (m + 27) 1 0).setI (m + 28) 1 0).setI (m + 29) 1 1).setI (m + 30) 1 2).setI m 19 0).setI m 20 1).setI m 21 1).setI m 22 0).setI m 2 0)) fun _ h40 => F_X3_reads_L71 n K m n 1 h40 := by
    simp only [F_X3_reads, chk_true, bnd_some, ob_some, oc_some, oc_none, hl_eq, jn_eq, ix_0, ix_1, if_true, if_false, inb0_2, inb1_2, not_true_eq_false, not_false_eq_true, ite_true, ite_false, true_or, or_true, or_self, zero_eq_one_I, one_eq_zero_I, AH.n_setI, AH.n_setL, AH.n_setR, AH.sl_setI, AH.sl_setL, AH.sl_setR, AH.kind_setI, AH.kind_setL, AH.kind_setR, AH.len_setI, AH.len_setL, AH.len_setR, AH.I_setL, AH.I_setR, AH.L_setI, AH.L_setR, AH.R_setI, AH.R_setL, ms_k0, ms_k1, ms_n1, ms_k2, ms_n2, ms_k3, ms_n3, ms_k4, ms_n4, ms_k5, ms_n5, ms_k6, ms_n6, ms_k7, ms_n7, ms_k8, ms_n8, ms_k9, ms_n9, ms_k10, ms_n10, ms_k11, ms_n11, ms_k12, ms_n12, ms_k13, ms_n13, ms_k14, ms_n14, ms_k15, ms_n15, ms_k16, ms_n16, ms_k17, ms_n17, ms_k18, ms_n18, ms_k19, ms_n19, ms_k20, ms_n20, ms_k21, ms_n21, ms_k22, ms_n22, ms_k23, ms_n23, ms_k24, ms_n24, ms_k25, ms_n25, ms_k26, ms_n26, ms_k27, ms_n27, ms_k28, ms_n28, ms_k29, ms_n29, ms_k30, ms_n30, ms_k31, ms_n31, ms_k32, ms_n32, ms_k33, ms_n33, ms_k34, ms_n34, ms_k35, ms_n35, ms_k36, ms_n36, ms_k37, ms_n37, ms_k38, ms_n38, ms_k39, ms_n39, ms_k40, ms_n40, ms_k41, ms_n41, ms_k50, ms_n50, ms_k51, ms_n51, ms_k52, ms_n52, ms_k53, ms_n53, ms_r0_0, ms_r0_6, ms_r2_0, ms_r2_1, ms_r0_7, ms_r5_0, ms_r5_1, ms_r0_8, ms_r8_0, ms_r8_1, ms_r0_9, ms_r11_0, ms_r11_1, ms_r0_10, ms_r14_0, ms_r14_1, ms_r0_11, ms_r17_0, ms_r17_1, ms_r0_12, ms_r20_0, ms_r20_1, ms_r0_13, ms_r23_0, ms_r23_1, ms_r0_14, ms_r0_15, ms_r0_16, ms_r0_17, ms_r0_18, ms_r0_23, ms_r0_24, ms_r0_25, ms_r0_26, ms_r0_30, ms_r0_31, ms_r0_32, ms_r0_35, ms_r0_36, ms_r0_39, ms_r0_40, ms_r0_41, ms_r0_42, ms_r0_43, ms_r0_47, S0]
  rw [ev]
  generalize ((((((((((h.setI m 4 (-1)).setI (m + 26) 1 0).setI (m + 27) 1 0).setI (m + 28) 1 0).setI (m + 29) 1 1).setI (m + 30) 1 2).setI m 19 0).setI m 20 1).setI m 21 1).setI m 22 0).setI m 2 0 = h1 at B1 i2 i4 Q1 ⊢
  rw [m_skips hn (BM_rd B1) (p := 0) (Nat.zero_le _) i2, bnd_some]
  have tk := tk_ok (T := Z.T) (tm := Z.tm) (p := 0) (Nat.zero_le _)
  have t1 := tk.1.1
  have t2 := tk.1.2.1
  have R : RM K m Z h0 P0 (tkS Z.T Z.tm 0) ((h1.setI m 2 (nI (tkS Z.T Z.tm 0).1)).setI m 3 (nI (tkS Z.T Z.tm 0).2)) := by
    refine ⟨⟨BM_set (BM_set B1 _ (Or.inl ⟨rfl, by omega⟩)) _ (Or.inl ⟨rfl, by omega⟩), ?_, ?_, setI_I _ _ _ _, tk.1, 0, Nat.zero_le _, rfl⟩, QRm_kp Q1 (Kp_trans (Kp_set (by omega)) (Kp_set (by omega)))⟩
    · rw [setI_O (by omega), setI_O (by omega)]; exact i4
    · rw [setI_O (by omega)]; exact setI_I _ _ _ _
  exact m_readsL hn (Z.tm + 1) n P0 _ _ R (by omega) (by omega)
def faultS (Z : Zt) : Int32 := match textP Z.T Z.tm with
  | .inl p => nI p
  | .inr _ => -1
theorem om_fault {n : Nat} {K : Nat → Nat} {m : Nat} {h : AH} {Z : Zt} (hn : 20000 < n) (bz : Bz Z) (I : InvM m h Z) (C : CK K h) (R31 : ∀ j, j < 4 → h.R (m + 31) j = some (K (5 + j))) : MOk m Z (faultS Z) (F_X3_fault n K m h) h := by
  obtain ⟨h1, e, g⟩ := m_reads (n := n) (K := K) (h0 := h) (h := h) hn ⟨Fr_refl h, I, C, R31, bz.2.1, bz.2.2.1⟩
  have k0 := ms_k0 I.1.1
  have key : BM K m Z h h1 ∧ h1.I m 4 = faultS Z := by
    unfold faultS
    cases hq : textP Z.T Z.tm with
    | inl p => rw [hq] at g; exact ⟨g.1, g.2.1⟩
    | inr P => rw [hq] at g; exact ⟨g.1, g.2.1⟩
  refine ⟨h1, ?_, key.1.2.1, key.1.1⟩
  have k1 := ms_k0 key.1.2.1.1.1
  simp only [F_X3_fault, chk_true, bnd_some, ob_some, oc_some, oc_none, hl_eq, jn_eq, ix_0, ix_1, if_true, if_false, inb0_2, inb1_2, not_true_eq_false, not_false_eq_true, ite_true, ite_false, true_or, or_true, or_self, zero_eq_one_I, one_eq_zero_I, k0, e, k1, key.2]
