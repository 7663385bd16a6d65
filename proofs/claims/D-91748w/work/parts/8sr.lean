/-! PURE PART SR: the model's reading: stretch, voter, place, win -/
set_option maxRecDepth 100000
theorem m_stretch {n : Nat} {K : Nat → Nat} {m : Nat} {Z : Zt} {h0 h : AH} {t : Tk} {P : PSt} (hn : 20000 < n) (R : RM K m Z h0 P t h) : MO (F_X3_stretch n K m h) (strP false Z.T Z.tm P t) (FM K m Z h0) (fun P' u h' => RM K m Z h0 P' u h') := by
  have k0 := ms_k0 (BM_rd R.1.1).1
  unfold strP
  simp only [F_X3_stretch, chk_true, bnd_some, ob_some, oc_some, oc_none, hl_eq, jn_eq, ix_0, ix_1, if_true, if_false, inb0_2, inb1_2, not_true_eq_false, not_false_eq_true, ite_true, ite_false, true_or, or_true, or_self, zero_eq_one_I, one_eq_zero_I, k0]
  refine MO_bnd (m_num hn R.1 (by decide)) (fun p h' q => ⟨h', by simp only [chk_true, bnd_some, ob_some, oc_some, oc_none, hl_eq, jn_eq, ix_0, ix_1, if_true, if_false, inb0_2, inb1_2, not_true_eq_false, not_false_eq_true, ite_true, ite_false, true_or, or_true, or_self, zero_eq_one_I, one_eq_zero_I], q⟩) (fun a u1 h1 q1 => ?_)
  obtain ⟨R1, p1, v1⟩ := q1
  have k1 := ms_k0 (BM_rd R1.1).1
  simp only [chk_true, bnd_some, ob_some, oc_some, oc_none, hl_eq, jn_eq, ix_0, ix_1, if_true, if_false, inb0_2, inb1_2, not_true_eq_false, not_false_eq_true, ite_true, ite_false, true_or, or_true, or_self, zero_eq_one_I, one_eq_zero_I, k1]
  refine MO_bnd (m_num hn R1 (by decide)) (fun p h' q => ⟨h', by simp only [chk_true, bnd_some, ob_some, oc_some, oc_none, hl_eq, jn_eq, ix_0, ix_1, if_true, if_false, inb0_2, inb1_2, not_true_eq_false, not_false_eq_true, ite_true, ite_false, true_or, or_true, or_self, zero_eq_one_I, one_eq_zero_I], q⟩) (fun b u2 h2 q2 => ?_)
  obtain ⟨R2, p2, v2⟩ := q2
  have k2 := ms_k0 (BM_rd R2.1).1
  have v3 : (h2.setI m 20 a).I m 5 = b := by rw [setI_O (by omega)]; exact v2
  have R3 : TM K m Z h0 ((h2.setI m 20 a).setI m 21 b) u2 := TM_set (TM_set R2 _ (Or.inl ⟨rfl, by omega⟩) (by omega)) _ (Or.inl ⟨rfl, by omega⟩) (by omega)
  have Q2 := QRm_kp (QRm_kp R.2 p1) p2
  have Q3 : QRm m ((h2.setI m 20 a).setI m 21 b).I (P.1, (P.2.1, a, b, P.2.2.2.2)) :=
    QRm_0 Q2 (fun c j z => by rw [setI_O (by omega), setI_O (by omega)]) ⟨by rw [setI_O (by omega), setI_O (by omega)]; exact Q2.1.1, by rw [setI_O (by omega)]; exact setI_I _ _ _ _, setI_I _ _ _ _, by rw [setI_O (by omega), setI_O (by omega)]; exact Q2.1.2.2.2⟩
  simp only [chk_true, bnd_some, ob_some, oc_some, oc_none, hl_eq, jn_eq, ix_0, ix_1, if_true, if_false, inb0_2, inb1_2, not_true_eq_false, not_false_eq_true, ite_true, ite_false, true_or, or_true, or_self, zero_eq_one_I, one_eq_zero_I, k2, v1, v3, m_isSign R3, AH.kind_setI]
  exact MO_tail (m_semi hn ⟨R3, Q3⟩) (fun h' => by simp only [chk_true, bnd_some, ob_some, oc_some, oc_none, hl_eq, jn_eq, ix_0, ix_1, if_true, if_false, inb0_2, inb1_2, not_true_eq_false, not_false_eq_true, ite_true, ite_false, true_or, or_true, or_self, zero_eq_one_I, one_eq_zero_I]) (fun h' => by simp only [chk_true, bnd_some, ob_some, oc_some, oc_none, hl_eq, jn_eq, ix_0, ix_1, if_true, if_false, inb0_2, inb1_2, not_true_eq_false, not_false_eq_true, ite_true, ite_false, true_or, or_true, or_self, zero_eq_one_I, one_eq_zero_I])
/-! voters -/
def VR (m : Nat) (g : Nat → Nat → Int32) (c : Nat) (a b w k wi ta : Int32) : Prop := g (m + 4) c = a ∧ g (m + 7) c = b ∧ g (m + 10) c = w ∧ g (m + 13) c = k ∧ g (m + 16) c = wi ∧ g (m + 19) c = ta
theorem VR_kp {m c : Nat} {h h' : AH} {a b w k wi ta : Int32} (V : VR m h.I c a b w k wi ta) (p : Kp m h h') : VR m h'.I c a b w k wi ta := by
  unfold VR
  rw [p _ _ (by omega), p _ _ (by omega), p _ _ (by omega), p _ _ (by omega), p _ _ (by omega), p _ _ (by omega)]
  exact V
theorem QRm_push {m : Nat} {h : AH} {P : PSt} {a b w : Int32} (Q : QRm m h.I P) (hv : P.1.nv < 15) (V : VR m h.I P.1.nv a b w (nI P.2.1) P.2.2.1 P.2.2.2.1) : QRm m (h.setI (m + 26) 1 (nI (P.1.nv + 1))).I (P.1.pushV a b w P.2.1 P.2.2.1 P.2.2.2.1, P.2) := by
  obtain ⟨q1, ⟨b1, b2, b3⟩, c, d⟩ := Q
  have o : ∀ e j, ¬ (e = m + 26 ∧ j = 1) → (h.setI (m + 26) 1 (nI (P.1.nv + 1))).I e j = h.I e j := fun e j z => setI_O z
  have n' : St.nv (P.1.pushV a b w P.2.1 P.2.2.1 P.2.2.2.1) = P.1.nv + 1 := rfl
  have np' : St.np (P.1.pushV a b w P.2.1 P.2.2.1 P.2.2.2.1) = P.1.np := rfl
  refine ⟨?_, ⟨setI_I _ _ _ _, by show P.1.nv + 1 ≤ 15; omega, fun v hv' => ?_⟩, ?_, ?_⟩
  · rw [o _ _ (by omega), o _ _ (by omega), o _ _ (by omega), o _ _ (by omega)]; exact q1
  · rw [o _ _ (by omega), o _ _ (by omega), o _ _ (by omega), o _ _ (by omega), o _ _ (by omega), o _ _ (by omega)]
    have e : ∀ j, St.V (P.1.pushV a b w P.2.1 P.2.2.1 P.2.2.2.1) v j = if v = P.1.nv then (if j = 0 then a else if j = 1 then b else if j = 2 then w else if j = 3 then nI P.2.1 else if j = 4 then P.2.2.1 else P.2.2.2.1) else P.1.V v j := fun j => rfl
    show h.I (m + 4) v = St.V (P.1.pushV a b w P.2.1 P.2.2.1 P.2.2.2.1) v 0 ∧ h.I (m + 7) v = St.V (P.1.pushV a b w P.2.1 P.2.2.1 P.2.2.2.1) v 1 ∧ h.I (m + 10) v = St.V (P.1.pushV a b w P.2.1 P.2.2.1 P.2.2.2.1) v 2 ∧ h.I (m + 13) v = St.V (P.1.pushV a b w P.2.1 P.2.2.1 P.2.2.2.1) v 3 ∧ h.I (m + 16) v = St.V (P.1.pushV a b w P.2.1 P.2.2.1 P.2.2.2.1) v 4 ∧ h.I (m + 19) v = St.V (P.1.pushV a b w P.2.1 P.2.2.1 P.2.2.2.1) v 5
    rw [e, e, e, e, e, e]
    by_cases z : v = P.1.nv
    · rw [if_pos z, if_pos z, if_pos z, if_pos z, if_pos z, if_pos z, z]
      exact V
    · rw [if_neg z, if_neg z, if_neg z, if_neg z, if_neg z, if_neg z]
      have hv2 : v < P.1.nv + 1 := hv'
      exact b3 v (by omega)
  · have r : ∀ i, i ≠ 26 → (h.setI (m + 26) 1 (nI (P.1.nv + 1))).I (m + i) = h.I (m + i) := fun i hi => funext fun j => o _ _ (by omega)
    rw [o _ _ (by omega), r 22 (by omega), r 25 (by omega)]; exact c
  · rw [o _ _ (by omega), o _ _ (by omega), o _ _ (by omega)]; exact d
theorem MO_jn {β : Type} {α : Type} {k : α} {f : α → Option (Int32 × AH)} {sp : Rs β} {Fl : Nat → AH → Prop} {Ok : β → Tk → AH → Prop} (Pk : α → Prop) (hk : Pk k) (H : ∀ k, Pk k → MO (f k) sp Fl Ok) : MO (jn k f) sp Fl Ok := H k hk
theorem i12 {k : Nat} (h : k < 15) : ix (nI k) = k ∧ inb (nI k) 15 = True := ⟨ix_nI (by omega), eq_true ((inb_nI (by omega)).2 h)⟩
theorem m_voterRead {n : Nat} {K : Nat → Nat} {m : Nat} {Z : Zt} {h0 h : AH} {t : Tk} {P : PSt} (hn : 20000 < n) (hv : P.1.nv < 15) (R : RM K m Z h0 P t h) : MO (F_X3_voterRead n K m h) (votP false Z.T Z.tm P t) (FM K m Z h0) (fun P' u h' => RM K m Z h0 P' u h') := by
  have S0 := (BM_rd R.1.1).1
  have c0 : h.I (m + 26) 1 = nI P.1.nv := R.2.2.1.1
  obtain ⟨ex, eb⟩ := i12 hv
  unfold votP
  simp only [F_X3_voterRead, chk_true, bnd_some, ob_some, oc_some, oc_none, hl_eq, ix_0, ix_1, if_true, if_false, inb0_2, inb1_2, not_true_eq_false, not_false_eq_true, ite_true, ite_false, true_or, or_true, or_self, zero_eq_one_I, one_eq_zero_I, ms_k0, ms_k1, ms_n1, ms_k2, ms_n2, ms_k3, ms_n3, ms_k4, ms_n4, ms_k5, ms_n5, ms_k6, ms_n6, ms_k7, ms_n7, ms_k8, ms_n8, ms_k9, ms_n9, ms_k10, ms_n10, ms_k11, ms_n11, ms_k12, ms_n12, ms_k13, ms_n13, ms_k14, ms_n14, ms_k15, ms_n15, ms_k16, ms_n16, ms_k17, ms_n17, ms_k18, ms_n18, ms_k19, ms_n19, ms_k20, ms_n20, ms_k21, ms_n21, ms_k22, ms_n22, ms_k23, ms_n23, ms_k24, ms_n24, ms_k25, ms_n25, ms_k26, ms_n26, ms_k27, ms_n27, ms_k28, ms_n28, ms_k29, ms_n29, ms_k30, ms_n30, ms_k31, ms_n31, ms_k32, ms_n32, ms_k33, ms_n33, ms_k34, ms_n34, ms_k35, ms_n35, ms_k36, ms_n36, ms_k37, ms_n37, ms_k38, ms_n38, ms_k39, ms_n39, ms_k40, ms_n40, ms_k41, ms_n41, ms_k50, ms_n50, ms_k51, ms_n51, ms_k52, ms_n52, ms_k53, ms_n53, ms_r0_0, ms_r0_6, ms_r2_0, ms_r2_1, ms_r0_7, ms_r5_0, ms_r5_1, ms_r0_8, ms_r8_0, ms_r8_1, ms_r0_9, ms_r11_0, ms_r11_1, ms_r0_10, ms_r14_0, ms_r14_1, ms_r0_11, ms_r17_0, ms_r17_1, ms_r0_12, ms_r20_0, ms_r20_1, ms_r0_13, ms_r23_0, ms_r23_1, ms_r0_14, ms_r0_15, ms_r0_16, ms_r0_17, ms_r0_18, ms_r0_23, ms_r0_24, ms_r0_25, ms_r0_26, ms_r0_30, ms_r0_31, ms_r0_32, ms_r0_35, ms_r0_36, ms_r0_39, ms_r0_40, ms_r0_41, ms_r0_42, ms_r0_43, ms_r0_47, S0, c0]
  refine MO_bnd (m_num hn R.1 (by decide)) (fun p h' q => ⟨h', by simp only [chk_true, bnd_some, ob_some, oc_some, oc_none, hl_eq, ix_0, ix_1, if_true, if_false, inb0_2, inb1_2, not_true_eq_false, not_false_eq_true, ite_true, ite_false, true_or, or_true, or_self, zero_eq_one_I, one_eq_zero_I], q⟩) (fun a u1 h1 q1 => ?_)
  obtain ⟨R1, p1, v1⟩ := q1
  have S1 := (BM_rd R1.1).1
  simp only [chk_true, bnd_some, ob_some, oc_some, oc_none, hl_eq, ix_0, ix_1, if_true, if_false, inb0_2, inb1_2, not_true_eq_false, not_false_eq_true, ite_true, ite_false, true_or, or_true, or_self, zero_eq_one_I, one_eq_zero_I, ms_k0, ms_k1, ms_n1, ms_k2, ms_n2, ms_k3, ms_n3, ms_k4, ms_n4, ms_k5, ms_n5, ms_k6, ms_n6, ms_k7, ms_n7, ms_k8, ms_n8, ms_k9, ms_n9, ms_k10, ms_n10, ms_k11, ms_n11, ms_k12, ms_n12, ms_k13, ms_n13, ms_k14, ms_n14, ms_k15, ms_n15, ms_k16, ms_n16, ms_k17, ms_n17, ms_k18, ms_n18, ms_k19, ms_n19, ms_k20, ms_n20, ms_k21, ms_n21, ms_k22, ms_n22, ms_k23, ms_n23, ms_k24, ms_n24, ms_k25, ms_n25, ms_k26, ms_n26, ms_k27, ms_n27, ms_k28, ms_n28, ms_k29, ms_n29, ms_k30, ms_n30, ms_k31, ms_n31, ms_k32, ms_n32, ms_k33, ms_n33, ms_k34, ms_n34, ms_k35, ms_n35, ms_k36, ms_n36, ms_k37, ms_n37, ms_k38, ms_n38, ms_k39, ms_n39, ms_k40, ms_n40, ms_k41, ms_n41, ms_k50, ms_n50, ms_k51, ms_n51, ms_k52, ms_n52, ms_k53, ms_n53, ms_r0_0, ms_r0_6, ms_r2_0, ms_r2_1, ms_r0_7, ms_r5_0, ms_r5_1, ms_r0_8, ms_r8_0, ms_r8_1, ms_r0_9, ms_r11_0, ms_r11_1, ms_r0_10, ms_r14_0, ms_r14_1, ms_r0_11, ms_r17_0, ms_r17_1, ms_r0_12, ms_r20_0, ms_r20_1, ms_r0_13, ms_r23_0, ms_r23_1, ms_r0_14, ms_r0_15, ms_r0_16, ms_r0_17, ms_r0_18, ms_r0_23, ms_r0_24, ms_r0_25, ms_r0_26, ms_r0_30, ms_r0_31, ms_r0_32, ms_r0_35, ms_r0_36, ms_r0_39, ms_r0_40, ms_r0_41, ms_r0_42, ms_r0_43, ms_r0_47, S1, v1, ex, eb]
  have R1' : TM K m Z h0 (h1.setI (m + 4) P.1.nv a) u1 := TM_set R1 _ (Or.inr (Or.inl (by omega))) (by omega)
  refine MO_bnd (m_num hn R1' (by decide)) (fun p h' q => ⟨h', by simp only [chk_true, bnd_some, ob_some, oc_some, oc_none, hl_eq, ix_0, ix_1, if_true, if_false, inb0_2, inb1_2, not_true_eq_false, not_false_eq_true, ite_true, ite_false, true_or, or_true, or_self, zero_eq_one_I, one_eq_zero_I], q⟩) (fun b u2 h2 q2 => ?_)
  obtain ⟨R2, p2, v2⟩ := q2
  have S2 := (BM_rd R2.1).1
  have Q1 := QRm_kp R.2 p1
  have Q1' : QRm m (h1.setI (m + 4) P.1.nv a).I P := QRm_of Q1 (fun j _ _ => setI_O (by omega)) (fun i _ _ v hv => setI_O (by omega)) (fun i _ _ v hv => setI_O (by omega)) (fun i _ _ => setI_O (by omega))
  have Q2 := QRm_kp Q1' p2
  have x4 : h2.I (m + 4) P.1.nv = a := by rw [p2 _ _ (by omega)]; exact setI_I _ _ _ _
  have g1 : (((h2.setI (m + 7) P.1.nv b).setI (m + 10) P.1.nv 1)).I m 19 = nI P.2.1 := by rw [setI_O (by omega), setI_O (by omega)]; exact Q2.1.1
  have g2 : (((h2.setI (m + 7) P.1.nv b).setI (m + 10) P.1.nv 1).setI (m + 13) P.1.nv (nI P.2.1)).I m 20 = P.2.2.1 := by rw [setI_O (by omega), setI_O (by omega), setI_O (by omega)]; exact Q2.1.2.1
  have g3 : ((((h2.setI (m + 7) P.1.nv b).setI (m + 10) P.1.nv 1).setI (m + 13) P.1.nv (nI P.2.1)).setI (m + 16) P.1.nv P.2.2.1).I m 21 = P.2.2.2.1 := by rw [setI_O (by omega), setI_O (by omega), setI_O (by omega), setI_O (by omega)]; exact Q2.1.2.2.1
  simp only [chk_true, bnd_some, ob_some, oc_some, oc_none, hl_eq, ix_0, ix_1, if_true, if_false, inb0_2, inb1_2, not_true_eq_false, not_false_eq_true, ite_true, ite_false, true_or, or_true, or_self, zero_eq_one_I, one_eq_zero_I, AH.n_setI, AH.n_setL, AH.n_setR, AH.sl_setI, AH.sl_setL, AH.sl_setR, AH.kind_setI, AH.kind_setL, AH.kind_setR, AH.len_setI, AH.len_setL, AH.len_setR, AH.I_setL, AH.I_setR, AH.L_setI, AH.L_setR, AH.R_setI, AH.R_setL, ms_k0, ms_k1, ms_n1, ms_k2, ms_n2, ms_k3, ms_n3, ms_k4, ms_n4, ms_k5, ms_n5, ms_k6, ms_n6, ms_k7, ms_n7, ms_k8, ms_n8, ms_k9, ms_n9, ms_k10, ms_n10, ms_k11, ms_n11, ms_k12, ms_n12, ms_k13, ms_n13, ms_k14, ms_n14, ms_k15, ms_n15, ms_k16, ms_n16, ms_k17, ms_n17, ms_k18, ms_n18, ms_k19, ms_n19, ms_k20, ms_n20, ms_k21, ms_n21, ms_k22, ms_n22, ms_k23, ms_n23, ms_k24, ms_n24, ms_k25, ms_n25, ms_k26, ms_n26, ms_k27, ms_n27, ms_k28, ms_n28, ms_k29, ms_n29, ms_k30, ms_n30, ms_k31, ms_n31, ms_k32, ms_n32, ms_k33, ms_n33, ms_k34, ms_n34, ms_k35, ms_n35, ms_k36, ms_n36, ms_k37, ms_n37, ms_k38, ms_n38, ms_k39, ms_n39, ms_k40, ms_n40, ms_k41, ms_n41, ms_k50, ms_n50, ms_k51, ms_n51, ms_k52, ms_n52, ms_k53, ms_n53, ms_r0_0, ms_r0_6, ms_r2_0, ms_r2_1, ms_r0_7, ms_r5_0, ms_r5_1, ms_r0_8, ms_r8_0, ms_r8_1, ms_r0_9, ms_r11_0, ms_r11_1, ms_r0_10, ms_r14_0, ms_r14_1, ms_r0_11, ms_r17_0, ms_r17_1, ms_r0_12, ms_r20_0, ms_r20_1, ms_r0_13, ms_r23_0, ms_r23_1, ms_r0_14, ms_r0_15, ms_r0_16, ms_r0_17, ms_r0_18, ms_r0_23, ms_r0_24, ms_r0_25, ms_r0_26, ms_r0_30, ms_r0_31, ms_r0_32, ms_r0_35, ms_r0_36, ms_r0_39, ms_r0_40, ms_r0_41, ms_r0_42, ms_r0_43, ms_r0_47, S2, v2, ex, eb, g1, g2, g3]
  have R3 : TM K m Z h0 (((((h2.setI (m + 7) P.1.nv b).setI (m + 10) P.1.nv 1).setI (m + 13) P.1.nv (nI P.2.1)).setI (m + 16) P.1.nv P.2.2.1).setI (m + 19) P.1.nv P.2.2.2.1) u2 :=
    TM_set (TM_set (TM_set (TM_set (TM_set R2 _ (Or.inr (Or.inl (by omega))) (by omega)) _ (Or.inr (Or.inl (by omega))) (by omega)) _ (Or.inr (Or.inl (by omega))) (by omega)) _ (Or.inr (Or.inl (by omega))) (by omega)) _ (Or.inr (Or.inl (by omega))) (by omega)
  have Q3 : QRm m (((((h2.setI (m + 7) P.1.nv b).setI (m + 10) P.1.nv 1).setI (m + 13) P.1.nv (nI P.2.1)).setI (m + 16) P.1.nv P.2.2.1).setI (m + 19) P.1.nv P.2.2.2.1).I P := by
    refine QRm_of Q2 (fun j _ _ => ?_) (fun i _ _ v hv => ?_) (fun i _ _ v hv => ?_) (fun i _ _ => ?_)
    · rw [setI_O (by omega), setI_O (by omega), setI_O (by omega), setI_O (by omega), setI_O (by omega)]
    · rw [setI_O (by omega), setI_O (by omega), setI_O (by omega), setI_O (by omega), setI_O (by omega)]
    · rw [setI_O (by omega), setI_O (by omega), setI_O (by omega), setI_O (by omega), setI_O (by omega)]
    · rw [setI_O (by omega), setI_O (by omega), setI_O (by omega), setI_O (by omega), setI_O (by omega)]
  have V3 : VR m (((((h2.setI (m + 7) P.1.nv b).setI (m + 10) P.1.nv 1).setI (m + 13) P.1.nv (nI P.2.1)).setI (m + 16) P.1.nv P.2.2.1).setI (m + 19) P.1.nv P.2.2.2.1).I P.1.nv a b 1 (nI P.2.1) P.2.2.1 P.2.2.2.1 := by
    refine ⟨?_, ?_, ?_, ?_, ?_, setI_I _ _ _ _⟩
    · rw [setI_O (by omega), setI_O (by omega), setI_O (by omega), setI_O (by omega), setI_O (by omega)]; exact x4
    · rw [setI_O (by omega), setI_O (by omega), setI_O (by omega), setI_O (by omega)]; exact setI_I _ _ _ _
    · rw [setI_O (by omega), setI_O (by omega), setI_O (by omega)]; exact setI_I _ _ _ _
    · rw [setI_O (by omega), setI_O (by omega)]; exact setI_I _ _ _ _
    · rw [setI_O (by omega)]; exact setI_I _ _ _ _
  generalize ((((h2.setI (m + 7) P.1.nv b).setI (m + 10) P.1.nv 1).setI (m + 13) P.1.nv (nI P.2.1)).setI (m + 16) P.1.nv P.2.2.1).setI (m + 19) P.1.nv P.2.2.2.1 = h3 at R3 Q3 V3 ⊢
  rw [m_word hn R3 (i := 11) (by omega), bnd_some]
  refine MO_jn (fun k => ∀ w u h', TM K m Z h0 h' u → QRm m h'.I P → VR m h'.I P.1.nv a b w (nI P.2.1) P.2.2.1 P.2.2.2.1 → MO (k h') (semiP false Z.T Z.tm (P.1.pushV a b w P.2.1 P.2.2.1 P.2.2.2.1, P.2) u) (FM K m Z h0) (fun P' u h' => RM K m Z h0 P' u h')) (fun w u h' r q v => ?_) (fun k hk => ?_)
  · have S' := (BM_rd r.1).1
    have R' : TM K m Z h0 (h'.setI (m + 26) 1 (nI (P.1.nv + 1))) u := TM_set r _ (Or.inr (Or.inr ⟨by omega, rfl⟩)) (by omega)
    have Q' := QRm_push q hv v
    simp only [chk_true, bnd_some, ob_some, oc_some, oc_none, hl_eq, ix_0, ix_1, if_true, if_false, inb0_2, inb1_2, not_true_eq_false, not_false_eq_true, ite_true, ite_false, true_or, or_true, or_self, zero_eq_one_I, one_eq_zero_I, ms_k0, ms_k1, ms_n1, ms_k2, ms_n2, ms_k3, ms_n3, ms_k4, ms_n4, ms_k5, ms_n5, ms_k6, ms_n6, ms_k7, ms_n7, ms_k8, ms_n8, ms_k9, ms_n9, ms_k10, ms_n10, ms_k11, ms_n11, ms_k12, ms_n12, ms_k13, ms_n13, ms_k14, ms_n14, ms_k15, ms_n15, ms_k16, ms_n16, ms_k17, ms_n17, ms_k18, ms_n18, ms_k19, ms_n19, ms_k20, ms_n20, ms_k21, ms_n21, ms_k22, ms_n22, ms_k23, ms_n23, ms_k24, ms_n24, ms_k25, ms_n25, ms_k26, ms_n26, ms_k27, ms_n27, ms_k28, ms_n28, ms_k29, ms_n29, ms_k30, ms_n30, ms_k31, ms_n31, ms_k32, ms_n32, ms_k33, ms_n33, ms_k34, ms_n34, ms_k35, ms_n35, ms_k36, ms_n36, ms_k37, ms_n37, ms_k38, ms_n38, ms_k39, ms_n39, ms_k40, ms_n40, ms_k41, ms_n41, ms_k50, ms_n50, ms_k51, ms_n51, ms_k52, ms_n52, ms_k53, ms_n53, ms_r0_0, ms_r0_6, ms_r2_0, ms_r2_1, ms_r0_7, ms_r5_0, ms_r5_1, ms_r0_8, ms_r8_0, ms_r8_1, ms_r0_9, ms_r11_0, ms_r11_1, ms_r0_10, ms_r14_0, ms_r14_1, ms_r0_11, ms_r17_0, ms_r17_1, ms_r0_12, ms_r20_0, ms_r20_1, ms_r0_13, ms_r23_0, ms_r23_1, ms_r0_14, ms_r0_15, ms_r0_16, ms_r0_17, ms_r0_18, ms_r0_23, ms_r0_24, ms_r0_25, ms_r0_26, ms_r0_30, ms_r0_31, ms_r0_32, ms_r0_35, ms_r0_36, ms_r0_39, ms_r0_40, ms_r0_41, ms_r0_42, ms_r0_43, ms_r0_47, S', q.2.1.1, nI_1, m_isSign R', AH.kind_setI]
    exact MO_tail (m_semi hn ⟨R', Q'⟩) (fun h' => by simp only [chk_true, bnd_some, ob_some, oc_some, oc_none, hl_eq, ix_0, ix_1, if_true, if_false, inb0_2, inb1_2, not_true_eq_false, not_false_eq_true, ite_true, ite_false, true_or, or_true, or_self, zero_eq_one_I, one_eq_zero_I]) (fun h' => by simp only [chk_true, bnd_some, ob_some, oc_some, oc_none, hl_eq, ix_0, ix_1, if_true, if_false, inb0_2, inb1_2, not_true_eq_false, not_false_eq_true, ite_true, ite_false, true_or, or_true, or_self, zero_eq_one_I, one_eq_zero_I])
  · have S3 := (BM_rd R3.1).1
    unfold byP
    rcases Bool.eq_false_or_eq_true (wdS Z.T Z.tm 11 u2) with c | c
    · have t1 : (bI true = 0) = False := eq_false (by decide)
      simp only [chk_true, bnd_some, ob_some, oc_some, oc_none, hl_eq, ix_0, ix_1, if_true, if_false, inb0_2, inb1_2, not_true_eq_false, not_false_eq_true, ite_true, ite_false, true_or, or_true, or_self, zero_eq_one_I, one_eq_zero_I, ms_k0, ms_k1, ms_n1, ms_k2, ms_n2, ms_k3, ms_n3, ms_k4, ms_n4, ms_k5, ms_n5, ms_k6, ms_n6, ms_k7, ms_n7, ms_k8, ms_n8, ms_k9, ms_n9, ms_k10, ms_n10, ms_k11, ms_n11, ms_k12, ms_n12, ms_k13, ms_n13, ms_k14, ms_n14, ms_k15, ms_n15, ms_k16, ms_n16, ms_k17, ms_n17, ms_k18, ms_n18, ms_k19, ms_n19, ms_k20, ms_n20, ms_k21, ms_n21, ms_k22, ms_n22, ms_k23, ms_n23, ms_k24, ms_n24, ms_k25, ms_n25, ms_k26, ms_n26, ms_k27, ms_n27, ms_k28, ms_n28, ms_k29, ms_n29, ms_k30, ms_n30, ms_k31, ms_n31, ms_k32, ms_n32, ms_k33, ms_n33, ms_k34, ms_n34, ms_k35, ms_n35, ms_k36, ms_n36, ms_k37, ms_n37, ms_k38, ms_n38, ms_k39, ms_n39, ms_k40, ms_n40, ms_k41, ms_n41, ms_k50, ms_n50, ms_k51, ms_n51, ms_k52, ms_n52, ms_k53, ms_n53, ms_r0_0, ms_r0_6, ms_r2_0, ms_r2_1, ms_r0_7, ms_r5_0, ms_r5_1, ms_r0_8, ms_r8_0, ms_r8_1, ms_r0_9, ms_r11_0, ms_r11_1, ms_r0_10, ms_r14_0, ms_r14_1, ms_r0_11, ms_r17_0, ms_r17_1, ms_r0_12, ms_r20_0, ms_r20_1, ms_r0_13, ms_r23_0, ms_r23_1, ms_r0_14, ms_r0_15, ms_r0_16, ms_r0_17, ms_r0_18, ms_r0_23, ms_r0_24, ms_r0_25, ms_r0_26, ms_r0_30, ms_r0_31, ms_r0_32, ms_r0_35, ms_r0_36, ms_r0_39, ms_r0_40, ms_r0_41, ms_r0_42, ms_r0_43, ms_r0_47, S3, c, t1]
      have e : ∀ {γ : Type} (F : Int32 → Tk → Rs γ), PB (PB (adv false Z.T Z.tm () u2) fun _ t => numP false Z.T Z.tm 1 9 t) F = PB (adv false Z.T Z.tm () u2) fun _ t => PB (numP false Z.T Z.tm 1 9 t) F := fun F => rfl
      rw [e]
      refine MO_bnd (show MO (F_X3_passes n K m 1 h3) (adv false Z.T Z.tm () u2) _ _ from m_pass hn R3 true ()) (fun p h' q => ⟨h', by simp only [chk_true, bnd_some, ob_some, oc_some, oc_none, hl_eq, ix_0, ix_1, if_true, if_false, inb0_2, inb1_2, not_true_eq_false, not_false_eq_true, ite_true, ite_false, true_or, or_true, or_self, zero_eq_one_I, one_eq_zero_I], q⟩) (fun _ u4 h4 q4 => ?_)
      obtain ⟨_, R4, p4, _⟩ := q4
      have S4 := (BM_rd R4.1).1
      simp only [chk_true, bnd_some, ob_some, oc_some, oc_none, hl_eq, ix_0, ix_1, if_true, if_false, inb0_2, inb1_2, not_true_eq_false, not_false_eq_true, ite_true, ite_false, true_or, or_true, or_self, zero_eq_one_I, one_eq_zero_I, ms_k0, ms_k1, ms_n1, ms_k2, ms_n2, ms_k3, ms_n3, ms_k4, ms_n4, ms_k5, ms_n5, ms_k6, ms_n6, ms_k7, ms_n7, ms_k8, ms_n8, ms_k9, ms_n9, ms_k10, ms_n10, ms_k11, ms_n11, ms_k12, ms_n12, ms_k13, ms_n13, ms_k14, ms_n14, ms_k15, ms_n15, ms_k16, ms_n16, ms_k17, ms_n17, ms_k18, ms_n18, ms_k19, ms_n19, ms_k20, ms_n20, ms_k21, ms_n21, ms_k22, ms_n22, ms_k23, ms_n23, ms_k24, ms_n24, ms_k25, ms_n25, ms_k26, ms_n26, ms_k27, ms_n27, ms_k28, ms_n28, ms_k29, ms_n29, ms_k30, ms_n30, ms_k31, ms_n31, ms_k32, ms_n32, ms_k33, ms_n33, ms_k34, ms_n34, ms_k35, ms_n35, ms_k36, ms_n36, ms_k37, ms_n37, ms_k38, ms_n38, ms_k39, ms_n39, ms_k40, ms_n40, ms_k41, ms_n41, ms_k50, ms_n50, ms_k51, ms_n51, ms_k52, ms_n52, ms_k53, ms_n53, ms_r0_0, ms_r0_6, ms_r2_0, ms_r2_1, ms_r0_7, ms_r5_0, ms_r5_1, ms_r0_8, ms_r8_0, ms_r8_1, ms_r0_9, ms_r11_0, ms_r11_1, ms_r0_10, ms_r14_0, ms_r14_1, ms_r0_11, ms_r17_0, ms_r17_1, ms_r0_12, ms_r20_0, ms_r20_1, ms_r0_13, ms_r23_0, ms_r23_1, ms_r0_14, ms_r0_15, ms_r0_16, ms_r0_17, ms_r0_18, ms_r0_23, ms_r0_24, ms_r0_25, ms_r0_26, ms_r0_30, ms_r0_31, ms_r0_32, ms_r0_35, ms_r0_36, ms_r0_39, ms_r0_40, ms_r0_41, ms_r0_42, ms_r0_43, ms_r0_47, S4]
      refine MO_bnd (m_num hn R4 (by decide)) (fun p h' q => ⟨h', by simp only [chk_true, bnd_some, ob_some, oc_some, oc_none, hl_eq, ix_0, ix_1, if_true, if_false, inb0_2, inb1_2, not_true_eq_false, not_false_eq_true, ite_true, ite_false, true_or, or_true, or_self, zero_eq_one_I, one_eq_zero_I], q⟩) (fun w u5 h5 q5 => ?_)
      obtain ⟨R5, p5, v5⟩ := q5
      have S5 := (BM_rd R5.1).1
      simp only [chk_true, bnd_some, ob_some, oc_some, oc_none, hl_eq, ix_0, ix_1, if_true, if_false, inb0_2, inb1_2, not_true_eq_false, not_false_eq_true, ite_true, ite_false, true_or, or_true, or_self, zero_eq_one_I, one_eq_zero_I, ms_k0, ms_k1, ms_n1, ms_k2, ms_n2, ms_k3, ms_n3, ms_k4, ms_n4, ms_k5, ms_n5, ms_k6, ms_n6, ms_k7, ms_n7, ms_k8, ms_n8, ms_k9, ms_n9, ms_k10, ms_n10, ms_k11, ms_n11, ms_k12, ms_n12, ms_k13, ms_n13, ms_k14, ms_n14, ms_k15, ms_n15, ms_k16, ms_n16, ms_k17, ms_n17, ms_k18, ms_n18, ms_k19, ms_n19, ms_k20, ms_n20, ms_k21, ms_n21, ms_k22, ms_n22, ms_k23, ms_n23, ms_k24, ms_n24, ms_k25, ms_n25, ms_k26, ms_n26, ms_k27, ms_n27, ms_k28, ms_n28, ms_k29, ms_n29, ms_k30, ms_n30, ms_k31, ms_n31, ms_k32, ms_n32, ms_k33, ms_n33, ms_k34, ms_n34, ms_k35, ms_n35, ms_k36, ms_n36, ms_k37, ms_n37, ms_k38, ms_n38, ms_k39, ms_n39, ms_k40, ms_n40, ms_k41, ms_n41, ms_k50, ms_n50, ms_k51, ms_n51, ms_k52, ms_n52, ms_k53, ms_n53, ms_r0_0, ms_r0_6, ms_r2_0, ms_r2_1, ms_r0_7, ms_r5_0, ms_r5_1, ms_r0_8, ms_r8_0, ms_r8_1, ms_r0_9, ms_r11_0, ms_r11_1, ms_r0_10, ms_r14_0, ms_r14_1, ms_r0_11, ms_r17_0, ms_r17_1, ms_r0_12, ms_r20_0, ms_r20_1, ms_r0_13, ms_r23_0, ms_r23_1, ms_r0_14, ms_r0_15, ms_r0_16, ms_r0_17, ms_r0_18, ms_r0_23, ms_r0_24, ms_r0_25, ms_r0_26, ms_r0_30, ms_r0_31, ms_r0_32, ms_r0_35, ms_r0_36, ms_r0_39, ms_r0_40, ms_r0_41, ms_r0_42, ms_r0_43, ms_r0_47, S5, v5, ex, eb]
      have Q5 := QRm_kp (QRm_kp Q3 p4) p5
      have V5 := VR_kp (VR_kp V3 p4) p5
      refine hk w u5 _ (TM_set R5 _ (Or.inr (Or.inl (by omega))) (by omega)) ?_ ?_
      · exact QRm_of Q5 (fun j _ _ => setI_O (by omega)) (fun i _ _ v hv => setI_O (by omega)) (fun i _ _ v hv => setI_O (by omega)) (fun i _ _ => setI_O (by omega))
      · obtain ⟨y1, y2, y3, y4, y5, y6⟩ := V5
        refine ⟨?_, ?_, setI_I _ _ _ _, ?_, ?_, ?_⟩
        · rw [setI_O (by omega)]; exact y1
        · rw [setI_O (by omega)]; exact y2
        · rw [setI_O (by omega)]; exact y4
        · rw [setI_O (by omega)]; exact y5
        · rw [setI_O (by omega)]; exact y6
    · have t1 : (bI false = 0) = True := eq_true (by decide)
      simp only [chk_true, bnd_some, ob_some, oc_some, oc_none, hl_eq, ix_0, ix_1, if_true, if_false, inb0_2, inb1_2, not_true_eq_false, not_false_eq_true, ite_true, ite_false, true_or, or_true, or_self, zero_eq_one_I, one_eq_zero_I, c, t1, Bool.false_eq_true]
      exact hk 1 u2 h3 R3 Q3 V3
