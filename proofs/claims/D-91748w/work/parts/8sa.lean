/-! PURE PART SA: what the model knows; line(), middle(), proof() of the model -/
set_option maxRecDepth 100000
def MMb (m : Nat) (h : AH) (Z : Zt) (l : TL) : Prop := MC m h Z ∧ h.I m 29 = 1 ∧ M3I m h (linesS Z.S) ∧ M3L m h l
theorem MMb_fr {m : Nat} {h h' : AH} {Z : Zt} {l l' : TL} (I : MMb m h Z l) (bz : Z.nm ≤ 40) (F : Fr 0 0 (WM m) h h') (L : M3L m h' l') : MMb m h' Z l' := by
  have MS := I.1.1.1
  have k0 := ms_k0 MS
  refine ⟨MC_fr I.1 bz F (fun _ _ _ z => WM_K z), ?_, M3I_fr MS I.2.2.1 F (fun a j _ z w => ?_), L⟩
  · rw [((F.2.2.2.2.2 m (by omega)).2.2 29 (fun z => by unfold WM at z; omega)).1]
    exact I.2.1
  · unfold WM at z; unfold WL at w; omega
theorem i_l (z : Int) (h : z.natAbs ≤ 100000) : (Int32.ofInt z).toInt64 = Int64.ofInt z := by
  rw [V_l, i_of (by omega) (by omega)]
theorem m_md7 {n : Nat} {K : Nat → Nat} {m : Nat} {h : AH} {Z : Zt} (hn : 20000 < n) (bz : Bz Z) (I : MMb m h Z (md0 Z.S 0)) (k : AH → Option (Unit × AH)) : ∃ h', F_X3_findsMiddles_L7 n K m n 0 h k = k h' ∧ MMb m h' Z (md0 Z.S Z.S.nv) ∧ Fr 0 0 (WM m) h h' := by
  have B := bz.1
  have h15 : Z.S.nv ≤ 15 := B.2.2.2.1
  refine loopU (fun f v (s : AH) => F_X3_findsMiddles_L7 n K m f v s k) Z.S.nv (fun v s => MMb m s Z (md0 Z.S v) ∧ Fr 0 0 (WM m) h s) (fun o => ∃ h', o = k h' ∧ MMb m h' Z (md0 Z.S Z.S.nv) ∧ Fr 0 0 (WM m) h h') ?_ ?_ Z.S.nv 0 h n (by omega) (by omega) ⟨I, Fr_refl h⟩
  · rintro f v s hv ⟨J, F⟩
    right
    have M := J.1.1
    have MS := M.1
    obtain ⟨t1, t2⟩ := md0_ok B v (by omega)
    obtain ⟨sb, _, _⟩ := vSpot_ok B hv
    obtain ⟨s', q1, q2, q3⟩ := m_comes (K := K) hn M B J.2.2.2 (by omega) t1 sb (by decide)
    refine ⟨s', ⟨MMb_fr J bz.2.2.1 q3 q2, Fr_trans (W := WM m) F q3 (fun _ _ _ z => z) (fun _ _ _ z => z)⟩, ?_⟩
    have e1 : ix (nI v) = v := ix_nI (by omega)
    have e2 : inb (nI v) 15 = True := eq_true ((inb_nI (by omega)).2 (by omega))
    have e3 : (nI Z.S.nv ≤ nI v) = False := eq_false (nI_ge hv (by omega))
    obtain ⟨g0, g1, _⟩ := M.2.1.2.2 v hv
    have q1' : F_X3_addsMiddle n K m (Z.S.V v 0).toInt64 (Z.S.V v 1).toInt64 1 s = some ((), s') := by
      rw [V_l, V_l, show (1 : Int64) = Int64.ofInt 1 from rfl]; exact q1
    simp only [F_X3_findsMiddles_L7, chk_true, bnd_some, ob_some, oc_some, oc_none, hl_eq, jn_eq, ix_0, ix_1, if_true, if_false, inb0_2, inb1_2, not_true_eq_false, not_false_eq_true, ite_true, ite_false, true_or, or_true, or_self, zero_eq_one_I, one_eq_zero_I, ms_k0, ms_k1, ms_n1, ms_k2, ms_n2, ms_k3, ms_n3, ms_k4, ms_n4, ms_k5, ms_n5, ms_k6, ms_n6, ms_k7, ms_n7, ms_k8, ms_n8, ms_k9, ms_n9, ms_k10, ms_n10, ms_k11, ms_n11, ms_k12, ms_n12, ms_k13, ms_n13, ms_k14, ms_n14, ms_k15, ms_n15, ms_k16, ms_n16, ms_k17, ms_n17, ms_k18, ms_n18, ms_k19, ms_n19, ms_k20, ms_n20, ms_k21, ms_n21, ms_k22, ms_n22, ms_k23, ms_n23, ms_k24, ms_n24, ms_k25, ms_n25, ms_k26, ms_n26, ms_k27, ms_n27, ms_k28, ms_n28, ms_k29, ms_n29, ms_k30, ms_n30, ms_k31, ms_n31, ms_k32, ms_n32, ms_k33, ms_n33, ms_k34, ms_n34, ms_k35, ms_n35, ms_k36, ms_n36, ms_k37, ms_n37, ms_k38, ms_n38, ms_k39, ms_n39, ms_k40, ms_n40, ms_k41, ms_n41, ms_k50, ms_n50, ms_k51, ms_n51, ms_k52, ms_n52, ms_k53, ms_n53, ms_r0_0, ms_r0_6, ms_r2_0, ms_r2_1, ms_r0_7, ms_r5_0, ms_r5_1, ms_r0_8, ms_r8_0, ms_r8_1, ms_r0_9, ms_r11_0, ms_r11_1, ms_r0_10, ms_r14_0, ms_r14_1, ms_r0_11, ms_r17_0, ms_r17_1, ms_r0_12, ms_r20_0, ms_r20_1, ms_r0_13, ms_r23_0, ms_r23_1, ms_r0_14, ms_r0_15, ms_r0_16, ms_r0_17, ms_r0_18, ms_r0_23, ms_r0_24, ms_r0_25, ms_r0_26, ms_r0_30, ms_r0_31, ms_r0_32, ms_r0_35, ms_r0_36, ms_r0_39, ms_r0_40, ms_r0_41, ms_r0_42, ms_r0_43, ms_r0_47, MS, m_voters MS M.2.1, e1, e2, e3, g0, g1, q1', nI_1]
  · rintro f s ⟨J, F⟩
    have M := J.1.1
    have MS := M.1
    have e3 : (nI Z.S.nv ≤ nI Z.S.nv) = True := eq_true (nI_le (Nat.le_refl _) (by omega))
    refine ⟨s, ?_, J, F⟩
    simp only [F_X3_findsMiddles_L7, chk_true, bnd_some, ob_some, oc_some, oc_none, hl_eq, jn_eq, ix_0, ix_1, if_true, if_false, inb0_2, inb1_2, not_true_eq_false, not_false_eq_true, ite_true, ite_false, true_or, or_true, or_self, zero_eq_one_I, one_eq_zero_I, ms_k0, ms_k1, ms_n1, ms_k2, ms_n2, ms_k3, ms_n3, ms_k4, ms_n4, ms_k5, ms_n5, ms_k6, ms_n6, ms_k7, ms_n7, ms_k8, ms_n8, ms_k9, ms_n9, ms_k10, ms_n10, ms_k11, ms_n11, ms_k12, ms_n12, ms_k13, ms_n13, ms_k14, ms_n14, ms_k15, ms_n15, ms_k16, ms_n16, ms_k17, ms_n17, ms_k18, ms_n18, ms_k19, ms_n19, ms_k20, ms_n20, ms_k21, ms_n21, ms_k22, ms_n22, ms_k23, ms_n23, ms_k24, ms_n24, ms_k25, ms_n25, ms_k26, ms_n26, ms_k27, ms_n27, ms_k28, ms_n28, ms_k29, ms_n29, ms_k30, ms_n30, ms_k31, ms_n31, ms_k32, ms_n32, ms_k33, ms_n33, ms_k34, ms_n34, ms_k35, ms_n35, ms_k36, ms_n36, ms_k37, ms_n37, ms_k38, ms_n38, ms_k39, ms_n39, ms_k40, ms_n40, ms_k41, ms_n41, ms_k50, ms_n50, ms_k51, ms_n51, ms_k52, ms_n52, ms_k53, ms_n53, ms_r0_0, ms_r0_6, ms_r2_0, ms_r2_1, ms_r0_7, ms_r5_0, ms_r5_1, ms_r0_8, ms_r8_0, ms_r8_1, ms_r0_9, ms_r11_0, ms_r11_1, ms_r0_10, ms_r14_0, ms_r14_1, ms_r0_11, ms_r17_0, ms_r17_1, ms_r0_12, ms_r20_0, ms_r20_1, ms_r0_13, ms_r23_0, ms_r23_1, ms_r0_14, ms_r0_15, ms_r0_16, ms_r0_17, ms_r0_18, ms_r0_23, ms_r0_24, ms_r0_25, ms_r0_26, ms_r0_30, ms_r0_31, ms_r0_32, ms_r0_35, ms_r0_36, ms_r0_39, ms_r0_40, ms_r0_41, ms_r0_42, ms_r0_43, ms_r0_47, MS, m_voters MS M.2.1, e3]
theorem m_mdStep {n : Nat} {K : Nat → Nat} {m : Nat} {h : AH} {Z : Zt} {l : TL} (hn : 20000 < n) (bz : Bz Z) (I : MMb m h Z l) (T : MLok l) (hl : l.1 < 5600) {i j : Nat} (hj : j < i) (hi : i < (linesS Z.S).1) (f : Nat) (k : AH → Option (Unit × AH)) : ∃ h', F_X3_findsMiddles_L56 n K (nI i) m (f + 1) (nI j) h k = F_X3_findsMiddles_L56 n K (nI i) m f (nI (j + 1)) h' k ∧ MMb m h' Z (mdStep Z.S i j l) ∧ Fr 0 0 (WM m) h h' := by
  have B := bz.1
  obtain ⟨T5, h105⟩ := lines_ok B
  have M := I.1.1
  have MS := M.1
  have bi := T5.2 i hi
  have bj := T5.2 j (by omega)
  have cb := cr_bd bi bj
  obtain ⟨g1, g2, g3⟩ := I.2.2.1.2 i hi
  obtain ⟨p1, p2, p3⟩ := I.2.2.1.2 j (by omega)
  have e1 : ix (nI i) = i := ix_nI (by omega)
  have e2 : inb (nI i) 105 = True := eq_true ((inb_nI (by omega)).2 (by omega))
  have e3 : ix (nI j) = j := ix_nI (by omega)
  have e4 : inb (nI j) 105 = True := eq_true ((inb_nI (by omega)).2 (by omega))
  have e5 : (nI i ≤ nI j) = False := eq_false (nI_ge hj (by omega))
  unfold mdStep
  obtain ⟨bi1, bi2, bi3⟩ := bi
  obtain ⟨bj1, bj2, bj3⟩ := bj
  generalize (linesS Z.S).2 i = s at *
  generalize (linesS Z.S).2 j = t at *
  have l1 := i_l s.1 (by omega)
  have l2 := i_l s.2.1 (by omega)
  have l3 := i_l s.2.2 (by omega)
  have l4 := i_l t.1 (by omega)
  have l5 := i_l t.2.1 (by omega)
  have l6 := i_l t.2.2 (by omega)
  have cN : Int64.ofInt (s.1 * t.2.1 - t.1 * s.2.1) = Int64.ofInt (crN s t) := rfl
  have eN : (Int64.ofInt (crN s t)).toInt = crN s t := l_of (by have : (crN s t).natAbs ≤ 20000 := cb.2.2; omega) (by have : (crN s t).natAbs ≤ 20000 := cb.2.2; omega)
  by_cases c0 : crN s t = 0
  · refine ⟨h, ?_, by rw [if_pos c0]; exact I, Fr_refl h⟩
    have c0' := eq_true c0
    simp only [F_X3_findsMiddles_L56, chk_true, bnd_some, ob_some, oc_some, oc_none, hl_eq, jn_eq, ix_0, ix_1, if_true, if_false, inb0_2, inb1_2, not_true_eq_false, not_false_eq_true, ite_true, ite_false, true_or, or_true, or_self, zero_eq_one_I, one_eq_zero_I, ms_k0, ms_k1, ms_n1, ms_k2, ms_n2, ms_k3, ms_n3, ms_k4, ms_n4, ms_k5, ms_n5, ms_k6, ms_n6, ms_k7, ms_n7, ms_k8, ms_n8, ms_k9, ms_n9, ms_k10, ms_n10, ms_k11, ms_n11, ms_k12, ms_n12, ms_k13, ms_n13, ms_k14, ms_n14, ms_k15, ms_n15, ms_k16, ms_n16, ms_k17, ms_n17, ms_k18, ms_n18, ms_k19, ms_n19, ms_k20, ms_n20, ms_k21, ms_n21, ms_k22, ms_n22, ms_k23, ms_n23, ms_k24, ms_n24, ms_k25, ms_n25, ms_k26, ms_n26, ms_k27, ms_n27, ms_k28, ms_n28, ms_k29, ms_n29, ms_k30, ms_n30, ms_k31, ms_n31, ms_k32, ms_n32, ms_k33, ms_n33, ms_k34, ms_n34, ms_k35, ms_n35, ms_k36, ms_n36, ms_k37, ms_n37, ms_k38, ms_n38, ms_k39, ms_n39, ms_k40, ms_n40, ms_k41, ms_n41, ms_k50, ms_n50, ms_k51, ms_n51, ms_k52, ms_n52, ms_k53, ms_n53, ms_r0_0, ms_r0_6, ms_r2_0, ms_r2_1, ms_r0_7, ms_r5_0, ms_r5_1, ms_r0_8, ms_r8_0, ms_r8_1, ms_r0_9, ms_r11_0, ms_r11_1, ms_r0_10, ms_r14_0, ms_r14_1, ms_r0_11, ms_r17_0, ms_r17_1, ms_r0_12, ms_r20_0, ms_r20_1, ms_r0_13, ms_r23_0, ms_r23_1, ms_r0_14, ms_r0_15, ms_r0_16, ms_r0_17, ms_r0_18, ms_r0_23, ms_r0_24, ms_r0_25, ms_r0_26, ms_r0_30, ms_r0_31, ms_r0_32, ms_r0_35, ms_r0_36, ms_r0_39, ms_r0_40, ms_r0_41, ms_r0_42, ms_r0_43, ms_r0_47, MS, e1, e2, e3, e4, e5, g1, g2, p1, p2, l1, l2, l4, l5, l_pp, l_mm, cN, c_eq0, eN, c0', nI_1]
  · obtain ⟨h', q1, q2, q3⟩ := m_comes (K := K) hn M B I.2.2.2 hl T cb c0
    refine ⟨h', ?_, by rw [if_neg c0]; exact MMb_fr I bz.2.2.1 q3 q2, q3⟩
    have c0' := eq_false c0
    simp only [F_X3_findsMiddles_L56, chk_true, bnd_some, ob_some, oc_some, oc_none, hl_eq, jn_eq, ix_0, ix_1, if_true, if_false, inb0_2, inb1_2, not_true_eq_false, not_false_eq_true, ite_true, ite_false, true_or, or_true, or_self, zero_eq_one_I, one_eq_zero_I, ms_k0, ms_k1, ms_n1, ms_k2, ms_n2, ms_k3, ms_n3, ms_k4, ms_n4, ms_k5, ms_n5, ms_k6, ms_n6, ms_k7, ms_n7, ms_k8, ms_n8, ms_k9, ms_n9, ms_k10, ms_n10, ms_k11, ms_n11, ms_k12, ms_n12, ms_k13, ms_n13, ms_k14, ms_n14, ms_k15, ms_n15, ms_k16, ms_n16, ms_k17, ms_n17, ms_k18, ms_n18, ms_k19, ms_n19, ms_k20, ms_n20, ms_k21, ms_n21, ms_k22, ms_n22, ms_k23, ms_n23, ms_k24, ms_n24, ms_k25, ms_n25, ms_k26, ms_n26, ms_k27, ms_n27, ms_k28, ms_n28, ms_k29, ms_n29, ms_k30, ms_n30, ms_k31, ms_n31, ms_k32, ms_n32, ms_k33, ms_n33, ms_k34, ms_n34, ms_k35, ms_n35, ms_k36, ms_n36, ms_k37, ms_n37, ms_k38, ms_n38, ms_k39, ms_n39, ms_k40, ms_n40, ms_k41, ms_n41, ms_k50, ms_n50, ms_k51, ms_n51, ms_k52, ms_n52, ms_k53, ms_n53, ms_r0_0, ms_r0_6, ms_r2_0, ms_r2_1, ms_r0_7, ms_r5_0, ms_r5_1, ms_r0_8, ms_r8_0, ms_r8_1, ms_r0_9, ms_r11_0, ms_r11_1, ms_r0_10, ms_r14_0, ms_r14_1, ms_r0_11, ms_r17_0, ms_r17_1, ms_r0_12, ms_r20_0, ms_r20_1, ms_r0_13, ms_r23_0, ms_r23_1, ms_r0_14, ms_r0_15, ms_r0_16, ms_r0_17, ms_r0_18, ms_r0_23, ms_r0_24, ms_r0_25, ms_r0_26, ms_r0_30, ms_r0_31, ms_r0_32, ms_r0_35, ms_r0_36, ms_r0_39, ms_r0_40, ms_r0_41, ms_r0_42, ms_r0_43, ms_r0_47, MS, e1, e2, e3, e4, e5, g1, g2, g3, p1, p2, p3, l1, l2, l3, l4, l5, l6, l_pp, l_mm, cN, c_eq0, eN, c0', q1, nI_1]
theorem m_md46 {n : Nat} {K : Nat → Nat} {m : Nat} {h : AH} {Z : Zt} (hn : 20000 < n) (bz : Bz Z) (I : MMb m h Z (mdP Z.S 0)) : ∃ h', F_X3_findsMiddles_L46 n K m n 0 h = some ((), h') ∧ MMb m h' Z (middlesS Z.S) ∧ Fr 0 0 (WM m) h h' := by
  have B := bz.1
  obtain ⟨T5, h105⟩ := lines_ok B
  have inner : ∀ i, i < (linesS Z.S).1 → ∀ (g : AH) (k : AH → Option (Unit × AH)), MMb m g Z (mdP Z.S i) → ∃ g', F_X3_findsMiddles_L56 n K (nI i) m n 0 g k = k g' ∧ MMb m g' Z (mdP Z.S (i + 1)) ∧ Fr 0 0 (WM m) g g' := by
    intro i hi g k J
    refine loopU (fun f j (s : AH) => F_X3_findsMiddles_L56 n K (nI i) m f j s k) i (fun j s => MMb m s Z (foldS (mdStep Z.S i) (mdP Z.S i) j) ∧ Fr 0 0 (WM m) g s) (fun o => ∃ g', o = k g' ∧ MMb m g' Z (mdP Z.S (i + 1)) ∧ Fr 0 0 (WM m) g g') ?_ ?_ i 0 g n (by omega) (by omega) ⟨J, Fr_refl g⟩
    · rintro f j s hj ⟨j1, j2⟩
      right
      obtain ⟨t1, t2⟩ := mdP_ok B i (by omega)
      obtain ⟨u1, u2⟩ := mdP_in B hi t1 j (by omega)
      have u3 := tri_j2 (i := i) (j := j) (by omega) (by omega)
      obtain ⟨s', q1, q2, q3⟩ := m_mdStep (K := K) hn bz j1 u1 (by omega) hj hi f k
      exact ⟨s', ⟨q2, Fr_trans (W := WM m) j2 q3 (fun _ _ _ z => z) (fun _ _ _ z => z)⟩, q1⟩
    · rintro f s ⟨j1, j2⟩
      have e3 : (nI i ≤ nI i) = True := eq_true (nI_le (Nat.le_refl _) (by omega))
      exact ⟨s, by simp only [F_X3_findsMiddles_L56, e3, if_true], j1, j2⟩
  refine loopU (fun f i (s : AH) => F_X3_findsMiddles_L46 n K m f i s) (linesS Z.S).1 (fun i s => MMb m s Z (mdP Z.S i) ∧ Fr 0 0 (WM m) h s) (fun o => ∃ h', o = some ((), h') ∧ MMb m h' Z (middlesS Z.S) ∧ Fr 0 0 (WM m) h h') ?_ ?_ (linesS Z.S).1 0 h n (by omega) (by omega) ⟨I, Fr_refl h⟩
  · rintro f i s hi ⟨j1, j2⟩
    right
    have MS := j1.1.1.1
    have e3 : (nI (linesS Z.S).1 ≤ nI i) = False := eq_false (nI_ge hi (by omega))
    obtain ⟨s', q1, q2, q3⟩ := inner i hi s (fun h77 => F_X3_findsMiddles_L46 n K m f (nI (i + 1)) h77) j1
    refine ⟨s', ⟨q2, Fr_trans (W := WM m) j2 q3 (fun _ _ _ z => z) (fun _ _ _ z => z)⟩, ?_⟩
    show F_X3_findsMiddles_L46 n K m (f + 1) (nI i) s = _
    rw [F_X3_findsMiddles_L46]
    simp only [chk_true, bnd_some, ob_some, oc_some, oc_none, hl_eq, jn_eq, ix_0, ix_1, if_true, if_false, inb0_2, inb1_2, not_true_eq_false, not_false_eq_true, ite_true, ite_false, true_or, or_true, or_self, zero_eq_one_I, one_eq_zero_I, ms_k0, ms_k1, ms_n1, ms_k2, ms_n2, ms_k3, ms_n3, ms_k4, ms_n4, ms_k5, ms_n5, ms_k6, ms_n6, ms_k7, ms_n7, ms_k8, ms_n8, ms_k9, ms_n9, ms_k10, ms_n10, ms_k11, ms_n11, ms_k12, ms_n12, ms_k13, ms_n13, ms_k14, ms_n14, ms_k15, ms_n15, ms_k16, ms_n16, ms_k17, ms_n17, ms_k18, ms_n18, ms_k19, ms_n19, ms_k20, ms_n20, ms_k21, ms_n21, ms_k22, ms_n22, ms_k23, ms_n23, ms_k24, ms_n24, ms_k25, ms_n25, ms_k26, ms_n26, ms_k27, ms_n27, ms_k28, ms_n28, ms_k29, ms_n29, ms_k30, ms_n30, ms_k31, ms_n31, ms_k32, ms_n32, ms_k33, ms_n33, ms_k34, ms_n34, ms_k35, ms_n35, ms_k36, ms_n36, ms_k37, ms_n37, ms_k38, ms_n38, ms_k39, ms_n39, ms_k40, ms_n40, ms_k41, ms_n41, ms_k50, ms_n50, ms_k51, ms_n51, ms_k52, ms_n52, ms_k53, ms_n53, ms_r0_0, ms_r0_6, ms_r2_0, ms_r2_1, ms_r0_7, ms_r5_0, ms_r5_1, ms_r0_8, ms_r8_0, ms_r8_1, ms_r0_9, ms_r11_0, ms_r11_1, ms_r0_10, ms_r14_0, ms_r14_1, ms_r0_11, ms_r17_0, ms_r17_1, ms_r0_12, ms_r20_0, ms_r20_1, ms_r0_13, ms_r23_0, ms_r23_1, ms_r0_14, ms_r0_15, ms_r0_16, ms_r0_17, ms_r0_18, ms_r0_23, ms_r0_24, ms_r0_25, ms_r0_26, ms_r0_30, ms_r0_31, ms_r0_32, ms_r0_35, ms_r0_36, ms_r0_39, ms_r0_40, ms_r0_41, ms_r0_42, ms_r0_43, ms_r0_47, MS, j1.2.2.1.1, e3, nI_1, q1]
  · rintro f s ⟨j1, j2⟩
    have MS := j1.1.1.1
    have e3 : (nI (linesS Z.S).1 ≤ nI (linesS Z.S).1) = True := eq_true (nI_le (Nat.le_refl _) (by omega))
    refine ⟨s, ?_, j1, j2⟩
    simp only [F_X3_findsMiddles_L46, chk_true, bnd_some, ob_some, oc_some, oc_none, hl_eq, jn_eq, ix_0, ix_1, if_true, if_false, inb0_2, inb1_2, not_true_eq_false, not_false_eq_true, ite_true, ite_false, true_or, or_true, or_self, zero_eq_one_I, one_eq_zero_I, ms_k0, ms_k1, ms_n1, ms_k2, ms_n2, ms_k3, ms_n3, ms_k4, ms_n4, ms_k5, ms_n5, ms_k6, ms_n6, ms_k7, ms_n7, ms_k8, ms_n8, ms_k9, ms_n9, ms_k10, ms_n10, ms_k11, ms_n11, ms_k12, ms_n12, ms_k13, ms_n13, ms_k14, ms_n14, ms_k15, ms_n15, ms_k16, ms_n16, ms_k17, ms_n17, ms_k18, ms_n18, ms_k19, ms_n19, ms_k20, ms_n20, ms_k21, ms_n21, ms_k22, ms_n22, ms_k23, ms_n23, ms_k24, ms_n24, ms_k25, ms_n25, ms_k26, ms_n26, ms_k27, ms_n27, ms_k28, ms_n28, ms_k29, ms_n29, ms_k30, ms_n30, ms_k31, ms_n31, ms_k32, ms_n32, ms_k33, ms_n33, ms_k34, ms_n34, ms_k35, ms_n35, ms_k36, ms_n36, ms_k37, ms_n37, ms_k38, ms_n38, ms_k39, ms_n39, ms_k40, ms_n40, ms_k41, ms_n41, ms_k50, ms_n50, ms_k51, ms_n51, ms_k52, ms_n52, ms_k53, ms_n53, ms_r0_0, ms_r0_6, ms_r2_0, ms_r2_1, ms_r0_7, ms_r5_0, ms_r5_1, ms_r0_8, ms_r8_0, ms_r8_1, ms_r0_9, ms_r11_0, ms_r11_1, ms_r0_10, ms_r14_0, ms_r14_1, ms_r0_11, ms_r17_0, ms_r17_1, ms_r0_12, ms_r20_0, ms_r20_1, ms_r0_13, ms_r23_0, ms_r23_1, ms_r0_14, ms_r0_15, ms_r0_16, ms_r0_17, ms_r0_18, ms_r0_23, ms_r0_24, ms_r0_25, ms_r0_26, ms_r0_30, ms_r0_31, ms_r0_32, ms_r0_35, ms_r0_36, ms_r0_39, ms_r0_40, ms_r0_41, ms_r0_42, ms_r0_43, ms_r0_47, MS, j1.2.2.1.1, e3]
theorem m_findsMiddles {n : Nat} {K : Nat → Nat} {m : Nat} {h : AH} {Z : Zt} (hn : 20000 < n) (bz : Bz Z) (I : MLb m h Z (linesS Z.S)) : ∃ h', F_X3_findsMiddles n K m h = some ((), h') ∧ MMb m h' Z (middlesS Z.S) ∧ Fr 0 0 (WM m) h h' := by
  have MS := I.1.1.1
  have k0 := ms_k0 MS
  have F1 : Fr 0 0 (WM m) h (h.setI m 28 0) := Fr_setI h m 28 0 (fun _ => Or.inr ⟨rfl, rfl⟩)
  have I0 : MMb m (h.setI m 28 0) Z (md0 Z.S 0) := by
    refine ⟨MC_fr I.1 bz.2.2.1 F1 (fun _ _ _ z => WM_K z), ?_, M3I_fr MS I.2.2 F1 (fun a j _ z w => by unfold WM at z; unfold WL at w; omega), ?_, fun k hk => absurd hk (Nat.not_lt_zero k)⟩
    · rw [AH.I_setI, if_neg (by omega)]; exact I.2.1
    · rw [AH.I_setI, if_pos ⟨rfl, rfl⟩]; rfl
  obtain ⟨h1, q1, q2, q3⟩ := m_md7 (K := K) hn bz I0 (fun h26 => F_X3_findsMiddles_L46 n K m n 0 h26)
  obtain ⟨h2, r1, r2, r3⟩ := m_md46 (K := K) hn bz q2
  refine ⟨h2, ?_, r2, Fr_trans (W := WM m) (Fr_trans (W := WM m) F1 q3 (fun _ _ _ z => z) (fun _ _ _ z => z)) r3 (fun _ _ _ z => z) (fun _ _ _ z => z)⟩
  rw [← r1, ← q1]
  simp only [F_X3_findsMiddles, chk_true, bnd_some, ob_some, oc_some, oc_none, hl_eq, jn_eq, ix_0, ix_1, if_true, if_false, inb0_2, inb1_2, not_true_eq_false, not_false_eq_true, ite_true, ite_false, true_or, or_true, or_self, zero_eq_one_I, one_eq_zero_I, k0]
theorem m_knows {n : Nat} {K : Nat → Nat} {m : Nat} {h : AH} {Z : Zt} (hn : 20000 < n) (bz : Bz Z) (I : InvM m h Z) : ∃ h', F_X3_knows n K m h = some ((), h') ∧ MMb m h' Z (middlesS Z.S) ∧ Fr 0 0 (WK m) h h' := by
  have B := bz.1
  have h15 : Z.S.nv ≤ 15 := B.2.2.2.1
  obtain ⟨M, m2, m3, m4⟩ := I
  have MS := M.1
  have k0 := ms_k0 MS
  rcases m4 with z | ⟨z1, z2, z3⟩
  · have F1 : Fr 0 0 (WK m) h ((h.setI m 29 1).setI m 27 0) := Fr_trans (W := WK m) (Fr_setI (W := WK m) h m 29 1 (fun _ => Or.inr ⟨rfl, by omega⟩)) (Fr_setI (W := WK m) (h.setI m 29 1) m 27 0 (fun _ => Or.inr ⟨rfl, by omega⟩)) (fun _ _ _ z => z) (fun _ _ _ z => z)
    have I0 : MLb m ((h.setI m 29 1).setI m 27 0) Z (lnP Z.S 0) := by
      refine ⟨MC_fr ⟨M, m2, m3⟩ bz.2.2.1 F1 (fun _ _ _ z => z), ?_, ?_, fun k hk => absurd hk (Nat.not_lt_zero k)⟩
      · rw [AH.I_setI, if_neg (by omega), AH.I_setI, if_pos ⟨rfl, rfl⟩]
      · rw [AH.I_setI, if_pos ⟨rfl, rfl⟩]; rfl
    have inner : ∀ i, i < Z.S.nv → ∀ (g : AH) (k : AH → Option (Unit × AH)), MLb m g Z (lnP Z.S i) → ∃ g', F_X3_knows_L30 n K (nI i) m n 0 g k = k g' ∧ MLb m g' Z (lnP Z.S (i + 1)) ∧ Fr 0 0 (WK m) g g' := by
      intro i hi g k J
      refine loopU (fun f j (s : AH) => F_X3_knows_L30 n K (nI i) m f j s k) i (fun j s => MLb m s Z (foldS (lnStep Z.S i) (lnP Z.S i) j) ∧ Fr 0 0 (WK m) g s) (fun o => ∃ g', o = k g' ∧ MLb m g' Z (lnP Z.S (i + 1)) ∧ Fr 0 0 (WK m) g g') ?_ ?_ i 0 g n (by omega) (by omega) ⟨J, Fr_refl g⟩
      · rintro f j s hj ⟨j1, j2⟩
        right
        obtain ⟨t1, t2⟩ := lnP_ok B i (by omega)
        obtain ⟨u1, u2⟩ := lnP_in B hi t1 j (by omega)
        have u3 := tri_j (i := i) (j := j + 1) (by omega) (by omega)
        obtain ⟨s', q1, q2, q3⟩ := m_through (K := K) hn bz j1 u1 (by omega) hi hj
        refine ⟨s', ⟨q2, Fr_trans (W := WK m) j2 q3 (fun _ _ _ z => z) (fun _ _ _ z => WL_K z)⟩, ?_⟩
        have e3 : (nI i ≤ nI j) = False := eq_false (nI_ge hj (by omega))
        simp only [F_X3_knows_L30, chk_true, bnd_some, ob_some, oc_some, oc_none, hl_eq, jn_eq, ix_0, ix_1, if_true, if_false, inb0_2, inb1_2, not_true_eq_false, not_false_eq_true, ite_true, ite_false, true_or, or_true, or_self, zero_eq_one_I, one_eq_zero_I, ms_k0 j1.1.1.1, e3, q1, nI_1]
      · rintro f s ⟨j1, j2⟩
        have e3 : (nI i ≤ nI i) = True := eq_true (nI_le (Nat.le_refl _) (by omega))
        exact ⟨s, by simp only [F_X3_knows_L30, e3, if_true], j1, j2⟩
    have key : ∃ h', F_X3_knows_L20 n K m n 0 ((h.setI m 29 1).setI m 27 0) = some ((), h') ∧ MMb m h' Z (middlesS Z.S) ∧ Fr 0 0 (WK m) ((h.setI m 29 1).setI m 27 0) h' := by
      refine loopU (fun f i (s : AH) => F_X3_knows_L20 n K m f i s) Z.S.nv (fun i s => MLb m s Z (lnP Z.S i) ∧ Fr 0 0 (WK m) ((h.setI m 29 1).setI m 27 0) s) (fun o => ∃ h', o = some ((), h') ∧ MMb m h' Z (middlesS Z.S) ∧ Fr 0 0 (WK m) ((h.setI m 29 1).setI m 27 0) h') ?_ ?_ Z.S.nv 0 _ n (by omega) (by omega) ⟨I0, Fr_refl _⟩
      · rintro f i s hi ⟨j1, j2⟩
        right
        have MS' := j1.1.1.1
        have e3 : (nI Z.S.nv ≤ nI i) = False := eq_false (nI_ge hi (by omega))
        obtain ⟨s', q1, q2, q3⟩ := inner i hi s (fun h25 => F_X3_knows_L20 n K m f (nI (i + 1)) h25) j1
        refine ⟨s', ⟨q2, Fr_trans (W := WK m) j2 q3 (fun _ _ _ z => z) (fun _ _ _ z => z)⟩, ?_⟩
        show F_X3_knows_L20 n K m (f + 1) (nI i) s = _
        rw [F_X3_knows_L20]
        simp only [chk_true, bnd_some, ob_some, oc_some, oc_none, hl_eq, jn_eq, ix_0, ix_1, if_true, if_false, inb0_2, inb1_2, not_true_eq_false, not_false_eq_true, ite_true, ite_false, true_or, or_true, or_self, zero_eq_one_I, one_eq_zero_I, ms_k0 MS', m_voters MS' j1.1.1.2.1, e3, nI_1, q1]
      · rintro f s ⟨j1, j2⟩
        have MS' := j1.1.1.1
        have e3 : (nI Z.S.nv ≤ nI Z.S.nv) = True := eq_true (nI_le (Nat.le_refl _) (by omega))
        obtain ⟨h', q1, q2, q3⟩ := m_findsMiddles (K := K) hn bz j1
        refine ⟨h', ?_, q2, Fr_trans (W := WK m) j2 q3 (fun _ _ _ z => z) (fun _ _ _ z => WM_K z)⟩
        simp only [F_X3_knows_L20, chk_true, bnd_some, ob_some, oc_some, oc_none, hl_eq, jn_eq, ix_0, ix_1, if_true, if_false, inb0_2, inb1_2, not_true_eq_false, not_false_eq_true, ite_true, ite_false, true_or, or_true, or_self, zero_eq_one_I, one_eq_zero_I, ms_k0 MS', m_voters MS' j1.1.1.2.1, e3, q1]
    obtain ⟨h', q1, q2, q3⟩ := key
    refine ⟨h', ?_, q2, Fr_trans (W := WK m) F1 q3 (fun _ _ _ z => z) (fun _ _ _ z => z)⟩
    have hz : (h.I m 29 = 0) = True := eq_true z
    simp only [F_X3_knows, chk_true, bnd_some, ob_some, oc_some, oc_none, hl_eq, jn_eq, ix_0, ix_1, if_true, if_false, inb0_2, inb1_2, not_true_eq_false, not_false_eq_true, ite_true, ite_false, true_or, or_true, or_self, zero_eq_one_I, one_eq_zero_I, k0, hz, q1]
  · refine ⟨h, ?_, ⟨⟨M, m2, m3⟩, z1, z2, z3⟩, Fr_refl h⟩
    have hz : (h.I m 29 = 0) = False := eq_false (by rw [z1]; decide)
    simp only [F_X3_knows, chk_true, bnd_some, ob_some, oc_some, oc_none, hl_eq, jn_eq, ix_0, ix_1, if_true, if_false, inb0_2, inb1_2, not_true_eq_false, not_false_eq_true, ite_true, ite_false, true_or, or_true, or_self, zero_eq_one_I, one_eq_zero_I, k0, hz]
theorem MMb_inv {m : Nat} {h : AH} {Z : Zt} (I : MMb m h Z (middlesS Z.S)) : InvM m h Z := ⟨I.1.1, I.1.2.1, I.1.2.2, Or.inr ⟨I.2.1, I.2.2.1, I.2.2.2⟩⟩
theorem mok_know {m : Nat} {h h1 : AH} {Z : Zt} {r : Int32} {o : Option (Int32 × AH)} (I : MMb m h1 Z (middlesS Z.S)) (F : Fr 0 0 (WK m) h h1) (e : o = some (r, h1)) : MOk m Z r o h := ⟨h1, e, MMb_inv I, Fr_mono F (Nat.le_refl _) (Nat.le_refl _) (fun _ _ _ z => ⟨WK_in z, WK_31 z⟩)⟩
theorem om_line {n : Nat} {K : Nat → Nat} {m : Nat} {h : AH} {Z : Zt} (hn : 20000 < n) (bz : Bz Z) (I : InvM m h Z) (v w : Int32) : MOk m Z (lineS Z.S v w) (F_X3_line n K m v w h) h := by
  have k0 := ms_k0 I.1.1
  obtain ⟨h1, q1, J, F⟩ := m_knows (K := K) hn bz I
  refine mok_know J F ?_
  have MS := J.1.1.1
  have L := J.2.2.1
  have hb := (lines_ok bz.1).2
  simp only [F_X3_line, chk_true, bnd_some, ob_some, oc_some, oc_none, hl_eq, jn_eq, ix_0, ix_1, if_true, if_false, inb0_2, inb1_2, not_true_eq_false, not_false_eq_true, ite_true, ite_false, true_or, or_true, or_self, zero_eq_one_I, one_eq_zero_I, ms_k0, ms_k1, ms_n1, ms_k2, ms_n2, ms_k3, ms_n3, ms_k4, ms_n4, ms_k5, ms_n5, ms_k6, ms_n6, ms_k7, ms_n7, ms_k8, ms_n8, ms_k9, ms_n9, ms_k10, ms_n10, ms_k11, ms_n11, ms_k12, ms_n12, ms_k13, ms_n13, ms_k14, ms_n14, ms_k15, ms_n15, ms_k16, ms_n16, ms_k17, ms_n17, ms_k18, ms_n18, ms_k19, ms_n19, ms_k20, ms_n20, ms_k21, ms_n21, ms_k22, ms_n22, ms_k23, ms_n23, ms_k24, ms_n24, ms_k25, ms_n25, ms_k26, ms_n26, ms_k27, ms_n27, ms_k28, ms_n28, ms_k29, ms_n29, ms_k30, ms_n30, ms_k31, ms_n31, ms_k32, ms_n32, ms_k33, ms_n33, ms_k34, ms_n34, ms_k35, ms_n35, ms_k36, ms_n36, ms_k37, ms_n37, ms_k38, ms_n38, ms_k39, ms_n39, ms_k40, ms_n40, ms_k41, ms_n41, ms_k50, ms_n50, ms_k51, ms_n51, ms_k52, ms_n52, ms_k53, ms_n53, ms_r0_0, ms_r0_6, ms_r2_0, ms_r2_1, ms_r0_7, ms_r5_0, ms_r5_1, ms_r0_8, ms_r8_0, ms_r8_1, ms_r0_9, ms_r11_0, ms_r11_1, ms_r0_10, ms_r14_0, ms_r14_1, ms_r0_11, ms_r17_0, ms_r17_1, ms_r0_12, ms_r20_0, ms_r20_1, ms_r0_13, ms_r23_0, ms_r23_1, ms_r0_14, ms_r0_15, ms_r0_16, ms_r0_17, ms_r0_18, ms_r0_23, ms_r0_24, ms_r0_25, ms_r0_26, ms_r0_30, ms_r0_31, ms_r0_32, ms_r0_35, ms_r0_36, ms_r0_39, ms_r0_40, ms_r0_41, ms_r0_42, ms_r0_43, ms_r0_47, MS, k0, q1, L.1, m_in0, bI_0, lineS]
  by_cases c1 : v = -1
  · simp only [c1, chk_true, bnd_some, ob_some, oc_some, oc_none, hl_eq, jn_eq, ix_0, ix_1, if_true, if_false, inb0_2, inb1_2, not_true_eq_false, not_false_eq_true, ite_true, ite_false, true_or, or_true, or_self, zero_eq_one_I, one_eq_zero_I]
  · simp only [c1, chk_true, bnd_some, ob_some, oc_some, oc_none, hl_eq, jn_eq, ix_0, ix_1, if_true, if_false, inb0_2, inb1_2, not_true_eq_false, not_false_eq_true, ite_true, ite_false, true_or, or_true, or_self, zero_eq_one_I, one_eq_zero_I]
    cases c2 : inS v 0 (nI (linesS Z.S).1 - 1)
    · simp
    · obtain ⟨k, hk, rfl⟩ := (inS_nI (by omega)).1 c2
      obtain ⟨g1, g2, g3⟩ := L.2 k hk
      have e1 : ix (nI k) = k := ix_nI (by omega)
      have e2 : inb (nI k) 105 = True := eq_true ((inb_nI (by omega)).2 (by omega))
      simp only [chk_true, bnd_some, ob_some, oc_some, oc_none, hl_eq, jn_eq, ix_0, ix_1, if_true, if_false, inb0_2, inb1_2, not_true_eq_false, not_false_eq_true, ite_true, ite_false, true_or, or_true, or_self, zero_eq_one_I, one_eq_zero_I, ms_k0, ms_k1, ms_n1, ms_k2, ms_n2, ms_k3, ms_n3, ms_k4, ms_n4, ms_k5, ms_n5, ms_k6, ms_n6, ms_k7, ms_n7, ms_k8, ms_n8, ms_k9, ms_n9, ms_k10, ms_n10, ms_k11, ms_n11, ms_k12, ms_n12, ms_k13, ms_n13, ms_k14, ms_n14, ms_k15, ms_n15, ms_k16, ms_n16, ms_k17, ms_n17, ms_k18, ms_n18, ms_k19, ms_n19, ms_k20, ms_n20, ms_k21, ms_n21, ms_k22, ms_n22, ms_k23, ms_n23, ms_k24, ms_n24, ms_k25, ms_n25, ms_k26, ms_n26, ms_k27, ms_n27, ms_k28, ms_n28, ms_k29, ms_n29, ms_k30, ms_n30, ms_k31, ms_n31, ms_k32, ms_n32, ms_k33, ms_n33, ms_k34, ms_n34, ms_k35, ms_n35, ms_k36, ms_n36, ms_k37, ms_n37, ms_k38, ms_n38, ms_k39, ms_n39, ms_k40, ms_n40, ms_k41, ms_n41, ms_k50, ms_n50, ms_k51, ms_n51, ms_k52, ms_n52, ms_k53, ms_n53, ms_r0_0, ms_r0_6, ms_r2_0, ms_r2_1, ms_r0_7, ms_r5_0, ms_r5_1, ms_r0_8, ms_r8_0, ms_r8_1, ms_r0_9, ms_r11_0, ms_r11_1, ms_r0_10, ms_r14_0, ms_r14_1, ms_r0_11, ms_r17_0, ms_r17_1, ms_r0_12, ms_r20_0, ms_r20_1, ms_r0_13, ms_r23_0, ms_r23_1, ms_r0_14, ms_r0_15, ms_r0_16, ms_r0_17, ms_r0_18, ms_r0_23, ms_r0_24, ms_r0_25, ms_r0_26, ms_r0_30, ms_r0_31, ms_r0_32, ms_r0_35, ms_r0_36, ms_r0_39, ms_r0_40, ms_r0_41, ms_r0_42, ms_r0_43, ms_r0_47, MS, g1, g2, g3, Bool.true_eq_false, e1, e2]
      unfold cp3
      by_cases w0 : w = 0
      · simp [w0, (in02 0).2 (Or.inl rfl)]
      · by_cases w1 : w = 1
        · simp [w1, (in02 1).2 (Or.inr (Or.inl rfl))]
        · by_cases w2 : w = 2
          · simp [w2, (in02 2).2 (Or.inr (Or.inr rfl))]
          · have : inS w 0 2 = false := by
              cases hh : inS w 0 2
              · rfl
              · rcases (in02 w).1 hh with y | y | y
                · exact absurd y w0
                · exact absurd y w1
                · exact absurd y w2
            simp [w0, w1, w2, this]
theorem om_middle {n : Nat} {K : Nat → Nat} {m : Nat} {h : AH} {Z : Zt} (hn : 20000 < n) (bz : Bz Z) (I : InvM m h Z) (v w : Int32) : MOk m Z (middleS Z.S v w) (F_X3_middle n K m v w h) h := by
  have k0 := ms_k0 I.1.1
  obtain ⟨h1, q1, J, F⟩ := m_knows (K := K) hn bz I
  refine mok_know J F ?_
  have MS := J.1.1.1
  have L := J.2.2.2
  have hb := (middles_ok bz.1).2
  simp only [F_X3_middle, chk_true, bnd_some, ob_some, oc_some, oc_none, hl_eq, jn_eq, ix_0, ix_1, if_true, if_false, inb0_2, inb1_2, not_true_eq_false, not_false_eq_true, ite_true, ite_false, true_or, or_true, or_self, zero_eq_one_I, one_eq_zero_I, ms_k0, ms_k1, ms_n1, ms_k2, ms_n2, ms_k3, ms_n3, ms_k4, ms_n4, ms_k5, ms_n5, ms_k6, ms_n6, ms_k7, ms_n7, ms_k8, ms_n8, ms_k9, ms_n9, ms_k10, ms_n10, ms_k11, ms_n11, ms_k12, ms_n12, ms_k13, ms_n13, ms_k14, ms_n14, ms_k15, ms_n15, ms_k16, ms_n16, ms_k17, ms_n17, ms_k18, ms_n18, ms_k19, ms_n19, ms_k20, ms_n20, ms_k21, ms_n21, ms_k22, ms_n22, ms_k23, ms_n23, ms_k24, ms_n24, ms_k25, ms_n25, ms_k26, ms_n26, ms_k27, ms_n27, ms_k28, ms_n28, ms_k29, ms_n29, ms_k30, ms_n30, ms_k31, ms_n31, ms_k32, ms_n32, ms_k33, ms_n33, ms_k34, ms_n34, ms_k35, ms_n35, ms_k36, ms_n36, ms_k37, ms_n37, ms_k38, ms_n38, ms_k39, ms_n39, ms_k40, ms_n40, ms_k41, ms_n41, ms_k50, ms_n50, ms_k51, ms_n51, ms_k52, ms_n52, ms_k53, ms_n53, ms_r0_0, ms_r0_6, ms_r2_0, ms_r2_1, ms_r0_7, ms_r5_0, ms_r5_1, ms_r0_8, ms_r8_0, ms_r8_1, ms_r0_9, ms_r11_0, ms_r11_1, ms_r0_10, ms_r14_0, ms_r14_1, ms_r0_11, ms_r17_0, ms_r17_1, ms_r0_12, ms_r20_0, ms_r20_1, ms_r0_13, ms_r23_0, ms_r23_1, ms_r0_14, ms_r0_15, ms_r0_16, ms_r0_17, ms_r0_18, ms_r0_23, ms_r0_24, ms_r0_25, ms_r0_26, ms_r0_30, ms_r0_31, ms_r0_32, ms_r0_35, ms_r0_36, ms_r0_39, ms_r0_40, ms_r0_41, ms_r0_42, ms_r0_43, ms_r0_47, MS, k0, q1, L.1, m_in0, bI_0, middleS]
  by_cases c1 : v = -1
  · simp only [c1, chk_true, bnd_some, ob_some, oc_some, oc_none, hl_eq, jn_eq, ix_0, ix_1, if_true, if_false, inb0_2, inb1_2, not_true_eq_false, not_false_eq_true, ite_true, ite_false, true_or, or_true, or_self, zero_eq_one_I, one_eq_zero_I]
  · simp only [c1, chk_true, bnd_some, ob_some, oc_some, oc_none, hl_eq, jn_eq, ix_0, ix_1, if_true, if_false, inb0_2, inb1_2, not_true_eq_false, not_false_eq_true, ite_true, ite_false, true_or, or_true, or_self, zero_eq_one_I, one_eq_zero_I]
    cases c2 : inS v 0 (nI (middlesS Z.S).1 - 1)
    · simp
    · obtain ⟨k, hk, rfl⟩ := (inS_nI (by omega)).1 c2
      obtain ⟨g1, g2, g3⟩ := L.2 k hk
      have e1 : ix (nI k) = k := ix_nI (by omega)
      have e2 : inb (nI k) 5600 = True := eq_true ((inb_nI (by omega)).2 (by omega))
      simp only [chk_true, bnd_some, ob_some, oc_some, oc_none, hl_eq, jn_eq, ix_0, ix_1, if_true, if_false, inb0_2, inb1_2, not_true_eq_false, not_false_eq_true, ite_true, ite_false, true_or, or_true, or_self, zero_eq_one_I, one_eq_zero_I, ms_k0, ms_k1, ms_n1, ms_k2, ms_n2, ms_k3, ms_n3, ms_k4, ms_n4, ms_k5, ms_n5, ms_k6, ms_n6, ms_k7, ms_n7, ms_k8, ms_n8, ms_k9, ms_n9, ms_k10, ms_n10, ms_k11, ms_n11, ms_k12, ms_n12, ms_k13, ms_n13, ms_k14, ms_n14, ms_k15, ms_n15, ms_k16, ms_n16, ms_k17, ms_n17, ms_k18, ms_n18, ms_k19, ms_n19, ms_k20, ms_n20, ms_k21, ms_n21, ms_k22, ms_n22, ms_k23, ms_n23, ms_k24, ms_n24, ms_k25, ms_n25, ms_k26, ms_n26, ms_k27, ms_n27, ms_k28, ms_n28, ms_k29, ms_n29, ms_k30, ms_n30, ms_k31, ms_n31, ms_k32, ms_n32, ms_k33, ms_n33, ms_k34, ms_n34, ms_k35, ms_n35, ms_k36, ms_n36, ms_k37, ms_n37, ms_k38, ms_n38, ms_k39, ms_n39, ms_k40, ms_n40, ms_k41, ms_n41, ms_k50, ms_n50, ms_k51, ms_n51, ms_k52, ms_n52, ms_k53, ms_n53, ms_r0_0, ms_r0_6, ms_r2_0, ms_r2_1, ms_r0_7, ms_r5_0, ms_r5_1, ms_r0_8, ms_r8_0, ms_r8_1, ms_r0_9, ms_r11_0, ms_r11_1, ms_r0_10, ms_r14_0, ms_r14_1, ms_r0_11, ms_r17_0, ms_r17_1, ms_r0_12, ms_r20_0, ms_r20_1, ms_r0_13, ms_r23_0, ms_r23_1, ms_r0_14, ms_r0_15, ms_r0_16, ms_r0_17, ms_r0_18, ms_r0_23, ms_r0_24, ms_r0_25, ms_r0_26, ms_r0_30, ms_r0_31, ms_r0_32, ms_r0_35, ms_r0_36, ms_r0_39, ms_r0_40, ms_r0_41, ms_r0_42, ms_r0_43, ms_r0_47, MS, g1, g2, g3, Bool.true_eq_false, e1, e2, l_toI]
      unfold cp3
      by_cases w0 : w = 0
      · simp [w0, (in02 0).2 (Or.inl rfl)]
      · by_cases w1 : w = 1
        · simp [w1, (in02 1).2 (Or.inr (Or.inl rfl))]
        · by_cases w2 : w = 2
          · simp [w2, (in02 2).2 (Or.inr (Or.inr rfl))]
          · have : inS w 0 2 = false := by
              cases hh : inS w 0 2
              · rfl
              · rcases (in02 w).1 hh with y | y | y
                · exact absurd y w0
                · exact absurd y w1
                · exact absurd y w2
            simp [w0, w1, w2, this]
