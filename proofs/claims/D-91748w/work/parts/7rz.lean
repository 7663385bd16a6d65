/-! PURE PART RZ: the model's middles, one spot comes -/
set_option maxRecDepth 100000
theorem c_le {a b : Int64} : (lg_cmp a b ≤ 0) = ¬ (b.toInt < a.toInt) := by
  rw [lg_cmp_le, Int64.le_iff_toInt_le]
  exact propext ⟨fun z => by omega, fun z => by omega⟩
theorem m_isBehind {n : Nat} {K : Nat → Nat} {m : Nat} {h : AH} (MS : MSh m h) {k : Nat} (hk : k < 5600) {s t : T3} (bs : SB s) (bt : SB t) (s0 : h.L (m + 35) k = Int64.ofInt s.1) (s1 : h.L (m + 36) k = Int64.ofInt s.2.1) (s2 : h.L (m + 37) k = Int64.ofInt s.2.2) : F_X3_isBehind n K m (nI k) (Int64.ofInt t.1) (Int64.ofInt t.2.1) (Int64.ofInt t.2.2) h = some (bI (aheadM t s), h) := by
  obtain ⟨a1, a2, a3⟩ := bs
  obtain ⟨b1, b2, b3⟩ := bt
  have m1 := mul_bd a1 b3
  have m2 := mul_bd b1 a3
  have m3 := mul_bd a2 b3
  have m4 := mul_bd b2 a3
  have q1 : ix (nI k) = k := ix_nI (by omega)
  have q2 : inb (nI k) 5600 = True := eq_true ((inb_nI (by omega)).2 hk)
  have e1 : (Int64.ofInt (s.1 * t.2.2 - t.1 * s.2.2)).toInt = s.1 * t.2.2 - t.1 * s.2.2 := l_of (by omega) (by omega)
  have e2 : (Int64.ofInt (s.2.1 * t.2.2)).toInt = s.2.1 * t.2.2 := l_of (by omega) (by omega)
  have e3 : (Int64.ofInt (t.2.1 * s.2.2)).toInt = t.2.1 * s.2.2 := l_of (by omega) (by omega)
  have z0 : (0 : Int64).toInt = 0 := rfl
  simp only [F_X3_isBehind, chk_true, bnd_some, ob_some, oc_some, oc_none, hl_eq, jn_eq, ix_0, ix_1, if_true, if_false, inb0_2, inb1_2, not_true_eq_false, not_false_eq_true, ite_true, ite_false, true_or, or_true, or_self, zero_eq_one_I, one_eq_zero_I, ms_k0, ms_k1, ms_n1, ms_k2, ms_n2, ms_k3, ms_n3, ms_k4, ms_n4, ms_k5, ms_n5, ms_k6, ms_n6, ms_k7, ms_n7, ms_k8, ms_n8, ms_k9, ms_n9, ms_k10, ms_n10, ms_k11, ms_n11, ms_k12, ms_n12, ms_k13, ms_n13, ms_k14, ms_n14, ms_k15, ms_n15, ms_k16, ms_n16, ms_k17, ms_n17, ms_k18, ms_n18, ms_k19, ms_n19, ms_k20, ms_n20, ms_k21, ms_n21, ms_k22, ms_n22, ms_k23, ms_n23, ms_k24, ms_n24, ms_k25, ms_n25, ms_k26, ms_n26, ms_k27, ms_n27, ms_k28, ms_n28, ms_k29, ms_n29, ms_k30, ms_n30, ms_k31, ms_n31, ms_k32, ms_n32, ms_k33, ms_n33, ms_k34, ms_n34, ms_k35, ms_n35, ms_k36, ms_n36, ms_k37, ms_n37, ms_k38, ms_n38, ms_k39, ms_n39, ms_k40, ms_n40, ms_k41, ms_n41, ms_k50, ms_n50, ms_k51, ms_n51, ms_k52, ms_n52, ms_k53, ms_n53, ms_r0_0, ms_r0_6, ms_r2_0, ms_r2_1, ms_r0_7, ms_r5_0, ms_r5_1, ms_r0_8, ms_r8_0, ms_r8_1, ms_r0_9, ms_r11_0, ms_r11_1, ms_r0_10, ms_r14_0, ms_r14_1, ms_r0_11, ms_r17_0, ms_r17_1, ms_r0_12, ms_r20_0, ms_r20_1, ms_r0_13, ms_r23_0, ms_r23_1, ms_r0_14, ms_r0_15, ms_r0_16, ms_r0_17, ms_r0_18, ms_r0_23, ms_r0_24, ms_r0_25, ms_r0_26, ms_r0_30, ms_r0_31, ms_r0_32, ms_r0_35, ms_r0_36, ms_r0_39, ms_r0_40, ms_r0_41, ms_r0_42, ms_r0_43, ms_r0_47, MS, q1, q2, s0, s1, s2, l_pp, l_mm, c_eq0, c_le, e1, e2, e3, z0]
  unfold aheadM bI
  by_cases c4 : s.1 * t.2.2 - t.1 * s.2.2 = 0
  · have c4' : t.1 * s.2.2 - s.1 * t.2.2 = 0 := by omega
    by_cases c3 : t.2.1 * s.2.2 < s.2.1 * t.2.2 <;> simp [c3, c4, c4']
  · have c4' : ¬ (t.1 * s.2.2 - s.1 * t.2.2 = 0) := by omega
    by_cases c5 : t.1 * s.2.2 - s.1 * t.2.2 < 0
    · have c6 : 0 < s.1 * t.2.2 - t.1 * s.2.2 := by omega
      simp [c4, c4', c5, c6]
      omega
    · have c6 : ¬ (0 < s.1 * t.2.2 - t.1 * s.2.2) := by omega
      simp [c4, c4', c5, c6]
      omega
theorem m_add51 {n : Nat} {K : Nat → Nat} {m : Nat} {h : AH} (hn : 20000 < n) (MS : MSh m h) {l : TL} (L : M3L m h l) (hl : l.1 ≤ 5600) (T : ∀ k, k < l.1 → SB (l.2 k)) {t : T3} (bt : SB t) (k : Option (Unit × AH)) : F_X3_addsMiddle_L51 n K (Int64.ofInt t.2.2) (Int64.ofInt t.2.1) (Int64.ofInt t.1) m h n 0 k = if memS t l = true then some ((), h) else k := by
  have key := loopG (fun f i => F_X3_addsMiddle_L51 n K (Int64.ofInt t.2.2) (Int64.ofInt t.2.1) (Int64.ofInt t.1) m h f i k) l.1 (fun q => decide (l.2 q = t)) (fun _ => some ((), h)) k
    (by
      intro f q hq
      have e1 : ix (nI q) = q := ix_nI (by omega)
      have e2 : inb (nI q) 5600 = True := eq_true ((inb_nI (by omega)).2 (by omega))
      have e3 : (nI l.1 ≤ nI q) = False := eq_false (nI_ge hq (by omega))
      obtain ⟨g1, g2, g3⟩ := L.2 q hq
      obtain ⟨a1, a2, a3⟩ := T q hq
      obtain ⟨b1, b2, b3⟩ := bt
      have u1 : (Int64.ofInt (l.2 q).1).toInt = (l.2 q).1 := l_of (by omega) (by omega)
      have u2 : (Int64.ofInt (l.2 q).2.1).toInt = (l.2 q).2.1 := l_of (by omega) (by omega)
      have u3 : (Int64.ofInt (l.2 q).2.2).toInt = (l.2 q).2.2 := l_of (by omega) (by omega)
      have v1 : (Int64.ofInt t.1).toInt = t.1 := l_of (by omega) (by omega)
      have v2 : (Int64.ofInt t.2.1).toInt = t.2.1 := l_of (by omega) (by omega)
      have v3 : (Int64.ofInt t.2.2).toInt = t.2.2 := l_of (by omega) (by omega)
      simp only [F_X3_addsMiddle_L51, chk_true, bnd_some, ob_some, oc_some, oc_none, hl_eq, jn_eq, ix_0, ix_1, if_true, if_false, inb0_2, inb1_2, not_true_eq_false, not_false_eq_true, ite_true, ite_false, true_or, or_true, or_self, zero_eq_one_I, one_eq_zero_I, ms_k0, ms_k1, ms_n1, ms_k2, ms_n2, ms_k3, ms_n3, ms_k4, ms_n4, ms_k5, ms_n5, ms_k6, ms_n6, ms_k7, ms_n7, ms_k8, ms_n8, ms_k9, ms_n9, ms_k10, ms_n10, ms_k11, ms_n11, ms_k12, ms_n12, ms_k13, ms_n13, ms_k14, ms_n14, ms_k15, ms_n15, ms_k16, ms_n16, ms_k17, ms_n17, ms_k18, ms_n18, ms_k19, ms_n19, ms_k20, ms_n20, ms_k21, ms_n21, ms_k22, ms_n22, ms_k23, ms_n23, ms_k24, ms_n24, ms_k25, ms_n25, ms_k26, ms_n26, ms_k27, ms_n27, ms_k28, ms_n28, ms_k29, ms_n29, ms_k30, ms_n30, ms_k31, ms_n31, ms_k32, ms_n32, ms_k33, ms_n33, ms_k34, ms_n34, ms_k35, ms_n35, ms_k36, ms_n36, ms_k37, ms_n37, ms_k38, ms_n38, ms_k39, ms_n39, ms_k40, ms_n40, ms_k41, ms_n41, ms_k50, ms_n50, ms_k51, ms_n51, ms_k52, ms_n52, ms_k53, ms_n53, ms_r0_0, ms_r0_6, ms_r2_0, ms_r2_1, ms_r0_7, ms_r5_0, ms_r5_1, ms_r0_8, ms_r8_0, ms_r8_1, ms_r0_9, ms_r11_0, ms_r11_1, ms_r0_10, ms_r14_0, ms_r14_1, ms_r0_11, ms_r17_0, ms_r17_1, ms_r0_12, ms_r20_0, ms_r20_1, ms_r0_13, ms_r23_0, ms_r23_1, ms_r0_14, ms_r0_15, ms_r0_16, ms_r0_17, ms_r0_18, ms_r0_23, ms_r0_24, ms_r0_25, ms_r0_26, ms_r0_30, ms_r0_31, ms_r0_32, ms_r0_35, ms_r0_36, ms_r0_39, ms_r0_40, ms_r0_41, ms_r0_42, ms_r0_43, ms_r0_47, MS, L.1, e1, e2, e3, g1, g2, g3, c_eq, u1, u2, u3, v1, v2, v3, nI_1]
      generalize l.2 q = s
      obtain ⟨s1, s2, s3⟩ := s
      obtain ⟨t1, t2, t3⟩ := t
      by_cases c1 : s1 = t1
      · by_cases c2 : s2 = t2
        · by_cases c3 : s3 = t3 <;> simp [c1, c2, c3]
        · simp [c1, c2]
      · simp [c1])
    (by
      intro f
      have e3 : (nI l.1 ≤ nI l.1) = True := eq_true (nI_le (Nat.le_refl _) (by omega))
      simp only [F_X3_addsMiddle_L51, chk_true, bnd_some, ob_some, oc_some, oc_none, hl_eq, jn_eq, ix_0, ix_1, if_true, if_false, inb0_2, inb1_2, not_true_eq_false, not_false_eq_true, ite_true, ite_false, true_or, or_true, or_self, zero_eq_one_I, one_eq_zero_I, ms_k0, ms_k1, ms_n1, ms_k2, ms_n2, ms_k3, ms_n3, ms_k4, ms_n4, ms_k5, ms_n5, ms_k6, ms_n6, ms_k7, ms_n7, ms_k8, ms_n8, ms_k9, ms_n9, ms_k10, ms_n10, ms_k11, ms_n11, ms_k12, ms_n12, ms_k13, ms_n13, ms_k14, ms_n14, ms_k15, ms_n15, ms_k16, ms_n16, ms_k17, ms_n17, ms_k18, ms_n18, ms_k19, ms_n19, ms_k20, ms_n20, ms_k21, ms_n21, ms_k22, ms_n22, ms_k23, ms_n23, ms_k24, ms_n24, ms_k25, ms_n25, ms_k26, ms_n26, ms_k27, ms_n27, ms_k28, ms_n28, ms_k29, ms_n29, ms_k30, ms_n30, ms_k31, ms_n31, ms_k32, ms_n32, ms_k33, ms_n33, ms_k34, ms_n34, ms_k35, ms_n35, ms_k36, ms_n36, ms_k37, ms_n37, ms_k38, ms_n38, ms_k39, ms_n39, ms_k40, ms_n40, ms_k41, ms_n41, ms_k50, ms_n50, ms_k51, ms_n51, ms_k52, ms_n52, ms_k53, ms_n53, ms_r0_0, ms_r0_6, ms_r2_0, ms_r2_1, ms_r0_7, ms_r5_0, ms_r5_1, ms_r0_8, ms_r8_0, ms_r8_1, ms_r0_9, ms_r11_0, ms_r11_1, ms_r0_10, ms_r14_0, ms_r14_1, ms_r0_11, ms_r17_0, ms_r17_1, ms_r0_12, ms_r20_0, ms_r20_1, ms_r0_13, ms_r23_0, ms_r23_1, ms_r0_14, ms_r0_15, ms_r0_16, ms_r0_17, ms_r0_18, ms_r0_23, ms_r0_24, ms_r0_25, ms_r0_26, ms_r0_30, ms_r0_31, ms_r0_32, ms_r0_35, ms_r0_36, ms_r0_39, ms_r0_40, ms_r0_41, ms_r0_42, ms_r0_43, ms_r0_47, MS, L.1, e3]) n (by omega)
  exact key.trans (sel_mem _ _)
def AH.shM (h : AH) (m k : Nat) : AH :=
  let h59 := h.setL (m + 35) (k + 1) (h.L (m + 35) k)
  let h65 := h59.setL (m + 36) (k + 1) (h59.L (m + 36) k)
  h65.setL (m + 37) (k + 1) (h65.L (m + 37) k)
theorem shM_L (h : AH) (m k a j : Nat) : (h.shM m k).L a j = if (m + 35 ≤ a ∧ a ≤ m + 37) ∧ j = k + 1 then h.L a k else h.L a j := by
  unfold AH.shM
  simp only [AH.L_setL]
  by_cases c : j = k + 1
  · by_cases a2 : a = m + 35
    · subst a2; subst c
      rw [if_neg (by omega), if_neg (by omega), if_pos ⟨rfl, rfl⟩, if_pos (by omega)]
    · by_cases a3 : a = m + 36
      · subst a3; subst c
        rw [if_neg (by omega), if_pos ⟨rfl, rfl⟩, if_neg (by omega), if_pos (by omega)]
      · by_cases a4 : a = m + 37
        · subst a4; subst c
          rw [if_pos ⟨rfl, rfl⟩, if_neg (by omega), if_neg (by omega), if_pos (by omega)]
        · rw [if_neg (by omega), if_neg (by omega), if_neg (by omega), if_neg (by omega)]
  · rw [if_neg (by omega), if_neg (by omega), if_neg (by omega), if_neg (by omega)]
def AH.puM (h : AH) (m k : Nat) (a b c : Int64) (v : Int32) : AH := (((h.setL (m + 35) k a).setL (m + 36) k b).setL (m + 37) k c).setI m 28 v
theorem puM_35 (h : AH) (m k : Nat) (a b c : Int64) (v : Int32) (j : Nat) : (h.puM m k a b c v).L (m + 35) j = if j = k then a else h.L (m + 35) j := by
  unfold AH.puM
  rw [AH.L_setI, AH.L_setL, if_neg (by omega), AH.L_setL, if_neg (by omega), AH.L_setL]
  by_cases z : j = k
  · rw [if_pos ⟨rfl, z⟩, if_pos z]
  · rw [if_neg (fun y => z y.2), if_neg z]
theorem puM_36 (h : AH) (m k : Nat) (a b c : Int64) (v : Int32) (j : Nat) : (h.puM m k a b c v).L (m + 36) j = if j = k then b else h.L (m + 36) j := by
  unfold AH.puM
  rw [AH.L_setI, AH.L_setL, if_neg (by omega), AH.L_setL]
  by_cases z : j = k
  · rw [if_pos ⟨rfl, z⟩, if_pos z]
  · rw [if_neg (fun y => z y.2), if_neg z, AH.L_setL, if_neg (by omega)]
theorem puM_37 (h : AH) (m k : Nat) (a b c : Int64) (v : Int32) (j : Nat) : (h.puM m k a b c v).L (m + 37) j = if j = k then c else h.L (m + 37) j := by
  unfold AH.puM
  rw [AH.L_setI, AH.L_setL]
  by_cases z : j = k
  · rw [if_pos ⟨rfl, z⟩, if_pos z]
  · rw [if_neg (fun y => z y.2), if_neg z, AH.L_setL, if_neg (by omega), AH.L_setL, if_neg (by omega)]
theorem puM_fr (h : AH) (m k : Nat) (a b c : Int64) (v : Int32) : Fr 0 0 (WM m) h (h.puM m k a b c v) := by
  refine ⟨id, Nat.le_refl _, Nat.le_refl _, Nat.le_refl _, Nat.le_refl _, fun p _ => ⟨rfl, rfl, fun j hj => ⟨?_, ?_, rfl⟩⟩⟩
  · unfold WM at hj
    unfold AH.puM
    rw [AH.I_setI, if_neg (by omega)]; rfl
  · unfold WM at hj
    unfold AH.puM
    rw [AH.L_setI, AH.L_setL, if_neg (by omega), AH.L_setL, if_neg (by omega), AH.L_setL, if_neg (by omega)]
theorem shM_fr (h : AH) (m k : Nat) : Fr 0 0 (WM m) h (h.shM m k) := by
  refine ⟨id, Nat.le_refl _, Nat.le_refl _, Nat.le_refl _, Nat.le_refl _, fun p _ => ⟨rfl, rfl, fun j hj => ⟨rfl, ?_, rfl⟩⟩⟩
  unfold WM at hj
  rw [shM_L, if_neg (by omega)]
def QM (m : Nat) (h : AH) (l : TL) (k : Nat) : Prop := MSh m h ∧ h.I m 28 = nI l.1 ∧ (∀ i, i < k → h.L (m + 35) i = Int64.ofInt (l.2 i).1 ∧ h.L (m + 36) i = Int64.ofInt (l.2 i).2.1 ∧ h.L (m + 37) i = Int64.ofInt (l.2 i).2.2) ∧ (∀ i, k < i → i ≤ l.1 → h.L (m + 35) i = Int64.ofInt (l.2 (i - 1)).1 ∧ h.L (m + 36) i = Int64.ofInt (l.2 (i - 1)).2.1 ∧ h.L (m + 37) i = Int64.ofInt (l.2 (i - 1)).2.2)
theorem puM_ok {m : Nat} {h : AH} {l : TL} {k : Nat} (hk : k ≤ l.1) (Q : QM m h l k) (t : T3) : M3L m (h.puM m k (Int64.ofInt t.1) (Int64.ofInt t.2.1) (Int64.ofInt t.2.2) (nI (l.1 + 1))) (l.1 + 1, insF k t l.2) := by
  refine ⟨?_, fun i hi => ?_⟩
  · unfold AH.puM
    rw [AH.I_setI, if_pos ⟨rfl, rfl⟩]
  · have hi' : i < l.1 + 1 := hi
    show (h.puM m k (Int64.ofInt t.1) (Int64.ofInt t.2.1) (Int64.ofInt t.2.2) (nI (l.1 + 1))).L (m + 35) i = Int64.ofInt (insF k t l.2 i).1 ∧ _ = Int64.ofInt (insF k t l.2 i).2.1 ∧ _ = Int64.ofInt (insF k t l.2 i).2.2
    rw [puM_35, puM_36, puM_37]
    unfold insF
    by_cases c1 : i = k
    · subst c1
      rw [if_pos rfl, if_pos rfl, if_pos rfl, if_neg (by omega), if_pos rfl]
      exact ⟨rfl, rfl, rfl⟩
    · simp only [if_neg c1]
      by_cases c2 : i < k
      · simp only [if_pos c2]; exact Q.2.2.1 i c2
      · simp only [if_neg c2]; exact Q.2.2.2 i (by omega) (by omega)
theorem m_add126 {n : Nat} {K : Nat → Nat} {m : Nat} {l : TL} (hl : l.1 < 5600) (T : ∀ k, k < l.1 → SB (l.2 k)) {t : T3} (bt : SB t) : ∀ k, k ≤ l.1 → ∀ (h : AH) (fuel : Nat), k < fuel → QM m h l k → ∃ h', F_X3_addsMiddle_L126 n K (Int64.ofInt t.2.2) (Int64.ofInt t.2.1) (Int64.ofInt t.1) m fuel (nI k) h = some ((), h') ∧ M3L m h' (l.1 + 1, insF (dnS aheadM t l.2 k) t l.2) ∧ Fr 0 0 (WM m) h h' := by
  intro k
  induction k with
  | zero =>
    intro hk h fuel hf Q
    obtain ⟨f, rfl⟩ : ∃ f, fuel = f + 1 := ⟨fuel - 1, by omega⟩
    refine ⟨_, ?_, puM_ok hk Q t, puM_fr ..⟩
    have MS := Q.1
    have z0 : (nI 0 ≤ 0) = True := eq_true (by decide)
    have e1 : ix (nI 0) = 0 := by decide
    have e2 : inb (nI 0) 5600 = True := eq_true (by decide)
    simp only [F_X3_addsMiddle_L126, chk_true, bnd_some, ob_some, oc_some, oc_none, hl_eq, jn_eq, ix_0, ix_1, if_true, if_false, inb0_2, inb1_2, not_true_eq_false, not_false_eq_true, ite_true, ite_false, true_or, or_true, or_self, zero_eq_one_I, one_eq_zero_I, AH.n_setI, AH.n_setL, AH.n_setR, AH.sl_setI, AH.sl_setL, AH.sl_setR, AH.kind_setI, AH.kind_setL, AH.kind_setR, AH.len_setI, AH.len_setL, AH.len_setR, AH.I_setL, AH.I_setR, AH.L_setI, AH.L_setR, AH.R_setI, AH.R_setL, ms_k0, ms_k1, ms_n1, ms_k2, ms_n2, ms_k3, ms_n3, ms_k4, ms_n4, ms_k5, ms_n5, ms_k6, ms_n6, ms_k7, ms_n7, ms_k8, ms_n8, ms_k9, ms_n9, ms_k10, ms_n10, ms_k11, ms_n11, ms_k12, ms_n12, ms_k13, ms_n13, ms_k14, ms_n14, ms_k15, ms_n15, ms_k16, ms_n16, ms_k17, ms_n17, ms_k18, ms_n18, ms_k19, ms_n19, ms_k20, ms_n20, ms_k21, ms_n21, ms_k22, ms_n22, ms_k23, ms_n23, ms_k24, ms_n24, ms_k25, ms_n25, ms_k26, ms_n26, ms_k27, ms_n27, ms_k28, ms_n28, ms_k29, ms_n29, ms_k30, ms_n30, ms_k31, ms_n31, ms_k32, ms_n32, ms_k33, ms_n33, ms_k34, ms_n34, ms_k35, ms_n35, ms_k36, ms_n36, ms_k37, ms_n37, ms_k38, ms_n38, ms_k39, ms_n39, ms_k40, ms_n40, ms_k41, ms_n41, ms_k50, ms_n50, ms_k51, ms_n51, ms_k52, ms_n52, ms_k53, ms_n53, ms_r0_0, ms_r0_6, ms_r2_0, ms_r2_1, ms_r0_7, ms_r5_0, ms_r5_1, ms_r0_8, ms_r8_0, ms_r8_1, ms_r0_9, ms_r11_0, ms_r11_1, ms_r0_10, ms_r14_0, ms_r14_1, ms_r0_11, ms_r17_0, ms_r17_1, ms_r0_12, ms_r20_0, ms_r20_1, ms_r0_13, ms_r23_0, ms_r23_1, ms_r0_14, ms_r0_15, ms_r0_16, ms_r0_17, ms_r0_18, ms_r0_23, ms_r0_24, ms_r0_25, ms_r0_26, ms_r0_30, ms_r0_31, ms_r0_32, ms_r0_35, ms_r0_36, ms_r0_39, ms_r0_40, ms_r0_41, ms_r0_42, ms_r0_43, ms_r0_47, MS, z0, e1, e2, Q.2.1, nI_1]
    rfl
  | succ k ih =>
    intro hk h fuel hf Q
    obtain ⟨f, rfl⟩ : ∃ f, fuel = f + 1 := ⟨fuel - 1, by omega⟩
    have MS := Q.1
    obtain ⟨g1, g2, g3⟩ := Q.2.2.1 k (by omega)
    have z0 : (nI (k + 1) ≤ 0) = False := eq_false (nI_nle (by omega) (by omega))
    have z1 : nI (k + 1) - 1 = nI k := nI_pred k
    have e1 : ix (nI (k + 1)) = k + 1 := ix_nI (by omega)
    have e2 : inb (nI (k + 1)) 5600 = True := eq_true ((inb_nI (by omega)).2 (by omega))
    have e3 : ix (nI k) = k := ix_nI (by omega)
    have e4 : inb (nI k) 5600 = True := eq_true ((inb_nI (by omega)).2 (by omega))
    have ah := m_isBehind (n := n) (K := K) MS (k := k) (by omega) (T k (by omega)) bt g1 g2 g3
    cases hb : aheadM t (l.2 k)
    · have dn : dnS aheadM t l.2 (k + 1) = k + 1 := by rw [dnS, hb]; rfl
      rw [dn]
      refine ⟨_, ?_, puM_ok hk Q t, puM_fr ..⟩
      rw [hb] at ah
      simp only [F_X3_addsMiddle_L126, chk_true, bnd_some, ob_some, oc_some, oc_none, hl_eq, jn_eq, ix_0, ix_1, if_true, if_false, inb0_2, inb1_2, not_true_eq_false, not_false_eq_true, ite_true, ite_false, true_or, or_true, or_self, zero_eq_one_I, one_eq_zero_I, AH.n_setI, AH.n_setL, AH.n_setR, AH.sl_setI, AH.sl_setL, AH.sl_setR, AH.kind_setI, AH.kind_setL, AH.kind_setR, AH.len_setI, AH.len_setL, AH.len_setR, AH.I_setL, AH.I_setR, AH.L_setI, AH.L_setR, AH.R_setI, AH.R_setL, ms_k0, ms_k1, ms_n1, ms_k2, ms_n2, ms_k3, ms_n3, ms_k4, ms_n4, ms_k5, ms_n5, ms_k6, ms_n6, ms_k7, ms_n7, ms_k8, ms_n8, ms_k9, ms_n9, ms_k10, ms_n10, ms_k11, ms_n11, ms_k12, ms_n12, ms_k13, ms_n13, ms_k14, ms_n14, ms_k15, ms_n15, ms_k16, ms_n16, ms_k17, ms_n17, ms_k18, ms_n18, ms_k19, ms_n19, ms_k20, ms_n20, ms_k21, ms_n21, ms_k22, ms_n22, ms_k23, ms_n23, ms_k24, ms_n24, ms_k25, ms_n25, ms_k26, ms_n26, ms_k27, ms_n27, ms_k28, ms_n28, ms_k29, ms_n29, ms_k30, ms_n30, ms_k31, ms_n31, ms_k32, ms_n32, ms_k33, ms_n33, ms_k34, ms_n34, ms_k35, ms_n35, ms_k36, ms_n36, ms_k37, ms_n37, ms_k38, ms_n38, ms_k39, ms_n39, ms_k40, ms_n40, ms_k41, ms_n41, ms_k50, ms_n50, ms_k51, ms_n51, ms_k52, ms_n52, ms_k53, ms_n53, ms_r0_0, ms_r0_6, ms_r2_0, ms_r2_1, ms_r0_7, ms_r5_0, ms_r5_1, ms_r0_8, ms_r8_0, ms_r8_1, ms_r0_9, ms_r11_0, ms_r11_1, ms_r0_10, ms_r14_0, ms_r14_1, ms_r0_11, ms_r17_0, ms_r17_1, ms_r0_12, ms_r20_0, ms_r20_1, ms_r0_13, ms_r23_0, ms_r23_1, ms_r0_14, ms_r0_15, ms_r0_16, ms_r0_17, ms_r0_18, ms_r0_23, ms_r0_24, ms_r0_25, ms_r0_26, ms_r0_30, ms_r0_31, ms_r0_32, ms_r0_35, ms_r0_36, ms_r0_39, ms_r0_40, ms_r0_41, ms_r0_42, ms_r0_43, ms_r0_47, MS, z0, z1, e1, e2, ah, bI_0, Q.2.1, nI_1]
      rfl
    · have dn : dnS aheadM t l.2 (k + 1) = dnS aheadM t l.2 k := by rw [dnS, hb]; rfl
      rw [dn]
      have Q1 : QM m (h.shM m k) l k := by
        refine ⟨MS, Q.2.1, fun i hi => ?_, fun i h1 h2 => ?_⟩
        · rw [shM_L, shM_L, shM_L, if_neg (by omega), if_neg (by omega), if_neg (by omega)]; exact Q.2.2.1 i (by omega)
        · rw [shM_L, shM_L, shM_L]
          by_cases c : i = k + 1
          · rw [if_pos (by omega), if_pos (by omega), if_pos (by omega), c]; exact Q.2.2.1 k (by omega)
          · rw [if_neg (by omega), if_neg (by omega), if_neg (by omega)]; exact Q.2.2.2 i (by omega) h2
      obtain ⟨h', q1, q2, q3⟩ := ih (by omega) (h.shM m k) f (by omega) Q1
      refine ⟨h', ?_, q2, Fr_trans (W := WM m) (shM_fr h m k) q3 (fun _ _ _ z => z) (fun _ _ _ z => z)⟩
      rw [hb] at ah
      rw [← q1]
      simp only [F_X3_addsMiddle_L126, chk_true, bnd_some, ob_some, oc_some, oc_none, hl_eq, jn_eq, ix_0, ix_1, if_true, if_false, inb0_2, inb1_2, not_true_eq_false, not_false_eq_true, ite_true, ite_false, true_or, or_true, or_self, zero_eq_one_I, one_eq_zero_I, AH.n_setI, AH.n_setL, AH.n_setR, AH.sl_setI, AH.sl_setL, AH.sl_setR, AH.kind_setI, AH.kind_setL, AH.kind_setR, AH.len_setI, AH.len_setL, AH.len_setR, AH.I_setL, AH.I_setR, AH.L_setI, AH.L_setR, AH.R_setI, AH.R_setL, ms_k0, ms_k1, ms_n1, ms_k2, ms_n2, ms_k3, ms_n3, ms_k4, ms_n4, ms_k5, ms_n5, ms_k6, ms_n6, ms_k7, ms_n7, ms_k8, ms_n8, ms_k9, ms_n9, ms_k10, ms_n10, ms_k11, ms_n11, ms_k12, ms_n12, ms_k13, ms_n13, ms_k14, ms_n14, ms_k15, ms_n15, ms_k16, ms_n16, ms_k17, ms_n17, ms_k18, ms_n18, ms_k19, ms_n19, ms_k20, ms_n20, ms_k21, ms_n21, ms_k22, ms_n22, ms_k23, ms_n23, ms_k24, ms_n24, ms_k25, ms_n25, ms_k26, ms_n26, ms_k27, ms_n27, ms_k28, ms_n28, ms_k29, ms_n29, ms_k30, ms_n30, ms_k31, ms_n31, ms_k32, ms_n32, ms_k33, ms_n33, ms_k34, ms_n34, ms_k35, ms_n35, ms_k36, ms_n36, ms_k37, ms_n37, ms_k38, ms_n38, ms_k39, ms_n39, ms_k40, ms_n40, ms_k41, ms_n41, ms_k50, ms_n50, ms_k51, ms_n51, ms_k52, ms_n52, ms_k53, ms_n53, ms_r0_0, ms_r0_6, ms_r2_0, ms_r2_1, ms_r0_7, ms_r5_0, ms_r5_1, ms_r0_8, ms_r8_0, ms_r8_1, ms_r0_9, ms_r11_0, ms_r11_1, ms_r0_10, ms_r14_0, ms_r14_1, ms_r0_11, ms_r17_0, ms_r17_1, ms_r0_12, ms_r20_0, ms_r20_1, ms_r0_13, ms_r23_0, ms_r23_1, ms_r0_14, ms_r0_15, ms_r0_16, ms_r0_17, ms_r0_18, ms_r0_23, ms_r0_24, ms_r0_25, ms_r0_26, ms_r0_30, ms_r0_31, ms_r0_32, ms_r0_35, ms_r0_36, ms_r0_39, ms_r0_40, ms_r0_41, ms_r0_42, ms_r0_43, ms_r0_47, MS, z0, z1, e1, e2, e3, e4, ah, bI_0, nI_dec, Bool.true_eq_false]
      rfl
theorem m_comes {n : Nat} {K : Nat → Nat} {m : Nat} {h : AH} {S : St} (hn : 20000 < n) (M : MA m h S) (B : Bd S) {l : TL} (L : M3L m h l) (hl : l.1 < 5600) (T : MLok l) {a b c : Int} (hb : SB (a, b, c)) (hc : c ≠ 0) : ∃ h', F_X3_addsMiddle n K m (Int64.ofInt a) (Int64.ofInt b) (Int64.ofInt c) h = some ((), h') ∧ M3L m h' (comeS S (mkSpot a b c) l) ∧ Fr 0 0 (WM m) h h' := by
  have MS := M.1
  have k0 := ms_k0 MS
  have nt : NrmM (mkSpot a b c) := nrm_spot hc
  have bt := spot_bd hb
  obtain ⟨g1, g2, g3⟩ := sgM_ok hb hc
  obtain ⟨b1, b2, b3⟩ := hb
  have b3' : c.natAbs ≤ 4000000 := by have : c.natAbs ≤ 20000 := b3; omega
  have g0 := gcd_leM (k := 4000000) b1 b2
  have ea : (Int64.ofInt a).toInt = a := l_of (by have : a.natAbs ≤ 4000000 := b1; omega) (by have : a.natAbs ≤ 4000000 := b1; omega)
  have eb : (Int64.ofInt b).toInt = b := l_of (by have : b.natAbs ≤ 4000000 := b2; omega) (by have : b.natAbs ≤ 4000000 := b2; omega)
  have ec : (Int64.ofInt c).toInt = c := l_of (by omega) (by omega)
  have hc1 := m_gcd (n := n) (K := K) (h := h) hn (sm_of b1) (sm_of b2)
  rw [ea, eb] at hc1
  have eg : (lN (Int.gcd a b)).toInt = (Int.gcd a b : Int) := pk_lT (by have : Int.gcd a b ≤ 4000000 := g0; omega)
  have hc2 := m_gcd (n := n) (K := K) (h := h) hn (a := lN (Int.gcd a b)) (b := Int64.ofInt c) ⟨by rw [eg]; omega, by rw [eg]; have : Int.gcd a b ≤ 4000000 := g0; omega⟩ (sm_of b3')
  rw [eg, ec] at hc2
  have e : (if c < 0 then -(Int.gcd (Int.gcd a b) c : Int) else (Int.gcd (Int.gcd a b) c : Int)) = sgM a b c := rfl
  have es : (Int64.ofInt (sgM a b c)).toInt = sgM a b c := l_of (by omega) (by omega)
  have s0 : ¬ (Int64.ofInt (sgM a b c) = 0) := fun z => g2 (by rw [l_eq, es] at z; exact z)
  have start : F_X3_addsMiddle n K m (Int64.ofInt a) (Int64.ofInt b) (Int64.ofInt c) h = if memS (mkSpot a b c) l = true then some ((), h) else (if ¬ bI (midS S (mkSpot a b c)) = 0 then F_X3_addsMiddle_L126 n K (Int64.ofInt (mkSpot a b c).2.2) (Int64.ofInt (mkSpot a b c).2.1) (Int64.ofInt (mkSpot a b c).1) m n (nI l.1) h else some ((), h)) := by
    unfold F_X3_addsMiddle
    rw [hc1, bnd_some, hc2, bnd_some, sgM_jn _ (by omega), ec, e, chk_pos s0, chk_pos s0, chk_pos s0, spot_div (x := a) b1 g3, spot_div (x := b) b2 g3, spot_div (x := c) b3' g3]
    show F_X3_addsMiddle_L51 n K (Int64.ofInt (mkSpot a b c).2.2) (Int64.ofInt (mkSpot a b c).2.1) (Int64.ofInt (mkSpot a b c).1) m h n 0 (chk (h.kind m = 5) (bnd (F_X3_isMiddle n K m (Int64.ofInt (mkSpot a b c).1) (Int64.ofInt (mkSpot a b c).2.1) (Int64.ofInt (mkSpot a b c).2.2) h) _)) = _
    rw [m_add51 hn MS L (by omega) T.2 bt, chk_pos k0, m_isMiddle (K := K) hn M B bt, bnd_some, chk_pos k0, L.1]
    rfl
  generalize mkSpot a b c = t at *
  unfold comeS
  cases hm : memS t l
  · cases hmd : midS S t
    · refine ⟨h, ?_, L, Fr_refl h⟩
      rw [start, hm, hmd]; rfl
    · obtain ⟨h', q1, q2, q3⟩ := m_add126 (n := n) (K := K) (m := m) hl T.2 bt l.1 (Nat.le_refl _) h n (by omega) ⟨MS, L.1, L.2, fun i h1 h2 => by omega⟩
      refine ⟨h', ?_, ?_, q3⟩
      · rw [start, hm, hmd]
        exact q1
      · rw [if_pos rfl, put_new hm, ← dn_pos ordM nt T.1 hm l.1 (Nat.le_refl _) (pos_le _ _ _)]; exact q2
  · refine ⟨h, ?_, ?_, Fr_refl h⟩
    · rw [start, hm, if_pos rfl]
    · rw [put_mem hm]; split <;> exact L
