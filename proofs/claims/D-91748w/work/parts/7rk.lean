/-! PURE PART RK: a line ahead of another, the model's -/
set_option maxRecDepth 100000
theorem i_eq0 {a : Int32} : (a = 0) = (a.toInt = 0) := by
  rw [← Int32.toInt_inj]; rfl
theorem i_leT {a b : Int32} : (a ≤ b) = ¬ (b.toInt < a.toInt) := by
  rw [Int32.le_iff_toInt_le]
  exact propext ⟨fun z => by omega, fun z => by omega⟩
theorem m_isAheadL {n : Nat} {K : Nat → Nat} {m : Nat} {h : AH} (MS : MSh m h) {k : Nat} (hk : k < 105) {s t : T3} (bs : LB s) (bt : LB t) (s0 : h.I (m + 32) k = Int32.ofInt s.1) (s1 : h.I (m + 33) k = Int32.ofInt s.2.1) (s2 : h.I (m + 34) k = Int32.ofInt s.2.2) : F_X3_isAhead n K m (Int32.ofInt t.1) (Int32.ofInt t.2.1) (Int32.ofInt t.2.2) (nI k) h = some (bI (aheadL t s), h) := by
  obtain ⟨a1, a2, a3⟩ := bs
  obtain ⟨b1, b2, b3⟩ := bt
  have m1 := mul_bd b2 a1
  have m2 := mul_bd a2 b1
  have q1 : ix (nI k) = k := ix_nI (by omega)
  have q2 : inb (nI k) 105 = True := eq_true ((inb_nI (by omega)).2 hk)
  have e0 : (Int32.ofInt s.1).toInt = s.1 := i_of (by omega) (by omega)
  have e1 : (Int32.ofInt s.2.1).toInt = s.2.1 := i_of (by omega) (by omega)
  have e2 : (Int32.ofInt s.2.2).toInt = s.2.2 := i_of (by omega) (by omega)
  have f0 : (Int32.ofInt t.1).toInt = t.1 := i_of (by omega) (by omega)
  have f1 : (Int32.ofInt t.2.1).toInt = t.2.1 := i_of (by omega) (by omega)
  have f2 : (Int32.ofInt t.2.2).toInt = t.2.2 := i_of (by omega) (by omega)
  have p1 : (Int32.ofInt t.2.1 * Int32.ofInt s.1).toInt = t.2.1 * s.1 := by rw [i_mul (by rw [f1, e0]; omega) (by rw [f1, e0]; omega), f1, e0]
  have p2 : (Int32.ofInt s.2.1 * Int32.ofInt t.1).toInt = s.2.1 * t.1 := by rw [i_mul (by rw [e1, f0]; omega) (by rw [e1, f0]; omega), e1, f0]
  have p3 : (Int32.ofInt t.2.1 * Int32.ofInt s.1 - Int32.ofInt s.2.1 * Int32.ofInt t.1).toInt = t.2.1 * s.1 - s.2.1 * t.1 := by rw [i_sub (by rw [p1, p2]; omega) (by rw [p1, p2]; omega), p1, p2]
  have z1 : (Int32.ofInt s.1 = 0) = (s.1 = 0) := by rw [i_eq0, e0]
  have z2 : (Int32.ofInt t.1 = 0) = (t.1 = 0) := by rw [i_eq0, f0]
  have z3 : (Int32.ofInt t.2.1 * Int32.ofInt s.1 - Int32.ofInt s.2.1 * Int32.ofInt t.1 = 0) = (t.2.1 * s.1 - s.2.1 * t.1 = 0) := by rw [i_eq0, p3]
  have z4 : (0 ≤ Int32.ofInt t.2.1 * Int32.ofInt s.1 - Int32.ofInt s.2.1 * Int32.ofInt t.1) = ¬ (t.2.1 * s.1 - s.2.1 * t.1 < 0) := by rw [i_leT, p3]; rfl
  have z5 : (Int32.ofInt s.2.2 ≤ Int32.ofInt t.2.2) = ¬ (t.2.2 < s.2.2) := by rw [i_leT, e2, f2]
  simp only [F_X3_isAhead, chk_true, bnd_some, ob_some, oc_some, oc_none, hl_eq, jn_eq, ix_0, ix_1, if_true, if_false, inb0_2, inb1_2, not_true_eq_false, not_false_eq_true, ite_true, ite_false, true_or, or_true, or_self, zero_eq_one_I, one_eq_zero_I, ms_k0, ms_k1, ms_n1, ms_k2, ms_n2, ms_k3, ms_n3, ms_k4, ms_n4, ms_k5, ms_n5, ms_k6, ms_n6, ms_k7, ms_n7, ms_k8, ms_n8, ms_k9, ms_n9, ms_k10, ms_n10, ms_k11, ms_n11, ms_k12, ms_n12, ms_k13, ms_n13, ms_k14, ms_n14, ms_k15, ms_n15, ms_k16, ms_n16, ms_k17, ms_n17, ms_k18, ms_n18, ms_k19, ms_n19, ms_k20, ms_n20, ms_k21, ms_n21, ms_k22, ms_n22, ms_k23, ms_n23, ms_k24, ms_n24, ms_k25, ms_n25, ms_k26, ms_n26, ms_k27, ms_n27, ms_k28, ms_n28, ms_k29, ms_n29, ms_k30, ms_n30, ms_k31, ms_n31, ms_k32, ms_n32, ms_k33, ms_n33, ms_k34, ms_n34, ms_k35, ms_n35, ms_k36, ms_n36, ms_k37, ms_n37, ms_k38, ms_n38, ms_k39, ms_n39, ms_k40, ms_n40, ms_k41, ms_n41, ms_k50, ms_n50, ms_k51, ms_n51, ms_k52, ms_n52, ms_k53, ms_n53, ms_r0_0, ms_r0_6, ms_r2_0, ms_r2_1, ms_r0_7, ms_r5_0, ms_r5_1, ms_r0_8, ms_r8_0, ms_r8_1, ms_r0_9, ms_r11_0, ms_r11_1, ms_r0_10, ms_r14_0, ms_r14_1, ms_r0_11, ms_r17_0, ms_r17_1, ms_r0_12, ms_r20_0, ms_r20_1, ms_r0_13, ms_r23_0, ms_r23_1, ms_r0_14, ms_r0_15, ms_r0_16, ms_r0_17, ms_r0_18, ms_r0_23, ms_r0_24, ms_r0_25, ms_r0_26, ms_r0_30, ms_r0_31, ms_r0_32, ms_r0_35, ms_r0_36, ms_r0_39, ms_r0_40, ms_r0_41, ms_r0_42, ms_r0_43, ms_r0_47, MS, q1, q2, s0, s1, s2, z1, z2, z3, z4, z5]
  unfold aheadL bI
  by_cases c1 : t.1 = 0
  · by_cases c2 : s.1 = 0
    · by_cases c3 : t.2.2 < s.2.2 <;> simp [c1, c2, c3]
    · simp [c1, c2]
  · by_cases c2 : s.1 = 0
    · simp [c1, c2]
    · by_cases c4 : t.2.1 * s.1 - s.2.1 * t.1 = 0
      · by_cases c3 : t.2.2 < s.2.2 <;> simp [c1, c2, c3, c4]
      · by_cases c5 : t.2.1 * s.1 - s.2.1 * t.1 < 0 <;> simp [c1, c2, c4, c5]
