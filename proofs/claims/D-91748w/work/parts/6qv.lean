/-! PURE PART QV: the model's move, its contract -/
set_option maxRecDepth 100000
/-- the model's state after a move or an undo: the row r holds f, the counter c -/
theorem InvM_mv {m : Nat} {h : AH} {tx : Nat × (Nat → Int32)} {S S' : St} {nm nm' : Nat} {Mo Mo' : Nat → Nat → Int32} (I : InvM m h (S, tx, (nm, Mo))) {hp : AH} (hk : hp.kind = h.kind) (hl : hp.len = h.len) (hR : hp.R = h.R) (hI : ∀ i, i ≠ 3 → i ≠ 6 → hp.I (m + i) = h.I (m + i)) (MP' : MA m hp S') {g : AH} (gk : g.kind = hp.kind) (gl : g.len = hp.len) (gR : g.R = hp.R) (gI : ∀ i, 0 < i → i < 54 → g.I (m + i) = hp.I (m + i)) (g0 : ∀ j, j ≠ 48 → j ≠ 29 → g.I m j = hp.I m j) (g48 : g.I m 48 = nI nm') (g29 : g.I m 29 = 0) (hMo : ∀ k, k < nm' → ∀ j, j < 9 → g.I (m + 54 + k) j = Mo' k j) : InvM m g (S', tx, (nm', Mo')) := by
  obtain ⟨M, m2, m3, m4⟩ := I
  refine ⟨MA_of MP' gk gl gR (fun b h1 h2 => ?_), ⟨g48, hMo⟩, ⟨?_, fun j hj => ?_⟩, Or.inl g29⟩
  · have := gI (b - m) (by omega) (by omega)
    rw [show m + (b - m) = b by omega] at this
    exact this
  · have := hI 0 (by omega) (by omega)
    have t : hp.I m = h.I m := this
    rw [g0 1 (by omega) (by omega), t]; exact m3.1
  · rw [gI 1 (by omega) (by omega), hI 1 (by omega) (by omega)]; exact m3.2 j hj
theorem om_move {n : Nat} {K : Nat → Nat} {m : Nat} {h : AH} {Z : Zt} (hn : 20000 < n) (bz : Bz Z) (I : InvM m h Z) (v a b : Int32) : MOk m (moveZ Z v a b) (moveS Z v a b) (F_X3_move n K m v a b h) h := by
  have M := I.1
  have h15 := mnv hn M
  have h40 := bz.2.2.1
  have h48 : h.I m 48 = nI Z.nm := I.2.1.1
  have e40 : (nI Z.nm = 40) = (Z.nm = 40) := propext (nI_eq (b := 40) (by omega) (by omega))
  have ff : (false = false) = True := eq_true rfl
  have tf : (true = false) = False := eq_false (by decide)
  unfold moveZ moveS
  cases hp : moveOk Z v a b
  · rw [if_neg (by decide), if_neg (by decide)]
    refine mok_same bz I ?_
    unfold moveOk at hp
    by_cases c1 : inS v 0 (nI Z.S.nv - 1) = true
    · obtain ⟨k, hk, rfl⟩ := (inS_nI (by omega)).1 c1
      have e1 : ix (nI k) = k := ix_nI (by omega)
      have e2 : inb (nI k) 15 = True := eq_true ((inb_nI (by omega)).2 (by omega))
      obtain ⟨g0, g1, g2, g3, g4, g5⟩ := M.2.1.2.2 k hk
      rw [e1] at hp
      cases c2 : ptS a b
      · simp only [F_X3_move, chk_true, bnd_some, ob_some, oc_some, oc_none, hl_eq, jn_eq, ix_0, ix_1, if_true, if_false, inb0_2, inb1_2, not_true_eq_false, not_false_eq_true, ite_true, ite_false, true_or, or_true, or_self, zero_eq_one_I, one_eq_zero_I, ms_k0, ms_k1, ms_n1, ms_k2, ms_n2, ms_k3, ms_n3, ms_k4, ms_n4, ms_k5, ms_n5, ms_k6, ms_n6, ms_k7, ms_n7, ms_k8, ms_n8, ms_k9, ms_n9, ms_k10, ms_n10, ms_k11, ms_n11, ms_k12, ms_n12, ms_k13, ms_n13, ms_k14, ms_n14, ms_k15, ms_n15, ms_k16, ms_n16, ms_k17, ms_n17, ms_k18, ms_n18, ms_k19, ms_n19, ms_k20, ms_n20, ms_k21, ms_n21, ms_k22, ms_n22, ms_k23, ms_n23, ms_k24, ms_n24, ms_k25, ms_n25, ms_k26, ms_n26, ms_k27, ms_n27, ms_k28, ms_n28, ms_k29, ms_n29, ms_k30, ms_n30, ms_k31, ms_n31, ms_k32, ms_n32, ms_k33, ms_n33, ms_k34, ms_n34, ms_k35, ms_n35, ms_k36, ms_n36, ms_k37, ms_n37, ms_k38, ms_n38, ms_k39, ms_n39, ms_k40, ms_n40, ms_k41, ms_n41, ms_k50, ms_n50, ms_k51, ms_n51, ms_k52, ms_n52, ms_k53, ms_n53, ms_r0_0, ms_r0_6, ms_r2_0, ms_r2_1, ms_r0_7, ms_r5_0, ms_r5_1, ms_r0_8, ms_r8_0, ms_r8_1, ms_r0_9, ms_r11_0, ms_r11_1, ms_r0_10, ms_r14_0, ms_r14_1, ms_r0_11, ms_r17_0, ms_r17_1, ms_r0_12, ms_r20_0, ms_r20_1, ms_r0_13, ms_r23_0, ms_r23_1, ms_r0_14, ms_r0_15, ms_r0_16, ms_r0_17, ms_r0_18, ms_r0_23, ms_r0_24, ms_r0_25, ms_r0_26, ms_r0_30, ms_r0_31, ms_r0_32, ms_r0_35, ms_r0_36, ms_r0_39, ms_r0_40, ms_r0_41, ms_r0_42, ms_r0_43, ms_r0_47, M.1, m_isVoter M.1 M.2.1, c1, m_isPoint, c2, bI_0, ff, tf]
      · by_cases c3 : Z.S.V k 0 = a
        · have c3' : (Z.S.V k 0 = a) = True := eq_true c3
          by_cases c4 : Z.S.V k 1 = b
          · have c4' : (Z.S.V k 1 = b) = True := eq_true c4
            simp only [F_X3_move, chk_true, bnd_some, ob_some, oc_some, oc_none, hl_eq, jn_eq, ix_0, ix_1, if_true, if_false, inb0_2, inb1_2, not_true_eq_false, not_false_eq_true, ite_true, ite_false, true_or, or_true, or_self, zero_eq_one_I, one_eq_zero_I, ms_k0, ms_k1, ms_n1, ms_k2, ms_n2, ms_k3, ms_n3, ms_k4, ms_n4, ms_k5, ms_n5, ms_k6, ms_n6, ms_k7, ms_n7, ms_k8, ms_n8, ms_k9, ms_n9, ms_k10, ms_n10, ms_k11, ms_n11, ms_k12, ms_n12, ms_k13, ms_n13, ms_k14, ms_n14, ms_k15, ms_n15, ms_k16, ms_n16, ms_k17, ms_n17, ms_k18, ms_n18, ms_k19, ms_n19, ms_k20, ms_n20, ms_k21, ms_n21, ms_k22, ms_n22, ms_k23, ms_n23, ms_k24, ms_n24, ms_k25, ms_n25, ms_k26, ms_n26, ms_k27, ms_n27, ms_k28, ms_n28, ms_k29, ms_n29, ms_k30, ms_n30, ms_k31, ms_n31, ms_k32, ms_n32, ms_k33, ms_n33, ms_k34, ms_n34, ms_k35, ms_n35, ms_k36, ms_n36, ms_k37, ms_n37, ms_k38, ms_n38, ms_k39, ms_n39, ms_k40, ms_n40, ms_k41, ms_n41, ms_k50, ms_n50, ms_k51, ms_n51, ms_k52, ms_n52, ms_k53, ms_n53, ms_r0_0, ms_r0_6, ms_r2_0, ms_r2_1, ms_r0_7, ms_r5_0, ms_r5_1, ms_r0_8, ms_r8_0, ms_r8_1, ms_r0_9, ms_r11_0, ms_r11_1, ms_r0_10, ms_r14_0, ms_r14_1, ms_r0_11, ms_r17_0, ms_r17_1, ms_r0_12, ms_r20_0, ms_r20_1, ms_r0_13, ms_r23_0, ms_r23_1, ms_r0_14, ms_r0_15, ms_r0_16, ms_r0_17, ms_r0_18, ms_r0_23, ms_r0_24, ms_r0_25, ms_r0_26, ms_r0_30, ms_r0_31, ms_r0_32, ms_r0_35, ms_r0_36, ms_r0_39, ms_r0_40, ms_r0_41, ms_r0_42, ms_r0_43, ms_r0_47, M.1, m_isVoter M.1 M.2.1, c1, m_isPoint, c2, bI_0, tf, e1, e2, g0, g1, c3', c4']
          · have c5 : Z.nm = 40 := by
              by_cases z : Z.nm = 40
              · exact z
              · simp [c1, c2, c3, c4, z] at hp
            have c4' : (Z.S.V k 1 = b) = False := eq_false c4
            have c5' : (Z.nm = 40) = True := eq_true c5
            simp only [F_X3_move, chk_true, bnd_some, ob_some, oc_some, oc_none, hl_eq, jn_eq, ix_0, ix_1, if_true, if_false, inb0_2, inb1_2, not_true_eq_false, not_false_eq_true, ite_true, ite_false, true_or, or_true, or_self, zero_eq_one_I, one_eq_zero_I, ms_k0, ms_k1, ms_n1, ms_k2, ms_n2, ms_k3, ms_n3, ms_k4, ms_n4, ms_k5, ms_n5, ms_k6, ms_n6, ms_k7, ms_n7, ms_k8, ms_n8, ms_k9, ms_n9, ms_k10, ms_n10, ms_k11, ms_n11, ms_k12, ms_n12, ms_k13, ms_n13, ms_k14, ms_n14, ms_k15, ms_n15, ms_k16, ms_n16, ms_k17, ms_n17, ms_k18, ms_n18, ms_k19, ms_n19, ms_k20, ms_n20, ms_k21, ms_n21, ms_k22, ms_n22, ms_k23, ms_n23, ms_k24, ms_n24, ms_k25, ms_n25, ms_k26, ms_n26, ms_k27, ms_n27, ms_k28, ms_n28, ms_k29, ms_n29, ms_k30, ms_n30, ms_k31, ms_n31, ms_k32, ms_n32, ms_k33, ms_n33, ms_k34, ms_n34, ms_k35, ms_n35, ms_k36, ms_n36, ms_k37, ms_n37, ms_k38, ms_n38, ms_k39, ms_n39, ms_k40, ms_n40, ms_k41, ms_n41, ms_k50, ms_n50, ms_k51, ms_n51, ms_k52, ms_n52, ms_k53, ms_n53, ms_r0_0, ms_r0_6, ms_r2_0, ms_r2_1, ms_r0_7, ms_r5_0, ms_r5_1, ms_r0_8, ms_r8_0, ms_r8_1, ms_r0_9, ms_r11_0, ms_r11_1, ms_r0_10, ms_r14_0, ms_r14_1, ms_r0_11, ms_r17_0, ms_r17_1, ms_r0_12, ms_r20_0, ms_r20_1, ms_r0_13, ms_r23_0, ms_r23_1, ms_r0_14, ms_r0_15, ms_r0_16, ms_r0_17, ms_r0_18, ms_r0_23, ms_r0_24, ms_r0_25, ms_r0_26, ms_r0_30, ms_r0_31, ms_r0_32, ms_r0_35, ms_r0_36, ms_r0_39, ms_r0_40, ms_r0_41, ms_r0_42, ms_r0_43, ms_r0_47, M.1, m_isVoter M.1 M.2.1, c1, m_isPoint, c2, bI_0, tf, e1, e2, g0, g1, c3', c4', h48, e40, c5']
        · have c5 : Z.nm = 40 := by
            by_cases z : Z.nm = 40
            · exact z
            · simp [c1, c2, c3, z] at hp
          have c3' : (Z.S.V k 0 = a) = False := eq_false c3
          have c5' : (Z.nm = 40) = True := eq_true c5
          simp only [F_X3_move, chk_true, bnd_some, ob_some, oc_some, oc_none, hl_eq, jn_eq, ix_0, ix_1, if_true, if_false, inb0_2, inb1_2, not_true_eq_false, not_false_eq_true, ite_true, ite_false, true_or, or_true, or_self, zero_eq_one_I, one_eq_zero_I, ms_k0, ms_k1, ms_n1, ms_k2, ms_n2, ms_k3, ms_n3, ms_k4, ms_n4, ms_k5, ms_n5, ms_k6, ms_n6, ms_k7, ms_n7, ms_k8, ms_n8, ms_k9, ms_n9, ms_k10, ms_n10, ms_k11, ms_n11, ms_k12, ms_n12, ms_k13, ms_n13, ms_k14, ms_n14, ms_k15, ms_n15, ms_k16, ms_n16, ms_k17, ms_n17, ms_k18, ms_n18, ms_k19, ms_n19, ms_k20, ms_n20, ms_k21, ms_n21, ms_k22, ms_n22, ms_k23, ms_n23, ms_k24, ms_n24, ms_k25, ms_n25, ms_k26, ms_n26, ms_k27, ms_n27, ms_k28, ms_n28, ms_k29, ms_n29, ms_k30, ms_n30, ms_k31, ms_n31, ms_k32, ms_n32, ms_k33, ms_n33, ms_k34, ms_n34, ms_k35, ms_n35, ms_k36, ms_n36, ms_k37, ms_n37, ms_k38, ms_n38, ms_k39, ms_n39, ms_k40, ms_n40, ms_k41, ms_n41, ms_k50, ms_n50, ms_k51, ms_n51, ms_k52, ms_n52, ms_k53, ms_n53, ms_r0_0, ms_r0_6, ms_r2_0, ms_r2_1, ms_r0_7, ms_r5_0, ms_r5_1, ms_r0_8, ms_r8_0, ms_r8_1, ms_r0_9, ms_r11_0, ms_r11_1, ms_r0_10, ms_r14_0, ms_r14_1, ms_r0_11, ms_r17_0, ms_r17_1, ms_r0_12, ms_r20_0, ms_r20_1, ms_r0_13, ms_r23_0, ms_r23_1, ms_r0_14, ms_r0_15, ms_r0_16, ms_r0_17, ms_r0_18, ms_r0_23, ms_r0_24, ms_r0_25, ms_r0_26, ms_r0_30, ms_r0_31, ms_r0_32, ms_r0_35, ms_r0_36, ms_r0_39, ms_r0_40, ms_r0_41, ms_r0_42, ms_r0_43, ms_r0_47, M.1, m_isVoter M.1 M.2.1, c1, m_isPoint, c2, bI_0, tf, e1, e2, g0, g1, c3', h48, e40, c5']
    · have c1' : inS v 0 (nI Z.S.nv - 1) = false := by simpa using c1
      simp only [F_X3_move, chk_true, bnd_some, ob_some, oc_some, oc_none, hl_eq, jn_eq, ix_0, ix_1, if_true, if_false, inb0_2, inb1_2, not_true_eq_false, not_false_eq_true, ite_true, ite_false, true_or, or_true, or_self, zero_eq_one_I, one_eq_zero_I, ms_k0, ms_k1, ms_n1, ms_k2, ms_n2, ms_k3, ms_n3, ms_k4, ms_n4, ms_k5, ms_n5, ms_k6, ms_n6, ms_k7, ms_n7, ms_k8, ms_n8, ms_k9, ms_n9, ms_k10, ms_n10, ms_k11, ms_n11, ms_k12, ms_n12, ms_k13, ms_n13, ms_k14, ms_n14, ms_k15, ms_n15, ms_k16, ms_n16, ms_k17, ms_n17, ms_k18, ms_n18, ms_k19, ms_n19, ms_k20, ms_n20, ms_k21, ms_n21, ms_k22, ms_n22, ms_k23, ms_n23, ms_k24, ms_n24, ms_k25, ms_n25, ms_k26, ms_n26, ms_k27, ms_n27, ms_k28, ms_n28, ms_k29, ms_n29, ms_k30, ms_n30, ms_k31, ms_n31, ms_k32, ms_n32, ms_k33, ms_n33, ms_k34, ms_n34, ms_k35, ms_n35, ms_k36, ms_n36, ms_k37, ms_n37, ms_k38, ms_n38, ms_k39, ms_n39, ms_k40, ms_n40, ms_k41, ms_n41, ms_k50, ms_n50, ms_k51, ms_n51, ms_k52, ms_n52, ms_k53, ms_n53, ms_r0_0, ms_r0_6, ms_r2_0, ms_r2_1, ms_r0_7, ms_r5_0, ms_r5_1, ms_r0_8, ms_r8_0, ms_r8_1, ms_r0_9, ms_r11_0, ms_r11_1, ms_r0_10, ms_r14_0, ms_r14_1, ms_r0_11, ms_r17_0, ms_r17_1, ms_r0_12, ms_r20_0, ms_r20_1, ms_r0_13, ms_r23_0, ms_r23_1, ms_r0_14, ms_r0_15, ms_r0_16, ms_r0_17, ms_r0_18, ms_r0_23, ms_r0_24, ms_r0_25, ms_r0_26, ms_r0_30, ms_r0_31, ms_r0_32, ms_r0_35, ms_r0_36, ms_r0_39, ms_r0_40, ms_r0_41, ms_r0_42, ms_r0_43, ms_r0_47, M.1, m_isVoter M.1 M.2.1, c1', bI_0, ff]
  · rw [if_pos rfl, if_pos rfl]
    unfold moveOk at hp
    simp only [Bool.and_eq_true, Bool.not_eq_true', decide_eq_false_iff_not] at hp
    obtain ⟨⟨⟨c1, c2⟩, c3⟩, c4⟩ := hp
    obtain ⟨k, hk, rfl⟩ := (inS_nI (by omega)).1 c1
    have e1 : ix (nI k) = k := ix_nI (by omega)
    rw [e1] at c3 ⊢
    have c3' : ¬ (Z.S.V k 0 = a ∧ Z.S.V k 1 = b) := by
      intro z
      simp [z.1, z.2] at c3
    have MP' := MA_put M k a b
    have key := m_moveF (K := K) hn M hk c2 (nm := Z.nm) (by omega) h48 rfl MP' c3'
    refine ⟨_, key, ?_, ?_⟩
    · refine InvM_mv (S := Z.S) (tx := Z.2.1) (nm := Z.nm) (Mo := Z.Mo) (S' := Z.S.put k a b) I (hp := (h.setI (m + 3) k a).setI (m + 6) k b) rfl rfl rfl (fun i i3 i6 => ?_) MP' rfl rfl rfl (fun i i0 i1 => ?_) (fun j j48 j29 => ?_) ?_ ?_ (fun q hq j hj => ?_)
      · exact setM_ne (by omega) (by omega) k a b
      · rw [I_ov_ne (by omega)]
        funext j
        rw [AH.I_setI, if_neg (by omega), AH.I_setI, if_neg (by omega)]
      · rw [I_ov_ne (by omega), AH.I_setI, if_neg (by omega), AH.I_setI, if_neg (by omega)]
      · rw [I_ov_ne (by omega), AH.I_setI, if_neg (by omega), AH.I_setI, if_pos ⟨rfl, rfl⟩]
      · rw [I_ov_ne (by omega), AH.I_setI, if_pos ⟨rfl, rfl⟩]
      · unfold moE
        by_cases z : q = Z.nm
        · rw [if_pos z, z, I_ov_eq (by omega)]
          unfold row7 up1 moN
          have : j = 0 ∨ j = 1 ∨ j = 2 ∨ j = 3 ∨ j = 4 ∨ j = 5 ∨ j = 6 ∨ j = 7 ∨ j = 8 := by omega
          rcases this with rfl | rfl | rfl | rfl | rfl | rfl | rfl | rfl | rfl <;> simp
        · rw [if_neg z, I_ov_ne (by omega), AH.I_setI, if_neg (by omega), AH.I_setI, if_neg (by omega), AH.I_setI, if_neg (by omega), AH.I_setI, if_neg (by omega)]
          exact I.2.1.2 q (by omega) j hj
    · refine Fr_of rfl rfl rfl rfl rfl (fun d j z => ?_)
      have h1 : ∀ p, p ∈ mRs → p.1 ≠ 3 ∧ p.1 ≠ 6 ∧ (p.1 = 0 → p.2.1 ≠ 48 ∧ p.2.1 ≠ 29) := by decide
      have h2 : ∀ i, i < 40 → ∀ p, p ∈ mRs → p.1 ≠ 54 + i := by decide
      have d1 : d ≠ m + 54 + Z.nm := fun w => z ⟨⟨⟨by omega, by omega⟩, fun p hp y => by have := h2 Z.nm (by omega) p hp; omega⟩, by omega⟩
      have d2 : ¬ (d = m ∧ j = 29) := fun w => z ⟨⟨⟨by omega, by omega⟩, fun p hp y => by have := h1 p hp; omega⟩, by omega⟩
      have d3 : ¬ (d = m ∧ j = 48) := fun w => z ⟨⟨⟨by omega, by omega⟩, fun p hp y => by have := h1 p hp; omega⟩, by omega⟩
      have d4 : ¬ (d = m + 6 ∧ j = k) := fun w => z ⟨⟨⟨by omega, by omega⟩, fun p hp y => by have := h1 p hp; omega⟩, by omega⟩
      have d5 : ¬ (d = m + 3 ∧ j = k) := fun w => z ⟨⟨⟨by omega, by omega⟩, fun p hp y => by have := h1 p hp; omega⟩, by omega⟩
      rw [I_ov_ne d1, AH.I_setI, if_neg d2, AH.I_setI, if_neg d3, AH.I_setI, if_neg d4, AH.I_setI, if_neg d5]
