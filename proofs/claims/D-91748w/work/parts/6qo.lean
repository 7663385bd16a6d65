/-! PURE PART QO: frames by component; count, moved, end -/
set_option maxRecDepth 100000
theorem XV_fr {K : Nat → Nat} {x : Nat} {h h' : AH} {e nv : Nat} {E : Nat → Nat} {V : Nat → Nat → Int32} {cc ss : Nat} {W : Nat → Nat → Prop} (HV : XV K x h e nv E V) (F : Fr cc ss W h h') (h1 : ∀ j, j < 3 → ¬ W (x + 5) j) (h2 : ∀ j, j < nv → ¬ W e j) (h3 : ∀ v, v < nv → ∀ j, ¬ W (E v) j) : XV K x h' e nv E V := by
  refine ⟨Ls_fr HV.1 F h1 h2, HV.2.1, fun v hv => ?_⟩
  have g := HV.2.2 v hv
  obtain ⟨f1, f2, f3⟩ := F.2.2.2.2.2 (E v) (by omega)
  have f4 : ∀ j, h'.I (E v) j = h.I (E v) j := fun j => (f3 j (h3 v hv j)).1
  rw [f1]
  simp only [f4]
  exact g
theorem XP_fr {K : Nat → Nat} {x : Nat} {h h' : AH} {e np : Nat} {E : Nat → Nat} {P : Nat → Nat → Int32} {cc ss : Nat} {W : Nat → Nat → Prop} (HP : XP K x h e np E P) (F : Fr cc ss W h h') (h1 : ∀ j, j < 3 → ¬ W (x + 6) j) (h2 : ∀ j, j < np → ¬ W e j) (h3 : ∀ v, v < np → ∀ j, ¬ W (E v) j) : XP K x h' e np E P := by
  refine ⟨Ls_fr HP.1 F h1 h2, HP.2.1, fun v hv => ?_⟩
  have g := HP.2.2 v hv
  obtain ⟨f1, f2, f3⟩ := F.2.2.2.2.2 (E v) (by omega)
  have f4 : ∀ j, h'.I (E v) j = h.I (E v) j := fun j => (f3 j (h3 v hv j)).1
  rw [f1]
  simp only [f4]
  exact g
theorem XB_fr {x : Nat} {h h' : AH} {b : Nat} {bk bp bw all : Int32} {cc ss : Nat} {W : Nat → Nat → Prop} (HB : XB x h b bk bp bw all) (F : Fr cc ss W h h') (kx : h.kind x ≠ 0) (h1 : ¬ W x 5) (h2 : ¬ W x 7) (h3 : ∀ j, ¬ W b j) : XB x h' b bk bp bw all := by
  obtain ⟨b1, b2, b3, b4, b5, b6⟩ := HB
  obtain ⟨f1, f2, f3⟩ := F.2.2.2.2.2 b (by omega)
  obtain ⟨g1, g2, g3⟩ := F.2.2.2.2.2 x kx
  exact ⟨by rw [(g3 5 h1).2.2]; exact b1, by rw [f1]; exact b2, by rw [(f3 0 (h3 0)).1]; exact b3, by rw [(f3 1 (h3 1)).1]; exact b4, by rw [(f3 2 (h3 2)).1]; exact b5, by rw [(g3 7 h2).1]; exact b6⟩
theorem XMo_fr {h h' : AH} {c : Nat} {E : Nat → Nat} {Mo : Nat → Nat → Int32} {cc ss : Nat} {W : Nat → Nat → Prop} (H : XMo h c E Mo) (F : Fr cc ss W h h') (h3 : ∀ v, v < c → ∀ j, ¬ W (E v) j) : XMo h' c E Mo := by
  intro k hk
  have g := H k hk
  obtain ⟨f1, f2, f3⟩ := F.2.2.2.2.2 (E k) (by omega)
  have f4 : ∀ j, h'.I (E k) j = h.I (E k) j := fun j => (f3 j (h3 k hk j)).1
  rw [f1]
  simp only [f4]
  exact g
theorem X3L_fr {h h' : AH} {kd c : Nat} {E : Nat → Nat} {G : Nat → T3} {cc ss : Nat} {W : Nat → Nat → Prop} (hkd : kd ≠ 0) (H : X3L h kd c E G) (F : Fr cc ss W h h') (h3 : ∀ v, v < c → ∀ j, ¬ W (E v) j) : X3L h' kd c E G := by
  intro k hk
  have g := H k hk
  obtain ⟨f1, f2, f3⟩ := F.2.2.2.2.2 (E k) (by omega)
  have f4 : ∀ j, h'.L (E k) j = h.L (E k) j := fun j => (f3 j (h3 k hk j)).2.1
  rw [f1]
  simp only [f4]
  exact g
theorem XTx_fr {x : Nat} {h h' : AH} {tm : Nat} {T : Nat → Int32} {cc ss : Nat} {W : Nat → Nat → Prop} (H : XTx x h tm T) (F : Fr cc ss W h h') (k0 : h.kind x ≠ 0) (k1 : h.kind (x + 1) ≠ 0) (h1 : ¬ W x 6) (h2 : ∀ j, ¬ W (x + 1) j) : XTx x h' tm T := by
  refine ⟨by rw [((F.2.2.2.2.2 x k0).2.2 6 h1).1]; exact H.1, fun j hj => ?_⟩
  rw [((F.2.2.2.2.2 (x + 1) k1).2.2 j (h2 j)).1]; exact H.2 j hj
theorem XCl_fr {x : Nat} {h h' : AH} {c : Nat → Nat} {E : Nat → Nat → Nat} {S : St} {cc ss : Nat} {W : Nat → Nat → Prop} (H : XCl x h c E S) (F : Fr cc ss W h h') (k0 : h.kind x ≠ 0) (h1 : ¬ W x 11) (h3 : ∀ v, v < c 5 → ∀ j, ¬ W (E 5 v) j) : XCl x h' c E S := by
  unfold XCl
  rw [((F.2.2.2.2.2 x k0).2.2 11 h1).1]
  rcases H with z | ⟨z1, z2, z3⟩
  · exact Or.inl z
  · exact Or.inr ⟨z1, z2, X3L_fr (by omega) z3 F h3⟩
theorem XCm_fr {x : Nat} {h h' : AH} {c : Nat → Nat} {E : Nat → Nat → Nat} {S : St} {cc ss : Nat} {W : Nat → Nat → Prop} (H : XCm x h c E S) (F : Fr cc ss W h h') (k0 : h.kind x ≠ 0) (k1 : h.kind (x + 11) ≠ 0) (h1 : ¬ W x 11) (h2 : ¬ W x 12) (h3 : ∀ v, v < c 6 → ∀ j, ¬ W (E 6 v) j) (h4 : ∀ j, ¬ W (x + 11) j) : XCm x h' c E S := by
  unfold XCm
  rw [((F.2.2.2.2.2 x k0).2.2 11 h1).1, ((F.2.2.2.2.2 x k0).2.2 12 h2).1, ((F.2.2.2.2.2 (x + 11) k1).2.2 0 (h4 0)).1, ((F.2.2.2.2.2 (x + 11) k1).2.2 1 (h4 1)).1, ((F.2.2.2.2.2 (x + 11) k1).2.2 2 (h4 2)).1]
  rcases H with z | ⟨z1, z2, z3, z4, z5⟩
  · exact Or.inl z
  · exact Or.inr ⟨z1, z2, z3, X3L_fr (by omega) z4 F h3, z5⟩
theorem XCr_fr {x : Nat} {h h' : AH} {S : St} {cc ss : Nat} {W : Nat → Nat → Prop} (H : XCr x h S) (F : Fr cc ss W h h') (k0 : h.kind x ≠ 0) (h1 : ∀ j, 13 ≤ j → j ≤ 17 → ¬ W x j) : XCr x h' S := by
  unfold XCr
  have g := fun j a b => (F.2.2.2.2.2 x k0).2.2 j (h1 j a b)
  rw [(g 13 (by omega) (by omega)).1, (g 14 (by omega) (by omega)).1, (g 15 (by omega) (by omega)).1, (g 16 (by omega) (by omega)).2.1, (g 17 (by omega) (by omega)).2.1]
  exact H
/-! count, moved -/
def countS (Z : Zt) (w : Int32) : Int32 := if w = 0 then nI Z.S.nv else if w = 1 then nI Z.S.np else if w = 2 then totS Z.S.V Z.S.nv else if w = 3 then nI Z.nm else if w = 4 then nI Z.tm else if w = 5 then pairS Z.S else -1
theorem ox_count {n : Nat} {K : Nat → Nat} {x : Nat} {h : AH} {Z : Zt} (hn : 20000 < n) (bz : Bz Z) (I : InvX K x h Z) (w : Int32) : XOk K x 0 0 Z (countS Z w) (F_X0_count n K x w h) h := by
  have I0 := I
  obtain ⟨e, c, E, b, i1, i2, i3, i4, X, i6, i7, i8, inj, i10, i11, _⟩ := I0
  refine xok_same I ?_
  have l4 : Ls K h (x + 7) (e 4) (c 4) (E 4) := (i3.1 4 (by omega)).1
  rw [i8] at l4
  simp only [F_X0_count, countS, chk_true, bnd_some, ob_some, oc_some, oc_none, hl_eq, jn_eq, ix_0, ix_1, if_true, if_false, inb0_2, inb1_2, not_true_eq_false, not_false_eq_true, ite_true, ite_false, true_or, or_true, or_self, zero_eq_one_I, one_eq_zero_I, xs_k0, xs_k1, xs_n1, xs_k2, xs_k3, xs_k4, xs_k5, xs_k6, xs_k7, xs_k8, xs_k9, xs_k10, xs_k11, xs_n11, xs_k12, xs_n12, xs_k13, xs_n13, xs_k14, xs_n14, xs_k15, xs_n15, xs_k16, xs_n16, xs_k17, xs_n17, xs_k18, xs_n18, xs_k27, xs_n27, xs_k28, xs_n28, xs_r0_0, xs_r0_1, xs_r2_8, xs_r2_9, xs_r0_2, xs_r0_3, xs_r0_4, xs_r0_8, xs_r0_9, xs_r0_10, xs_r0_18, xs_r0_19, xs_r0_20, xs_r0_21, xs_r0_22, xs_r0_25, xs_r0_26, xs_r0_27, xs_r0_28, X.1, x_vsize hn X, x_psize hn X, X.2.2.2.2.2.2.2.2, l_size l4, i11.1, x_pairMany hn X (ab_irr bz.1)]
  repeat' split
  all_goals rfl
theorem om_count {n : Nat} {K : Nat → Nat} {m : Nat} {h : AH} {Z : Zt} (hn : 20000 < n) (bz : Bz Z) (I : InvM m h Z) (w : Int32) : MOk m Z (countS Z w) (F_X3_count n K m w h) h := by
  refine mok_same bz I ?_
  obtain ⟨M, m2, m3, m4⟩ := I
  simp only [F_X3_count, countS, chk_true, bnd_some, ob_some, oc_some, oc_none, hl_eq, jn_eq, ix_0, ix_1, if_true, if_false, inb0_2, inb1_2, not_true_eq_false, not_false_eq_true, ite_true, ite_false, true_or, or_true, or_self, zero_eq_one_I, one_eq_zero_I, ms_k0, ms_k1, ms_n1, ms_k2, ms_n2, ms_k3, ms_n3, ms_k4, ms_n4, ms_k5, ms_n5, ms_k6, ms_n6, ms_k7, ms_n7, ms_k8, ms_n8, ms_k9, ms_n9, ms_k10, ms_n10, ms_k11, ms_n11, ms_k12, ms_n12, ms_k13, ms_n13, ms_k14, ms_n14, ms_k15, ms_n15, ms_k16, ms_n16, ms_k17, ms_n17, ms_k18, ms_n18, ms_k19, ms_n19, ms_k20, ms_n20, ms_k21, ms_n21, ms_k22, ms_n22, ms_k23, ms_n23, ms_k24, ms_n24, ms_k25, ms_n25, ms_k26, ms_n26, ms_k27, ms_n27, ms_k28, ms_n28, ms_k29, ms_n29, ms_k30, ms_n30, ms_k31, ms_n31, ms_k32, ms_n32, ms_k33, ms_n33, ms_k34, ms_n34, ms_k35, ms_n35, ms_k36, ms_n36, ms_k37, ms_n37, ms_k38, ms_n38, ms_k39, ms_n39, ms_k40, ms_n40, ms_k41, ms_n41, ms_k50, ms_n50, ms_k51, ms_n51, ms_k52, ms_n52, ms_k53, ms_n53, ms_r0_0, ms_r0_6, ms_r2_0, ms_r2_1, ms_r0_7, ms_r5_0, ms_r5_1, ms_r0_8, ms_r8_0, ms_r8_1, ms_r0_9, ms_r11_0, ms_r11_1, ms_r0_10, ms_r14_0, ms_r14_1, ms_r0_11, ms_r17_0, ms_r17_1, ms_r0_12, ms_r20_0, ms_r20_1, ms_r0_13, ms_r23_0, ms_r23_1, ms_r0_14, ms_r0_15, ms_r0_16, ms_r0_17, ms_r0_18, ms_r0_23, ms_r0_24, ms_r0_25, ms_r0_26, ms_r0_30, ms_r0_31, ms_r0_32, ms_r0_35, ms_r0_36, ms_r0_39, ms_r0_40, ms_r0_41, ms_r0_42, ms_r0_43, ms_r0_47, M.1, m_votersA hn M, m_placesA hn M, m_total (n := n) (by omega) M.1 M.2.1, m2.1, m3.1, m_pairs hn M]
  repeat' split
  all_goals rfl
def movedS (Z : Zt) (k w : Int32) : Int32 := if inS k 0 (nI Z.nm - 1) = true then (if inS w 0 8 = true then Z.Mo (ix k) (ix w) else -1) else -1
theorem in8 {w : Int32} (h : inS w 0 8 = true) : w = 0 ∨ w = 1 ∨ w = 2 ∨ w = 3 ∨ w = 4 ∨ w = 5 ∨ w = 6 ∨ w = 7 ∨ w = 8 := by
  obtain ⟨k, hk, rfl⟩ := (inS_le (d := 8) (by omega)).1 h
  have : k = 0 ∨ k = 1 ∨ k = 2 ∨ k = 3 ∨ k = 4 ∨ k = 5 ∨ k = 6 ∨ k = 7 ∨ k = 8 := by omega
  rcases this with rfl | rfl | rfl | rfl | rfl | rfl | rfl | rfl | rfl <;> decide
theorem ox_moved {n : Nat} {K : Nat → Nat} {x : Nat} {h : AH} {Z : Zt} (hn : 20000 < n) (bz : Bz Z) (I : InvX K x h Z) (k w : Int32) : XOk K x 0 0 Z (movedS Z k w) (F_X0_moved n K x k w h) h := by
  have I0 := I
  obtain ⟨e, c, E, b, i1, i2, i3, i4, X, i6, i7, i8, inj, i10, i11, _⟩ := I0
  refine xok_same I ?_
  have l4 : Ls K h (x + 7) (e 4) (c 4) (E 4) := (i3.1 4 (by omega)).1
  rw [i8] at l4
  have h40 := bz.2.2.1
  by_cases hk : inS k 0 (nI Z.nm - 1) = true
  · obtain ⟨q, hq, rfl⟩ := (inS_nI (by omega)).1 hk
    have e1 : ix (nI q) = q := ix_nI (by omega)
    obtain ⟨g0, g1, g2, g3, g4, g5, g6, g7, g8, g9⟩ := i10 q hq
    simp only [F_X0_moved, movedS, chk_true, bnd_some, ob_some, oc_some, oc_none, hl_eq, jn_eq, ix_0, ix_1, if_true, if_false, inb0_2, inb1_2, not_true_eq_false, not_false_eq_true, ite_true, ite_false, true_or, or_true, or_self, zero_eq_one_I, one_eq_zero_I, xs_k0, xs_k1, xs_n1, xs_k2, xs_k3, xs_k4, xs_k5, xs_k6, xs_k7, xs_k8, xs_k9, xs_k10, xs_k11, xs_n11, xs_k12, xs_n12, xs_k13, xs_n13, xs_k14, xs_n14, xs_k15, xs_n15, xs_k16, xs_n16, xs_k17, xs_n17, xs_k18, xs_n18, xs_k27, xs_n27, xs_k28, xs_n28, xs_r0_0, xs_r0_1, xs_r2_8, xs_r2_9, xs_r0_2, xs_r0_3, xs_r0_4, xs_r0_8, xs_r0_9, xs_r0_10, xs_r0_18, xs_r0_19, xs_r0_20, xs_r0_21, xs_r0_22, xs_r0_25, xs_r0_26, xs_r0_27, xs_r0_28, X.1, l_size l4, x_in, hk, bI_0, Bool.true_eq_false, l_get l4 hq, g0, g1, g2, g3, g4, g5, g6, g7, g8, g9, e1]
    cases hw : inS w 0 8
    · have ne : ∀ j : Nat, j ≤ 8 → w ≠ nI j := by
        intro j hj z
        have := (inS_le (d := 8) (by omega)).2 ⟨j, hj, z⟩
        have e8 : (8 : Int32) = nI 8 := rfl
        rw [e8] at hw
        rw [hw] at this; cases this
      have n0 : w ≠ 0 := ne 0 (by omega)
      have n1 : w ≠ 1 := ne 1 (by omega)
      have n2 : w ≠ 2 := ne 2 (by omega)
      have n3 : w ≠ 3 := ne 3 (by omega)
      have n4 : w ≠ 4 := ne 4 (by omega)
      have n5 : w ≠ 5 := ne 5 (by omega)
      have n6 : w ≠ 6 := ne 6 (by omega)
      have n7 : w ≠ 7 := ne 7 (by omega)
      have n8 : w ≠ 8 := ne 8 (by omega)
      simp [n0, n1, n2, n3, n4, n5, n6, n7, n8]
    · rcases in8 hw with rfl | rfl | rfl | rfl | rfl | rfl | rfl | rfl | rfl <;> rfl
  · have hk' : inS k 0 (nI Z.nm - 1) = false := by simpa using hk
    simp only [F_X0_moved, movedS, chk_true, bnd_some, ob_some, oc_some, oc_none, hl_eq, jn_eq, ix_0, ix_1, if_true, if_false, inb0_2, inb1_2, not_true_eq_false, not_false_eq_true, ite_true, ite_false, true_or, or_true, or_self, zero_eq_one_I, one_eq_zero_I, xs_k0, xs_k1, xs_n1, xs_k2, xs_k3, xs_k4, xs_k5, xs_k6, xs_k7, xs_k8, xs_k9, xs_k10, xs_k11, xs_n11, xs_k12, xs_n12, xs_k13, xs_n13, xs_k14, xs_n14, xs_k15, xs_n15, xs_k16, xs_n16, xs_k17, xs_n17, xs_k18, xs_n18, xs_k27, xs_n27, xs_k28, xs_n28, xs_r0_0, xs_r0_1, xs_r2_8, xs_r2_9, xs_r0_2, xs_r0_3, xs_r0_4, xs_r0_8, xs_r0_9, xs_r0_10, xs_r0_18, xs_r0_19, xs_r0_20, xs_r0_21, xs_r0_22, xs_r0_25, xs_r0_26, xs_r0_27, xs_r0_28, X.1, l_size l4, x_in, hk', bI_0, Bool.false_eq_true]
theorem ms_kept {m : Nat} {h : AH} (H : MSh m h) {k : Nat} (hk : k < 40) : h.R (m + 53) k = some (m + 54 + k) ∧ h.kind (m + 54 + k) = 32 ∧ h.len (m + 54 + k) = 9 := by
  have h1 : ∀ i, i < 40 → (53, i, 54 + i) ∈ mRs := by decide
  have h2 : ∀ i, i < 40 → mKs.getD (54 + i) 0 = 32 := by decide
  have h3 : ∀ i, i < 40 → mNs.getD (54 + i) 0 = 9 := by decide
  have g1 := H.2.2 _ (h1 k hk)
  have g2 := H.1 (54 + k) (by omega)
  have g3 := H.2.1 (54 + k) (by omega)
  rw [h2 k hk] at g2
  rw [h3 k hk] at g3
  simp only [← Nat.add_assoc] at g1 g2 g3
  exact ⟨g1, g2, g3⟩
theorem om_moved {n : Nat} {K : Nat → Nat} {m : Nat} {h : AH} {Z : Zt} (hn : 20000 < n) (bz : Bz Z) (I : InvM m h Z) (k w : Int32) : MOk m Z (movedS Z k w) (F_X3_moved n K m k w h) h := by
  refine mok_same bz I ?_
  obtain ⟨M, m2, m3, m4⟩ := I
  have h40 := bz.2.2.1
  by_cases hk : inS k 0 (nI Z.nm - 1) = true
  · obtain ⟨q, hq, rfl⟩ := (inS_nI (by omega)).1 hk
    have e1 : ix (nI q) = q := ix_nI (by omega)
    have e2 : inb (nI q) 40 = True := eq_true ((inb_nI (by omega)).2 (by omega))
    obtain ⟨r1, r2, r3⟩ := ms_kept M.1 (show q < 40 by omega)
    cases hw : inS w 0 8
    · simp only [F_X3_moved, movedS, chk_true, bnd_some, ob_some, oc_some, oc_none, hl_eq, jn_eq, ix_0, ix_1, if_true, if_false, inb0_2, inb1_2, not_true_eq_false, not_false_eq_true, ite_true, ite_false, true_or, or_true, or_self, zero_eq_one_I, one_eq_zero_I, ms_k0, ms_k1, ms_n1, ms_k2, ms_n2, ms_k3, ms_n3, ms_k4, ms_n4, ms_k5, ms_n5, ms_k6, ms_n6, ms_k7, ms_n7, ms_k8, ms_n8, ms_k9, ms_n9, ms_k10, ms_n10, ms_k11, ms_n11, ms_k12, ms_n12, ms_k13, ms_n13, ms_k14, ms_n14, ms_k15, ms_n15, ms_k16, ms_n16, ms_k17, ms_n17, ms_k18, ms_n18, ms_k19, ms_n19, ms_k20, ms_n20, ms_k21, ms_n21, ms_k22, ms_n22, ms_k23, ms_n23, ms_k24, ms_n24, ms_k25, ms_n25, ms_k26, ms_n26, ms_k27, ms_n27, ms_k28, ms_n28, ms_k29, ms_n29, ms_k30, ms_n30, ms_k31, ms_n31, ms_k32, ms_n32, ms_k33, ms_n33, ms_k34, ms_n34, ms_k35, ms_n35, ms_k36, ms_n36, ms_k37, ms_n37, ms_k38, ms_n38, ms_k39, ms_n39, ms_k40, ms_n40, ms_k41, ms_n41, ms_k50, ms_n50, ms_k51, ms_n51, ms_k52, ms_n52, ms_k53, ms_n53, ms_r0_0, ms_r0_6, ms_r2_0, ms_r2_1, ms_r0_7, ms_r5_0, ms_r5_1, ms_r0_8, ms_r8_0, ms_r8_1, ms_r0_9, ms_r11_0, ms_r11_1, ms_r0_10, ms_r14_0, ms_r14_1, ms_r0_11, ms_r17_0, ms_r17_1, ms_r0_12, ms_r20_0, ms_r20_1, ms_r0_13, ms_r23_0, ms_r23_1, ms_r0_14, ms_r0_15, ms_r0_16, ms_r0_17, ms_r0_18, ms_r0_23, ms_r0_24, ms_r0_25, ms_r0_26, ms_r0_30, ms_r0_31, ms_r0_32, ms_r0_35, ms_r0_36, ms_r0_39, ms_r0_40, ms_r0_41, ms_r0_42, ms_r0_43, ms_r0_47, M.1, m2.1, m_in0, hk, bI_0, Bool.true_eq_false, m_inC w 8 (C := 8) (by decide), hw, Bool.false_eq_true]
    · obtain ⟨j, hj, rfl⟩ := (inS_le (d := 8) (by omega)).1 hw
      have e3 : ix (nI j) = j := ix_nI (by omega)
      have e4 : inb (nI j) 9 = True := eq_true ((inb_nI (by omega)).2 (by omega))
      simp only [F_X3_moved, movedS, chk_true, bnd_some, ob_some, oc_some, oc_none, hl_eq, jn_eq, ix_0, ix_1, if_true, if_false, inb0_2, inb1_2, not_true_eq_false, not_false_eq_true, ite_true, ite_false, true_or, or_true, or_self, zero_eq_one_I, one_eq_zero_I, ms_k0, ms_k1, ms_n1, ms_k2, ms_n2, ms_k3, ms_n3, ms_k4, ms_n4, ms_k5, ms_n5, ms_k6, ms_n6, ms_k7, ms_n7, ms_k8, ms_n8, ms_k9, ms_n9, ms_k10, ms_n10, ms_k11, ms_n11, ms_k12, ms_n12, ms_k13, ms_n13, ms_k14, ms_n14, ms_k15, ms_n15, ms_k16, ms_n16, ms_k17, ms_n17, ms_k18, ms_n18, ms_k19, ms_n19, ms_k20, ms_n20, ms_k21, ms_n21, ms_k22, ms_n22, ms_k23, ms_n23, ms_k24, ms_n24, ms_k25, ms_n25, ms_k26, ms_n26, ms_k27, ms_n27, ms_k28, ms_n28, ms_k29, ms_n29, ms_k30, ms_n30, ms_k31, ms_n31, ms_k32, ms_n32, ms_k33, ms_n33, ms_k34, ms_n34, ms_k35, ms_n35, ms_k36, ms_n36, ms_k37, ms_n37, ms_k38, ms_n38, ms_k39, ms_n39, ms_k40, ms_n40, ms_k41, ms_n41, ms_k50, ms_n50, ms_k51, ms_n51, ms_k52, ms_n52, ms_k53, ms_n53, ms_r0_0, ms_r0_6, ms_r2_0, ms_r2_1, ms_r0_7, ms_r5_0, ms_r5_1, ms_r0_8, ms_r8_0, ms_r8_1, ms_r0_9, ms_r11_0, ms_r11_1, ms_r0_10, ms_r14_0, ms_r14_1, ms_r0_11, ms_r17_0, ms_r17_1, ms_r0_12, ms_r20_0, ms_r20_1, ms_r0_13, ms_r23_0, ms_r23_1, ms_r0_14, ms_r0_15, ms_r0_16, ms_r0_17, ms_r0_18, ms_r0_23, ms_r0_24, ms_r0_25, ms_r0_26, ms_r0_30, ms_r0_31, ms_r0_32, ms_r0_35, ms_r0_36, ms_r0_39, ms_r0_40, ms_r0_41, ms_r0_42, ms_r0_43, ms_r0_47, M.1, m2.1, m_in0, hk, bI_0, Bool.true_eq_false, m_inC (nI j) 8 (C := 8) (by decide), hw, e1, e2, e3, e4, ms_k53 M.1, ms_n53 M.1, r1, r2, r3, m2.2 q hq j (by omega)]
  · have hk' : inS k 0 (nI Z.nm - 1) = false := by simpa using hk
    simp only [F_X3_moved, movedS, chk_true, bnd_some, ob_some, oc_some, oc_none, hl_eq, jn_eq, ix_0, ix_1, if_true, if_false, inb0_2, inb1_2, not_true_eq_false, not_false_eq_true, ite_true, ite_false, true_or, or_true, or_self, zero_eq_one_I, one_eq_zero_I, ms_k0, ms_k1, ms_n1, ms_k2, ms_n2, ms_k3, ms_n3, ms_k4, ms_n4, ms_k5, ms_n5, ms_k6, ms_n6, ms_k7, ms_n7, ms_k8, ms_n8, ms_k9, ms_n9, ms_k10, ms_n10, ms_k11, ms_n11, ms_k12, ms_n12, ms_k13, ms_n13, ms_k14, ms_n14, ms_k15, ms_n15, ms_k16, ms_n16, ms_k17, ms_n17, ms_k18, ms_n18, ms_k19, ms_n19, ms_k20, ms_n20, ms_k21, ms_n21, ms_k22, ms_n22, ms_k23, ms_n23, ms_k24, ms_n24, ms_k25, ms_n25, ms_k26, ms_n26, ms_k27, ms_n27, ms_k28, ms_n28, ms_k29, ms_n29, ms_k30, ms_n30, ms_k31, ms_n31, ms_k32, ms_n32, ms_k33, ms_n33, ms_k34, ms_n34, ms_k35, ms_n35, ms_k36, ms_n36, ms_k37, ms_n37, ms_k38, ms_n38, ms_k39, ms_n39, ms_k40, ms_n40, ms_k41, ms_n41, ms_k50, ms_n50, ms_k51, ms_n51, ms_k52, ms_n52, ms_k53, ms_n53, ms_r0_0, ms_r0_6, ms_r2_0, ms_r2_1, ms_r0_7, ms_r5_0, ms_r5_1, ms_r0_8, ms_r8_0, ms_r8_1, ms_r0_9, ms_r11_0, ms_r11_1, ms_r0_10, ms_r14_0, ms_r14_1, ms_r0_11, ms_r17_0, ms_r17_1, ms_r0_12, ms_r20_0, ms_r20_1, ms_r0_13, ms_r23_0, ms_r23_1, ms_r0_14, ms_r0_15, ms_r0_16, ms_r0_17, ms_r0_18, ms_r0_23, ms_r0_24, ms_r0_25, ms_r0_26, ms_r0_30, ms_r0_31, ms_r0_32, ms_r0_35, ms_r0_36, ms_r0_39, ms_r0_40, ms_r0_41, ms_r0_42, ms_r0_43, ms_r0_47, M.1, m2.1, m_in0, hk', bI_0, Bool.false_eq_true]
