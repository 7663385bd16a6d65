/-! PURE PART QP: feed, end -/
set_option maxRecDepth 100000
def Zt.txt (Z : Zt) (tm : Nat) (T : Nat → Int32) : Zt := (Z.1, (tm, T), Z.2.2)
theorem XIn_txt {K : Nat → Nat} {x : Nat} {h h' : AH} {e c : Nat → Nat} {E : Nat → Nat → Nat} {b : Nat} {Z : Zt} {cc ss : Nat} (I : XIn K x h e c E b Z) (F : Fr cc ss (fun a j => (a = x ∧ j = 6) ∨ a = x + 1) h h') {tm : Nat} {T : Nat → Int32} (ht : XTx x h' tm T) : XIn K x h' e c E b (Z.txt tm T) := by
  obtain ⟨i1, MS, i3, i4, i5, i6, i7, i8, i9, i10, i11, i12, i13, i14⟩ := I
  have H := i5.1
  have k0 := xs_k0 H
  have k1 := xs_k1 H
  have k11 := xs_k11 H
  have ne : ∀ a j, h.kind a ≠ 1 → h.kind a ≠ 31 → ¬ ((a = x ∧ j = 6) ∨ a = x + 1) := by
    rintro a j h1 h2 (⟨rfl, _⟩ | rfl)
    · exact h1 k0
    · exact h2 k1
  refine ⟨F.1 i1, ?_, ?_, i4, ⟨?_, ?_, ?_, ?_⟩, i6, i7, i8, i9, ?_, ht, ?_, ?_, ?_⟩
  · exact MSh_fr MS F (fun p _ => by omega)
  · exact LL_fr i3 F (fun i j hi _ => ne _ _ (by rw [(i3.1 i hi).1.1]; omega) (by rw [(i3.1 i hi).1.1]; omega)) (fun i j hi _ => ne _ _ (by have := (Ls_kinds (i3.1 i hi).1).2; omega) (by have := (Ls_kinds (i3.1 i hi).1).2; omega))
  · refine XSh_fr H F (fun p hp => ?_)
    have h1 : ∀ p, p ∈ xRs → p.1 ≠ 1 ∧ (p.1 = 0 → p.2.1 ≠ 6) := by decide
    have := h1 p hp
    omega
  · exact XV_fr i5.2.1 F (fun j _ => ne _ _ (by rw [i5.2.1.1.1]; omega) (by rw [i5.2.1.1.1]; omega)) (fun j _ => ne _ _ (by have := (Ls_kinds i5.2.1.1).2; omega) (by have := (Ls_kinds i5.2.1.1).2; omega)) (fun v hv j => ne _ _ (by have := i5.2.1.2.2 v hv; omega) (by have := i5.2.1.2.2 v hv; omega))
  · exact XP_fr i5.2.2.1 F (fun j _ => ne _ _ (by rw [i5.2.2.1.1.1]; omega) (by rw [i5.2.2.1.1.1]; omega)) (fun j _ => ne _ _ (by have := (Ls_kinds i5.2.2.1.1).2; omega) (by have := (Ls_kinds i5.2.2.1.1).2; omega)) (fun v hv j => ne _ _ (by have := (i5.2.2.1.2.2 v hv).1; omega) (by have := (i5.2.2.1.2.2 v hv).1; omega))
  · exact XB_fr i5.2.2.2 F (by omega) (by omega) (by omega) (fun j => ne _ _ (by have := i5.2.2.2.2.1; omega) (by have := i5.2.2.2.2.1; omega))
  · exact XMo_fr i10 F (fun v hv j => ne _ _ (by have := (i10 v hv).1; omega) (by have := (i10 v hv).1; omega))
  · refine XCl_fr i12 F (by omega) (by omega) (fun v hv j => ?_)
    have := (i3.1 5 (by omega)).2.2 v hv
    exact ne _ _ (by omega) (by omega)
  · refine XCm_fr i13 F (by omega) (by omega) (by omega) (by omega) (fun v hv j => ?_) (fun j => by omega)
    have := (i3.1 6 (by omega)).2.2 v hv
    exact ne _ _ (by omega) (by omega)
  · exact XCr_fr i14 F (by omega) (fun j _ _ => by omega)
theorem InvM_txt {m : Nat} {h h' : AH} {Z : Zt} {cc ss : Nat} (I : InvM m h Z) (bz : Z.nm ≤ 40) (F : Fr cc ss (fun a j => (a = m ∧ j = 1) ∨ a = m + 1) h h') {tm : Nat} {T : Nat → Int32} (ht : MTx m h' tm T) : InvM m h' (Z.txt tm T) := by
  obtain ⟨M, m2, m3, m4⟩ := I
  have MS := M.1
  have nz : ∀ i, i < 94 → h.kind (m + i) ≠ 0 := by
    intro i hi
    have := mKs_kind MS (a := m + i) ⟨by omega, by omega⟩
    omega
  have rI : ∀ i, 1 < i → i < 94 → h'.I (m + i) = h.I (m + i) := fun i i0 i1 => funext fun j => ((F.2.2.2.2.2 _ (nz i i1)).2.2 j (by omega)).1
  have rL : ∀ i, 1 < i → i < 94 → h'.L (m + i) = h.L (m + i) := fun i i0 i1 => funext fun j => ((F.2.2.2.2.2 _ (nz i i1)).2.2 j (by omega)).2.1
  have r0 : ∀ j, j ≠ 1 → h'.I m j = h.I m j := fun j j1 => ((F.2.2.2.2.2 _ (nz 0 (by omega))).2.2 j (by omega)).1
  refine ⟨⟨?_, ?_, ?_, ?_⟩, ⟨?_, ?_⟩, ht, ?_⟩
  · refine MSh_fr MS F (fun p hp => ?_)
    have h1 : ∀ p, p ∈ mRs → p.1 ≠ 1 ∧ (p.1 = 0 → p.2.1 ≠ 1) := by decide
    have := h1 p hp
    omega
  · unfold MV; rw [rI 26 (by omega) (by omega), rI 3 (by omega) (by omega), rI 6 (by omega) (by omega), rI 9 (by omega) (by omega), rI 12 (by omega) (by omega), rI 15 (by omega) (by omega), rI 18 (by omega) (by omega)]; exact M.2.1
  · unfold MP; rw [rI 27 (by omega) (by omega), rI 21 (by omega) (by omega), rI 24 (by omega) (by omega)]; exact M.2.2.1
  · unfold MB; rw [rI 28 (by omega) (by omega), rI 29 (by omega) (by omega), rI 30 (by omega) (by omega)]; exact M.2.2.2
  · rw [r0 48 (by omega)]; exact m2.1
  · intro k hk j hj
    have hk' : k < Z.nm := hk
    rw [show m + 54 + k = m + (54 + k) by omega, rI (54 + k) (by omega) (by omega), show m + (54 + k) = m + 54 + k by omega]
    exact m2.2 k hk j hj
  · unfold MCa M3I M3L
    rw [r0 29 (by omega), r0 27 (by omega), r0 28 (by omega), rI 32 (by omega) (by omega), rI 33 (by omega) (by omega), rI 34 (by omega) (by omega), rL 35 (by omega) (by omega), rL 36 (by omega) (by omega), rL 37 (by omega) (by omega)]
    exact m4
/-! end -/
def endS (Z : Zt) (q : Int32) : Bool := inS q 0 (nI Z.tm)
def endZ (Z : Zt) (q : Int32) : Zt := if endS Z q = true then Z.txt (ix q) Z.T else Z
theorem ox_end {n : Nat} {K : Nat → Nat} {x : Nat} {h : AH} {Z : Zt} (hn : 20000 < n) (bz : Bz Z) (I : InvX K x h Z) (q : Int32) : XOk K x 0 0 (endZ Z q) (bI (endS Z q)) (F_X0_end n K x q h) h := by
  have I0 := I
  obtain ⟨e, c, E, b, I1⟩ := I0
  have X := I1.2.2.2.2.1
  have T := I1.2.2.2.2.2.2.2.2.2.2.1
  have ht := bz.2.1
  unfold endZ
  cases hq : endS Z q
  · rw [if_neg (by decide)]
    refine xok_same I ?_
    have hq' : inS q 0 (nI Z.tm) = false := hq
    simp only [F_X0_end, chk_true, bnd_some, ob_some, oc_some, oc_none, hl_eq, jn_eq, ix_0, ix_1, if_true, if_false, inb0_2, inb1_2, not_true_eq_false, not_false_eq_true, ite_true, ite_false, true_or, or_true, or_self, zero_eq_one_I, one_eq_zero_I, xs_k0, xs_k1, xs_n1, xs_k2, xs_k3, xs_k4, xs_k5, xs_k6, xs_k7, xs_k8, xs_k9, xs_k10, xs_k11, xs_n11, xs_k12, xs_n12, xs_k13, xs_n13, xs_k14, xs_n14, xs_k15, xs_n15, xs_k16, xs_n16, xs_k17, xs_n17, xs_k18, xs_n18, xs_k27, xs_n27, xs_k28, xs_n28, xs_r0_0, xs_r0_1, xs_r2_8, xs_r2_9, xs_r0_2, xs_r0_3, xs_r0_4, xs_r0_8, xs_r0_9, xs_r0_10, xs_r0_18, xs_r0_19, xs_r0_20, xs_r0_21, xs_r0_22, xs_r0_25, xs_r0_26, xs_r0_27, xs_r0_28, X.1, T.1, x_in, hq', bI_0]
    rfl
  · rw [if_pos rfl]
    obtain ⟨k, hk, rfl⟩ := (inS_le (by omega)).1 hq
    have hq' : inS (nI k) 0 (nI Z.tm) = true := hq
    have e1 : ix (nI k) = k := ix_nI (by omega)
    refine ⟨h.setI x 6 (nI k), ?_, ⟨e, c, E, b, ?_⟩, ?_⟩
    · simp only [F_X0_end, chk_true, bnd_some, ob_some, oc_some, oc_none, hl_eq, jn_eq, ix_0, ix_1, if_true, if_false, inb0_2, inb1_2, not_true_eq_false, not_false_eq_true, ite_true, ite_false, true_or, or_true, or_self, zero_eq_one_I, one_eq_zero_I, xs_k0, xs_k1, xs_n1, xs_k2, xs_k3, xs_k4, xs_k5, xs_k6, xs_k7, xs_k8, xs_k9, xs_k10, xs_k11, xs_n11, xs_k12, xs_n12, xs_k13, xs_n13, xs_k14, xs_n14, xs_k15, xs_n15, xs_k16, xs_n16, xs_k17, xs_n17, xs_k18, xs_n18, xs_k27, xs_n27, xs_k28, xs_n28, xs_r0_0, xs_r0_1, xs_r2_8, xs_r2_9, xs_r0_2, xs_r0_3, xs_r0_4, xs_r0_8, xs_r0_9, xs_r0_10, xs_r0_18, xs_r0_19, xs_r0_20, xs_r0_21, xs_r0_22, xs_r0_25, xs_r0_26, xs_r0_27, xs_r0_28, X.1, T.1, x_in, hq', bI_0, Bool.true_eq_false]
      rfl
    · rw [e1]
      refine XIn_txt I1 (Fr_setI (W := fun a j => (a = x ∧ j = 6) ∨ a = x + 1) h x 6 (nI k) (fun _ => Or.inl ⟨rfl, rfl⟩)) ⟨?_, fun j hj => ?_⟩
      · rw [AH.I_setI, if_pos ⟨rfl, rfl⟩]
      · rw [AH.I_setI, if_neg (by omega)]; exact T.2 j (by omega)
    · exact Fr_setI h x 6 _ (fun _ z => by have := z.1; omega)
theorem om_end {n : Nat} {K : Nat → Nat} {m : Nat} {h : AH} {Z : Zt} (hn : 20000 < n) (bz : Bz Z) (I : InvM m h Z) (q : Int32) : MOk m (endZ Z q) (bI (endS Z q)) (F_X3_end n K m q h) h := by
  have M := I.1
  have T := I.2.2.1
  have ht := bz.2.1
  unfold endZ
  cases hq : endS Z q
  · rw [if_neg (by decide)]
    refine mok_same bz I ?_
    have hq' : inS q 0 (nI Z.tm) = false := hq
    simp only [F_X3_end, chk_true, bnd_some, ob_some, oc_some, oc_none, hl_eq, jn_eq, ix_0, ix_1, if_true, if_false, inb0_2, inb1_2, not_true_eq_false, not_false_eq_true, ite_true, ite_false, true_or, or_true, or_self, zero_eq_one_I, one_eq_zero_I, ms_k0, ms_k1, ms_n1, ms_k2, ms_n2, ms_k3, ms_n3, ms_k4, ms_n4, ms_k5, ms_n5, ms_k6, ms_n6, ms_k7, ms_n7, ms_k8, ms_n8, ms_k9, ms_n9, ms_k10, ms_n10, ms_k11, ms_n11, ms_k12, ms_n12, ms_k13, ms_n13, ms_k14, ms_n14, ms_k15, ms_n15, ms_k16, ms_n16, ms_k17, ms_n17, ms_k18, ms_n18, ms_k19, ms_n19, ms_k20, ms_n20, ms_k21, ms_n21, ms_k22, ms_n22, ms_k23, ms_n23, ms_k24, ms_n24, ms_k25, ms_n25, ms_k26, ms_n26, ms_k27, ms_n27, ms_k28, ms_n28, ms_k29, ms_n29, ms_k30, ms_n30, ms_k31, ms_n31, ms_k32, ms_n32, ms_k33, ms_n33, ms_k34, ms_n34, ms_k35, ms_n35, ms_k36, ms_n36, ms_k37, ms_n37, ms_k38, ms_n38, ms_k39, ms_n39, ms_k40, ms_n40, ms_k41, ms_n41, ms_k50, ms_n50, ms_k51, ms_n51, ms_k52, ms_n52, ms_k53, ms_n53, ms_r0_0, ms_r0_6, ms_r2_0, ms_r2_1, ms_r0_7, ms_r5_0, ms_r5_1, ms_r0_8, ms_r8_0, ms_r8_1, ms_r0_9, ms_r11_0, ms_r11_1, ms_r0_10, ms_r14_0, ms_r14_1, ms_r0_11, ms_r17_0, ms_r17_1, ms_r0_12, ms_r20_0, ms_r20_1, ms_r0_13, ms_r23_0, ms_r23_1, ms_r0_14, ms_r0_15, ms_r0_16, ms_r0_17, ms_r0_18, ms_r0_23, ms_r0_24, ms_r0_25, ms_r0_26, ms_r0_30, ms_r0_31, ms_r0_32, ms_r0_35, ms_r0_36, ms_r0_39, ms_r0_40, ms_r0_41, ms_r0_42, ms_r0_43, ms_r0_47, M.1, T.1, m_in0, hq', bI_0]
    rfl
  · rw [if_pos rfl]
    obtain ⟨k, hk, rfl⟩ := (inS_le (by omega)).1 hq
    have hq' : inS (nI k) 0 (nI Z.tm) = true := hq
    have e1 : ix (nI k) = k := ix_nI (by omega)
    refine ⟨h.setI m 1 (nI k), ?_, ?_, ?_⟩
    · simp only [F_X3_end, chk_true, bnd_some, ob_some, oc_some, oc_none, hl_eq, jn_eq, ix_0, ix_1, if_true, if_false, inb0_2, inb1_2, not_true_eq_false, not_false_eq_true, ite_true, ite_false, true_or, or_true, or_self, zero_eq_one_I, one_eq_zero_I, ms_k0, ms_k1, ms_n1, ms_k2, ms_n2, ms_k3, ms_n3, ms_k4, ms_n4, ms_k5, ms_n5, ms_k6, ms_n6, ms_k7, ms_n7, ms_k8, ms_n8, ms_k9, ms_n9, ms_k10, ms_n10, ms_k11, ms_n11, ms_k12, ms_n12, ms_k13, ms_n13, ms_k14, ms_n14, ms_k15, ms_n15, ms_k16, ms_n16, ms_k17, ms_n17, ms_k18, ms_n18, ms_k19, ms_n19, ms_k20, ms_n20, ms_k21, ms_n21, ms_k22, ms_n22, ms_k23, ms_n23, ms_k24, ms_n24, ms_k25, ms_n25, ms_k26, ms_n26, ms_k27, ms_n27, ms_k28, ms_n28, ms_k29, ms_n29, ms_k30, ms_n30, ms_k31, ms_n31, ms_k32, ms_n32, ms_k33, ms_n33, ms_k34, ms_n34, ms_k35, ms_n35, ms_k36, ms_n36, ms_k37, ms_n37, ms_k38, ms_n38, ms_k39, ms_n39, ms_k40, ms_n40, ms_k41, ms_n41, ms_k50, ms_n50, ms_k51, ms_n51, ms_k52, ms_n52, ms_k53, ms_n53, ms_r0_0, ms_r0_6, ms_r2_0, ms_r2_1, ms_r0_7, ms_r5_0, ms_r5_1, ms_r0_8, ms_r8_0, ms_r8_1, ms_r0_9, ms_r11_0, ms_r11_1, ms_r0_10, ms_r14_0, ms_r14_1, ms_r0_11, ms_r17_0, ms_r17_1, ms_r0_12, ms_r20_0, ms_r20_1, ms_r0_13, ms_r23_0, ms_r23_1, ms_r0_14, ms_r0_15, ms_r0_16, ms_r0_17, ms_r0_18, ms_r0_23, ms_r0_24, ms_r0_25, ms_r0_26, ms_r0_30, ms_r0_31, ms_r0_32, ms_r0_35, ms_r0_36, ms_r0_39, ms_r0_40, ms_r0_41, ms_r0_42, ms_r0_43, ms_r0_47, M.1, T.1, m_in0, hq', bI_0, Bool.true_eq_false]
      rfl
    · rw [e1]
      refine InvM_txt I bz.2.2.1 (Fr_setI (W := fun a j => (a = m ∧ j = 1) ∨ a = m + 1) h m 1 (nI k) (fun _ => Or.inl ⟨rfl, rfl⟩)) ⟨?_, fun j hj => ?_⟩
      · rw [AH.I_setI, if_pos ⟨rfl, rfl⟩]
      · rw [AH.I_setI, if_neg (by omega)]; exact T.2 j (by omega)
    · refine Fr_setI h m 1 _ (fun _ => ⟨⟨⟨by omega, by omega⟩, fun p hp z => ?_⟩, by omega⟩)
      have h1 : ∀ p, p ∈ mRs → p.1 = 0 → p.2.1 ≠ 1 := by decide
      have := h1 p hp (by omega)
      omega
/-! feed -/
def byS (v s : Int32) : Int32 := (v >>> (s &&& 31)).toInt8.toInt32.toInt8.toInt32
def fd4 (v : Int32) (c : Nat) (g : Nat → Int32) : Nat → Int32 := up1 (up1 (up1 (up1 g c (byS v 24)) (c + 1) (byS v 16)) (c + 2) (byS v 8)) (c + 3) (byS v 0)
def fdA (a b c d e : Int32) (t : Nat) (g : Nat → Int32) : Nat → Int32 := fd4 e (t + 16) (fd4 d (t + 12) (fd4 c (t + 8) (fd4 b (t + 4) (fd4 a t g))))
theorem fd4_eq {v : Int32} {c : Nat} {g g' : Nat → Int32} (h : ∀ j, j < c → g j = g' j) : ∀ j, j < c + 4 → fd4 v c g j = fd4 v c g' j := by
  intro j hj
  unfold fd4 up1
  split
  · rfl
  · split
    · rfl
    · split
      · rfl
      · split
        · rfl
        · exact h j (by omega)
theorem fdA_eq {a b c d e : Int32} {t : Nat} {g g' : Nat → Int32} (h : ∀ j, j < t → g j = g' j) : ∀ j, j < t + 20 → fdA a b c d e t g j = fdA a b c d e t g' j :=
  fd4_eq (fd4_eq (fd4_eq (fd4_eq (fd4_eq h))))
theorem bv_cut (x : BitVec 32) (s : Nat) (hs : s ≤ 24) : (x.sshiftRight s).setWidth 8 = (x >>> s).setWidth 8 := by
  apply BitVec.eq_of_getLsbD_eq
  intro i hi
  rw [BitVec.getLsbD_setWidth, BitVec.getLsbD_setWidth, BitVec.getLsbD_sshiftRight, BitVec.getLsbD_ushiftRight]
  have h1 : decide (32 ≤ i) = false := decide_eq_false (by omega)
  have h2 : s + i < 32 := by omega
  simp [h1, h2]
