/-! PURE PART QQ: feed -/
set_option maxRecDepth 100000
theorem by_eq (v s : Int32) (u : UInt32) (k : Nat) (hk : k ≤ 24) (h1 : ((s &&& 31).toBitVec.smod 32).toNat = k) (h2 : (u.toBitVec % 32).toNat = k) : ((v.toUInt32 >>> u).toInt32).toInt8 = (v >>> (s &&& 31)).toInt8 := by
  apply Int8.toBitVec_inj.1
  show BitVec.signExtend 8 (v.toUInt32 >>> u).toInt32.toBitVec = BitVec.signExtend 8 (v >>> (s &&& 31)).toBitVec
  have e1 : (v >>> (s &&& 31)).toBitVec = v.toBitVec.sshiftRight k := by
    show v.toBitVec.sshiftRight ((s &&& 31).toBitVec.smod 32).toNat = _
    rw [h1]
  have e2 : (v.toUInt32 >>> u).toInt32.toBitVec = v.toBitVec >>> k := by
    show v.toBitVec >>> (u.toBitVec % 32).toNat = _
    rw [h2]
  rw [BitVec.signExtend_eq_setWidth_of_le _ (by decide), BitVec.signExtend_eq_setWidth_of_le _ (by decide), e1, e2, bv_cut _ _ hk]
theorem x_feed1 {n : Nat} {K : Nat → Nat} {x : Nat} {h : AH} (H : XSh x h) (v s : Int32) (hs : ¬ s < 0) {c : Nat} (hc : c < 600) (g : Nat → Int32) (f : Nat) : F_X0_feeds_L3 n K x v (f + 1) s ((h.setI x 6 (nI c)).ovI (x + 1) 600 g) = F_X0_feeds_L3 n K x v f (s + (-8)) ((h.setI x 6 (nI (c + 1))).ovI (x + 1) 600 (up1 g c (byS v s))) := by
  have eI : ∀ g, ((h.setI x 6 (nI c)).ovI (x + 1) 600 g).I x 6 = nI c := by
    intro g
    rw [I_ov_ne (by omega), AH.I_setI, if_pos ⟨rfl, rfl⟩]
  have e1 : ix (nI c) = c := ix_nI (by omega)
  have e2 : inb (nI c) 600 = True := eq_true ((inb_nI (by omega)).2 hc)
  have e3 : (s < 0) = False := eq_false hs
  simp only [F_X0_feeds_L3, chk_true, bnd_some, ob_some, oc_some, oc_none, hl_eq, jn_eq, ix_0, ix_1, if_true, if_false, inb0_2, inb1_2, not_true_eq_false, not_false_eq_true, ite_true, ite_false, true_or, or_true, or_self, zero_eq_one_I, one_eq_zero_I, AH.kind_ovI, AH.len_ovI, AH.R_ovI, AH.L_ovI, AH.n_ovI, AH.sl_ovI, XSh_ov, MSh_ov, AH.n_setI, AH.n_setL, AH.n_setR, AH.sl_setI, AH.sl_setL, AH.sl_setR, AH.kind_setI, AH.kind_setL, AH.kind_setR, AH.len_setI, AH.len_setL, AH.len_setR, AH.I_setL, AH.I_setR, AH.L_setI, AH.L_setR, AH.R_setI, AH.R_setL, xs_k0, xs_k1, xs_n1, xs_k2, xs_k3, xs_k4, xs_k5, xs_k6, xs_k7, xs_k8, xs_k9, xs_k10, xs_k11, xs_n11, xs_k12, xs_n12, xs_k13, xs_n13, xs_k14, xs_n14, xs_k15, xs_n15, xs_k16, xs_n16, xs_k17, xs_n17, xs_k18, xs_n18, xs_k27, xs_n27, xs_k28, xs_n28, xs_r0_0, xs_r0_1, xs_r2_8, xs_r2_9, xs_r0_2, xs_r0_3, xs_r0_4, xs_r0_8, xs_r0_9, xs_r0_10, xs_r0_18, xs_r0_19, xs_r0_20, xs_r0_21, xs_r0_22, xs_r0_25, xs_r0_26, xs_r0_27, xs_r0_28, XSh_setI, H, e1, e2, e3, eI, ov_set hc, set_ov (show x ≠ x + 1 by omega), set_set, nI_1, byS]
theorem x_feeds {n : Nat} {K : Nat → Nat} {x : Nat} {h : AH} (hn : 20000 < n) (H : XSh x h) (v : Int32) {c : Nat} (hc : c + 4 ≤ 600) (g : Nat → Int32) : F_X0_feeds n K x v ((h.setI x 6 (nI c)).ovI (x + 1) 600 g) = some ((), (h.setI x 6 (nI (c + 4))).ovI (x + 1) 600 (fd4 v c g)) := by
  obtain ⟨f, hf⟩ : ∃ f, n = f + 5 := ⟨n - 5, by omega⟩
  have key : ∀ nn, nn = f + 5 → F_X0_feeds_L3 n K x v nn 24 ((h.setI x 6 (nI c)).ovI (x + 1) 600 g) = some ((), (h.setI x 6 (nI (c + 4))).ovI (x + 1) 600 (fd4 v c g)) := by
    intro nn hnn
    rw [hnn, x_feed1 H v 24 (by decide) (by omega) g (f + 4), show (24 : Int32) + (-8) = 16 by decide, x_feed1 H v 16 (by decide) (by omega) _ (f + 3), show (16 : Int32) + (-8) = 8 by decide, x_feed1 H v 8 (by decide) (by omega) _ (f + 2), show (8 : Int32) + (-8) = 0 by decide, x_feed1 H v 0 (by decide) (by omega) _ (f + 1), show (0 : Int32) + (-8) = -8 by decide, F_X0_feeds_L3, if_pos (by decide)]
    rfl
  exact key n hf
theorem m_feed1 {n : Nat} {K : Nat → Nat} {m : Nat} {h : AH} (H : MSh m h) (v s t : Int32) (hs : ¬ s < 0) (hb : (v.toUInt32 >>> (((8 : Int32) * s).toUInt32 &&& Int32.toUInt32 31)).toInt32.toInt8 = (v >>> (t &&& 31)).toInt8) {c : Nat} (hc : c < 600) (g : Nat → Int32) (f : Nat) : F_X3_feeds_L2 n K m v (f + 1) s ((h.setI m 1 (nI c)).ovI (m + 1) 600 g) = F_X3_feeds_L2 n K m v f (s + (-1)) ((h.setI m 1 (nI (c + 1))).ovI (m + 1) 600 (up1 g c (byS v t))) := by
  have eI : ∀ g, ((h.setI m 1 (nI c)).ovI (m + 1) 600 g).I m 1 = nI c := by
    intro g
    rw [I_ov_ne (by omega), AH.I_setI, if_pos ⟨rfl, rfl⟩]
  have e1 : ix (nI c) = c := ix_nI (by omega)
  have e2 : inb (nI c) 600 = True := eq_true ((inb_nI (by omega)).2 hc)
  have e3 : (s < 0) = False := eq_false hs
  simp only [F_X3_feeds_L2, chk_true, bnd_some, ob_some, oc_some, oc_none, hl_eq, jn_eq, ix_0, ix_1, if_true, if_false, inb0_2, inb1_2, not_true_eq_false, not_false_eq_true, ite_true, ite_false, true_or, or_true, or_self, zero_eq_one_I, one_eq_zero_I, AH.kind_ovI, AH.len_ovI, AH.R_ovI, AH.L_ovI, AH.n_ovI, AH.sl_ovI, XSh_ov, MSh_ov, AH.n_setI, AH.n_setL, AH.n_setR, AH.sl_setI, AH.sl_setL, AH.sl_setR, AH.kind_setI, AH.kind_setL, AH.kind_setR, AH.len_setI, AH.len_setL, AH.len_setR, AH.I_setL, AH.I_setR, AH.L_setI, AH.L_setR, AH.R_setI, AH.R_setL, ms_k0, ms_k1, ms_n1, ms_k2, ms_n2, ms_k3, ms_n3, ms_k4, ms_n4, ms_k5, ms_n5, ms_k6, ms_n6, ms_k7, ms_n7, ms_k8, ms_n8, ms_k9, ms_n9, ms_k10, ms_n10, ms_k11, ms_n11, ms_k12, ms_n12, ms_k13, ms_n13, ms_k14, ms_n14, ms_k15, ms_n15, ms_k16, ms_n16, ms_k17, ms_n17, ms_k18, ms_n18, ms_k19, ms_n19, ms_k20, ms_n20, ms_k21, ms_n21, ms_k22, ms_n22, ms_k23, ms_n23, ms_k24, ms_n24, ms_k25, ms_n25, ms_k26, ms_n26, ms_k27, ms_n27, ms_k28, ms_n28, ms_k29, ms_n29, ms_k30, ms_n30, ms_k31, ms_n31, ms_k32, ms_n32, ms_k33, ms_n33, ms_k34, ms_n34, ms_k35, ms_n35, ms_k36, ms_n36, ms_k37, ms_n37, ms_k38, ms_n38, ms_k39, ms_n39, ms_k40, ms_n40, ms_k41, ms_n41, ms_k50, ms_n50, ms_k51, ms_n51, ms_k52, ms_n52, ms_k53, ms_n53, ms_r0_0, ms_r0_6, ms_r2_0, ms_r2_1, ms_r0_7, ms_r5_0, ms_r5_1, ms_r0_8, ms_r8_0, ms_r8_1, ms_r0_9, ms_r11_0, ms_r11_1, ms_r0_10, ms_r14_0, ms_r14_1, ms_r0_11, ms_r17_0, ms_r17_1, ms_r0_12, ms_r20_0, ms_r20_1, ms_r0_13, ms_r23_0, ms_r23_1, ms_r0_14, ms_r0_15, ms_r0_16, ms_r0_17, ms_r0_18, ms_r0_23, ms_r0_24, ms_r0_25, ms_r0_26, ms_r0_30, ms_r0_31, ms_r0_32, ms_r0_35, ms_r0_36, ms_r0_39, ms_r0_40, ms_r0_41, ms_r0_42, ms_r0_43, ms_r0_47, MSh_setI, H, e1, e2, e3, eI, ov_set hc, set_ov (show m ≠ m + 1 by omega), set_set, nI_1, byS, hb]
theorem m_feeds {n : Nat} {K : Nat → Nat} {m : Nat} {h : AH} (hn : 20000 < n) (H : MSh m h) (v : Int32) {c : Nat} (hc : c + 4 ≤ 600) (g : Nat → Int32) : F_X3_feeds n K m v ((h.setI m 1 (nI c)).ovI (m + 1) 600 g) = some ((), (h.setI m 1 (nI (c + 4))).ovI (m + 1) 600 (fd4 v c g)) := by
  obtain ⟨f, hf⟩ : ∃ f, n = f + 5 := ⟨n - 5, by omega⟩
  have key : ∀ nn, nn = f + 5 → F_X3_feeds_L2 n K m v nn 3 ((h.setI m 1 (nI c)).ovI (m + 1) 600 g) = some ((), (h.setI m 1 (nI (c + 4))).ovI (m + 1) 600 (fd4 v c g)) := by
    intro nn hnn
    rw [hnn, m_feed1 H v 3 24 (by decide) (by_eq v 24 _ 24 (by omega) (by decide) (by decide)) (by omega) g (f + 4), show (3 : Int32) + (-1) = 2 by decide, m_feed1 H v 2 16 (by decide) (by_eq v 16 _ 16 (by omega) (by decide) (by decide)) (by omega) _ (f + 3), show (2 : Int32) + (-1) = 1 by decide, m_feed1 H v 1 8 (by decide) (by_eq v 8 _ 8 (by omega) (by decide) (by decide)) (by omega) _ (f + 2), show (1 : Int32) + (-1) = 0 by decide, m_feed1 H v 0 0 (by decide) (by_eq v 0 _ 0 (by omega) (by decide) (by decide)) (by omega) _ (f + 1), show (0 : Int32) + (-1) = -1 by decide, F_X3_feeds_L2, if_pos (by decide)]
    rfl
  exact key n hf
def feedS (Z : Zt) : Int32 := if Z.tm + 20 ≤ 600 then nI (Z.tm + 20) else -1
def feedZ (Z : Zt) (a b c d e : Int32) : Zt := if Z.tm + 20 ≤ 600 then Z.txt (Z.tm + 20) (fdA a b c d e Z.tm Z.T) else Z
theorem le600 {t : Nat} (ht : t ≤ 600) : (nI t + 20 ≤ (600 : Int32)) = (t + 20 ≤ 600) := by
  rw [show (20 : Int32) = nI 20 from rfl, nI_add, show (600 : Int32) = nI 600 from rfl]
  exact propext (nI_leI (by omega) (by omega))
theorem setI_self (h : AH) (a j : Nat) : h.setI a j (h.I a j) = h := by
  refine AH.ext rfl rfl rfl ?_ (fun _ _ => rfl) (fun _ _ => rfl)
  intro b k
  rw [AH.I_setI]
  split
  · rename_i z; rw [z.1, z.2]
  · rfl
theorem ox_feed {n : Nat} {K : Nat → Nat} {x : Nat} {h : AH} {Z : Zt} (hn : 20000 < n) (bz : Bz Z) (I : InvX K x h Z) (a b c d e : Int32) : XOk K x 0 0 (feedZ Z a b c d e) (feedS Z) (F_X0_feed n K x a b c d e h) h := by
  have I0 := I
  obtain ⟨ee, cc, E, bb, I1⟩ := I0
  have X := I1.2.2.2.2.1
  have T := I1.2.2.2.2.2.2.2.2.2.2.1
  have ht := bz.2.1
  unfold feedZ feedS
  by_cases hq : Z.tm + 20 ≤ 600
  · rw [if_pos hq, if_pos hq]
    have h0 : (h.setI x 6 (nI Z.tm)).ovI (x + 1) 600 (h.I (x + 1)) = h := by
      rw [← T.1, setI_self, ov_self]
    have hI : ∀ g k, ((h.setI x 6 (nI k)).ovI (x + 1) 600 g).I x 6 = nI k := by
      intro g k
      rw [I_ov_ne (by omega), AH.I_setI, if_pos ⟨rfl, rfl⟩]
    refine ⟨(h.setI x 6 (nI (Z.tm + 20))).ovI (x + 1) 600 (fdA a b c d e Z.tm (h.I (x + 1))), ?_, ⟨ee, cc, E, bb, ?_⟩, ?_⟩
    · have q1 := x_feeds (K := K) hn X.1 a (c := Z.tm) (by omega) (h.I (x + 1))
      have q2 := x_feeds (K := K) hn X.1 b (c := Z.tm + 4) (by omega) (fd4 a Z.tm (h.I (x + 1)))
      have q3 := x_feeds (K := K) hn X.1 c (c := Z.tm + 8) (by omega) (fd4 b (Z.tm + 4) (fd4 a Z.tm (h.I (x + 1))))
      have q4 := x_feeds (K := K) hn X.1 d (c := Z.tm + 12) (by omega) (fd4 c (Z.tm + 8) (fd4 b (Z.tm + 4) (fd4 a Z.tm (h.I (x + 1)))))
      have q5 := x_feeds (K := K) hn X.1 e (c := Z.tm + 16) (by omega) (fd4 d (Z.tm + 12) (fd4 c (Z.tm + 8) (fd4 b (Z.tm + 4) (fd4 a Z.tm (h.I (x + 1))))))
      rw [h0] at q1
      have hl : (nI Z.tm + 20 ≤ (600 : Int32)) = True := (le600 ht).trans (eq_true hq)
      simp only [F_X0_feed, chk_true, bnd_some, ob_some, oc_some, oc_none, hl_eq, jn_eq, ix_0, ix_1, if_true, if_false, inb0_2, inb1_2, not_true_eq_false, not_false_eq_true, ite_true, ite_false, true_or, or_true, or_self, zero_eq_one_I, one_eq_zero_I, AH.kind_ovI, AH.len_ovI, AH.R_ovI, AH.L_ovI, AH.n_ovI, AH.sl_ovI, XSh_ov, MSh_ov, AH.n_setI, AH.n_setL, AH.n_setR, AH.sl_setI, AH.sl_setL, AH.sl_setR, AH.kind_setI, AH.kind_setL, AH.kind_setR, AH.len_setI, AH.len_setL, AH.len_setR, AH.I_setL, AH.I_setR, AH.L_setI, AH.L_setR, AH.R_setI, AH.R_setL, xs_k0, xs_k1, xs_n1, xs_k2, xs_k3, xs_k4, xs_k5, xs_k6, xs_k7, xs_k8, xs_k9, xs_k10, xs_k11, xs_n11, xs_k12, xs_n12, xs_k13, xs_n13, xs_k14, xs_n14, xs_k15, xs_n15, xs_k16, xs_n16, xs_k17, xs_n17, xs_k18, xs_n18, xs_k27, xs_n27, xs_k28, xs_n28, xs_r0_0, xs_r0_1, xs_r2_8, xs_r2_9, xs_r0_2, xs_r0_3, xs_r0_4, xs_r0_8, xs_r0_9, xs_r0_10, xs_r0_18, xs_r0_19, xs_r0_20, xs_r0_21, xs_r0_22, xs_r0_25, xs_r0_26, xs_r0_27, xs_r0_28, X.1, T.1, hl, q1, q2, q3, q4, q5, hI, fdA, Nat.add_assoc, Nat.reduceAdd]
    · have F : Fr 0 0 (fun a j => (a = x ∧ j = 6) ∨ a = x + 1) h ((h.setI x 6 (nI (Z.tm + 20))).ovI (x + 1) 600 (fdA a b c d e Z.tm (h.I (x + 1)))) :=
        Fr_of rfl rfl rfl rfl rfl (fun a' j z => by
          rw [I_ov_ne (fun w => z (Or.inr w)), AH.I_setI, if_neg (fun w => z (Or.inl w))])
      refine XIn_txt I1 F ⟨hI _ _, fun j hj => ?_⟩
      rw [I_ov_eq (by omega)]
      exact fdA_eq T.2 j hj
    · exact Fr_of rfl rfl rfl rfl rfl (fun a' j z => by
        have h1 : a' ≠ x + 1 := fun w => z (by intro y; have := y.1; omega)
        have h2 : a' ≠ x := fun w => z (by intro y; have := y.1; omega)
        rw [I_ov_ne h1, AH.I_setI, if_neg (fun w => h2 w.1)])
  · rw [if_neg hq, if_neg hq]
    refine xok_same I ?_
    have hl : (nI Z.tm + 20 ≤ (600 : Int32)) = False := (le600 ht).trans (eq_false hq)
    simp only [F_X0_feed, chk_true, bnd_some, ob_some, oc_some, oc_none, hl_eq, jn_eq, ix_0, ix_1, if_true, if_false, inb0_2, inb1_2, not_true_eq_false, not_false_eq_true, ite_true, ite_false, true_or, or_true, or_self, zero_eq_one_I, one_eq_zero_I, xs_k0, xs_k1, xs_n1, xs_k2, xs_k3, xs_k4, xs_k5, xs_k6, xs_k7, xs_k8, xs_k9, xs_k10, xs_k11, xs_n11, xs_k12, xs_n12, xs_k13, xs_n13, xs_k14, xs_n14, xs_k15, xs_n15, xs_k16, xs_n16, xs_k17, xs_n17, xs_k18, xs_n18, xs_k27, xs_n27, xs_k28, xs_n28, xs_r0_0, xs_r0_1, xs_r2_8, xs_r2_9, xs_r0_2, xs_r0_3, xs_r0_4, xs_r0_8, xs_r0_9, xs_r0_10, xs_r0_18, xs_r0_19, xs_r0_20, xs_r0_21, xs_r0_22, xs_r0_25, xs_r0_26, xs_r0_27, xs_r0_28, X.1, T.1, hl]
theorem om_feed {n : Nat} {K : Nat → Nat} {m : Nat} {h : AH} {Z : Zt} (hn : 20000 < n) (bz : Bz Z) (I : InvM m h Z) (a b c d e : Int32) : MOk m (feedZ Z a b c d e) (feedS Z) (F_X3_feed n K m a b c d e h) h := by
  have M := I.1
  have T := I.2.2.1
  have ht := bz.2.1
  unfold feedZ feedS
  by_cases hq : Z.tm + 20 ≤ 600
  · rw [if_pos hq, if_pos hq]
    have h0 : (h.setI m 1 (nI Z.tm)).ovI (m + 1) 600 (h.I (m + 1)) = h := by
      rw [← T.1, setI_self, ov_self]
    have hI : ∀ g k, ((h.setI m 1 (nI k)).ovI (m + 1) 600 g).I m 1 = nI k := by
      intro g k
      rw [I_ov_ne (by omega), AH.I_setI, if_pos ⟨rfl, rfl⟩]
    have F : Fr 0 0 (fun a j => (a = m ∧ j = 1) ∨ a = m + 1) h ((h.setI m 1 (nI (Z.tm + 20))).ovI (m + 1) 600 (fdA a b c d e Z.tm (h.I (m + 1)))) :=
      Fr_of rfl rfl rfl rfl rfl (fun a' j z => by
        rw [I_ov_ne (fun w => z (Or.inr w)), AH.I_setI, if_neg (fun w => z (Or.inl w))])
    refine ⟨(h.setI m 1 (nI (Z.tm + 20))).ovI (m + 1) 600 (fdA a b c d e Z.tm (h.I (m + 1))), ?_, ?_, ?_⟩
    · have q1 := m_feeds (K := K) hn M.1 a (c := Z.tm) (by omega) (h.I (m + 1))
      have q2 := m_feeds (K := K) hn M.1 b (c := Z.tm + 4) (by omega) (fd4 a Z.tm (h.I (m + 1)))
      have q3 := m_feeds (K := K) hn M.1 c (c := Z.tm + 8) (by omega) (fd4 b (Z.tm + 4) (fd4 a Z.tm (h.I (m + 1))))
      have q4 := m_feeds (K := K) hn M.1 d (c := Z.tm + 12) (by omega) (fd4 c (Z.tm + 8) (fd4 b (Z.tm + 4) (fd4 a Z.tm (h.I (m + 1)))))
      have q5 := m_feeds (K := K) hn M.1 e (c := Z.tm + 16) (by omega) (fd4 d (Z.tm + 12) (fd4 c (Z.tm + 8) (fd4 b (Z.tm + 4) (fd4 a Z.tm (h.I (m + 1))))))
      rw [h0] at q1
      have hl : (nI Z.tm + 20 ≤ (600 : Int32)) = True := (le600 ht).trans (eq_true hq)
      simp only [F_X3_feed, chk_true, bnd_some, ob_some, oc_some, oc_none, hl_eq, jn_eq, ix_0, ix_1, if_true, if_false, inb0_2, inb1_2, not_true_eq_false, not_false_eq_true, ite_true, ite_false, true_or, or_true, or_self, zero_eq_one_I, one_eq_zero_I, AH.kind_ovI, AH.len_ovI, AH.R_ovI, AH.L_ovI, AH.n_ovI, AH.sl_ovI, XSh_ov, MSh_ov, AH.n_setI, AH.n_setL, AH.n_setR, AH.sl_setI, AH.sl_setL, AH.sl_setR, AH.kind_setI, AH.kind_setL, AH.kind_setR, AH.len_setI, AH.len_setL, AH.len_setR, AH.I_setL, AH.I_setR, AH.L_setI, AH.L_setR, AH.R_setI, AH.R_setL, ms_k0, ms_k1, ms_n1, ms_k2, ms_n2, ms_k3, ms_n3, ms_k4, ms_n4, ms_k5, ms_n5, ms_k6, ms_n6, ms_k7, ms_n7, ms_k8, ms_n8, ms_k9, ms_n9, ms_k10, ms_n10, ms_k11, ms_n11, ms_k12, ms_n12, ms_k13, ms_n13, ms_k14, ms_n14, ms_k15, ms_n15, ms_k16, ms_n16, ms_k17, ms_n17, ms_k18, ms_n18, ms_k19, ms_n19, ms_k20, ms_n20, ms_k21, ms_n21, ms_k22, ms_n22, ms_k23, ms_n23, ms_k24, ms_n24, ms_k25, ms_n25, ms_k26, ms_n26, ms_k27, ms_n27, ms_k28, ms_n28, ms_k29, ms_n29, ms_k30, ms_n30, ms_k31, ms_n31, ms_k32, ms_n32, ms_k33, ms_n33, ms_k34, ms_n34, ms_k35, ms_n35, ms_k36, ms_n36, ms_k37, ms_n37, ms_k38, ms_n38, ms_k39, ms_n39, ms_k40, ms_n40, ms_k41, ms_n41, ms_k50, ms_n50, ms_k51, ms_n51, ms_k52, ms_n52, ms_k53, ms_n53, ms_r0_0, ms_r0_6, ms_r2_0, ms_r2_1, ms_r0_7, ms_r5_0, ms_r5_1, ms_r0_8, ms_r8_0, ms_r8_1, ms_r0_9, ms_r11_0, ms_r11_1, ms_r0_10, ms_r14_0, ms_r14_1, ms_r0_11, ms_r17_0, ms_r17_1, ms_r0_12, ms_r20_0, ms_r20_1, ms_r0_13, ms_r23_0, ms_r23_1, ms_r0_14, ms_r0_15, ms_r0_16, ms_r0_17, ms_r0_18, ms_r0_23, ms_r0_24, ms_r0_25, ms_r0_26, ms_r0_30, ms_r0_31, ms_r0_32, ms_r0_35, ms_r0_36, ms_r0_39, ms_r0_40, ms_r0_41, ms_r0_42, ms_r0_43, ms_r0_47, M.1, T.1, hl, q1, q2, q3, q4, q5, hI, fdA, Nat.add_assoc, Nat.reduceAdd]
    · refine InvM_txt I bz.2.2.1 F ⟨hI _ _, fun j hj => ?_⟩
      rw [I_ov_eq (by omega)]
      exact fdA_eq T.2 j hj
    · refine Fr_mono F (Nat.le_refl _) (Nat.le_refl _) (fun a' j _ z => ⟨⟨⟨by omega, by omega⟩, fun p hp w => ?_⟩, by omega⟩)
      have h1 : ∀ p, p ∈ mRs → p.1 ≠ 1 ∧ (p.1 = 0 → p.2.1 ≠ 1) := by decide
      have := h1 p hp
      omega
  · rw [if_neg hq, if_neg hq]
    refine mok_same bz I ?_
    have hl : (nI Z.tm + 20 ≤ (600 : Int32)) = False := (le600 ht).trans (eq_false hq)
    simp only [F_X3_feed, chk_true, bnd_some, ob_some, oc_some, oc_none, hl_eq, jn_eq, ix_0, ix_1, if_true, if_false, inb0_2, inb1_2, not_true_eq_false, not_false_eq_true, ite_true, ite_false, true_or, or_true, or_self, zero_eq_one_I, one_eq_zero_I, ms_k0, ms_k1, ms_n1, ms_k2, ms_n2, ms_k3, ms_n3, ms_k4, ms_n4, ms_k5, ms_n5, ms_k6, ms_n6, ms_k7, ms_n7, ms_k8, ms_n8, ms_k9, ms_n9, ms_k10, ms_n10, ms_k11, ms_n11, ms_k12, ms_n12, ms_k13, ms_n13, ms_k14, ms_n14, ms_k15, ms_n15, ms_k16, ms_n16, ms_k17, ms_n17, ms_k18, ms_n18, ms_k19, ms_n19, ms_k20, ms_n20, ms_k21, ms_n21, ms_k22, ms_n22, ms_k23, ms_n23, ms_k24, ms_n24, ms_k25, ms_n25, ms_k26, ms_n26, ms_k27, ms_n27, ms_k28, ms_n28, ms_k29, ms_n29, ms_k30, ms_n30, ms_k31, ms_n31, ms_k32, ms_n32, ms_k33, ms_n33, ms_k34, ms_n34, ms_k35, ms_n35, ms_k36, ms_n36, ms_k37, ms_n37, ms_k38, ms_n38, ms_k39, ms_n39, ms_k40, ms_n40, ms_k41, ms_n41, ms_k50, ms_n50, ms_k51, ms_n51, ms_k52, ms_n52, ms_k53, ms_n53, ms_r0_0, ms_r0_6, ms_r2_0, ms_r2_1, ms_r0_7, ms_r5_0, ms_r5_1, ms_r0_8, ms_r8_0, ms_r8_1, ms_r0_9, ms_r11_0, ms_r11_1, ms_r0_10, ms_r14_0, ms_r14_1, ms_r0_11, ms_r17_0, ms_r17_1, ms_r0_12, ms_r20_0, ms_r20_1, ms_r0_13, ms_r23_0, ms_r23_1, ms_r0_14, ms_r0_15, ms_r0_16, ms_r0_17, ms_r0_18, ms_r0_23, ms_r0_24, ms_r0_25, ms_r0_26, ms_r0_30, ms_r0_31, ms_r0_32, ms_r0_35, ms_r0_36, ms_r0_39, ms_r0_40, ms_r0_41, ms_r0_42, ms_r0_43, ms_r0_47, M.1, T.1, hl]
