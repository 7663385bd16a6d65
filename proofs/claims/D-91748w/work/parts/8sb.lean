/-! PURE PART SB: proof() and round() of the model -/
set_option maxRecDepth 100000
theorem m_meet {n : Nat} {K : Nat → Nat} {m : Nat} {h : AH} {S : St} (B : Bd S) (MS : MSh m h) (L : M3I m h (linesS S)) {i j k : Nat} (hi : i < (linesS S).1) (hj : j < (linesS S).1) (hk : k < (linesS S).1) : F_X3_meet n K m (nI i) (nI j) (nI k) h = some (bI (!noMeet ((linesS S).2 i) ((linesS S).2 j) ((linesS S).2 k)), h) := by
  obtain ⟨T5, h105⟩ := lines_ok B
  have bi := T5.2 i hi
  have bj := T5.2 j hj
  have bk := T5.2 k hk
  have cb := cr_bd bi bj
  obtain ⟨g1, g2, g3⟩ := L.2 i hi
  obtain ⟨p1, p2, p3⟩ := L.2 j hj
  obtain ⟨r1, r2, r3⟩ := L.2 k hk
  have e1 : ix (nI i) = i := ix_nI (by omega)
  have e2 : inb (nI i) 105 = True := eq_true ((inb_nI (by omega)).2 (by omega))
  have e3 : ix (nI j) = j := ix_nI (by omega)
  have e4 : inb (nI j) 105 = True := eq_true ((inb_nI (by omega)).2 (by omega))
  have e5 : ix (nI k) = k := ix_nI (by omega)
  have e6 : inb (nI k) 105 = True := eq_true ((inb_nI (by omega)).2 (by omega))
  obtain ⟨bi1, bi2, bi3⟩ := bi
  obtain ⟨bj1, bj2, bj3⟩ := bj
  obtain ⟨bk1, bk2, bk3⟩ := bk
  generalize (linesS S).2 i = s at *
  generalize (linesS S).2 j = t at *
  generalize (linesS S).2 k = u at *
  have l1 := i_l s.1 (by omega)
  have l2 := i_l s.2.1 (by omega)
  have l3 := i_l s.2.2 (by omega)
  have l4 := i_l t.1 (by omega)
  have l5 := i_l t.2.1 (by omega)
  have l6 := i_l t.2.2 (by omega)
  have l7 := i_l u.1 (by omega)
  have l8 := i_l u.2.1 (by omega)
  have l9 := i_l u.2.2 (by omega)
  have c1 : (s.2.2 * t.2.1 - t.2.2 * s.2.1).natAbs ≤ 4000000 := cb.1
  have c2 : (s.1 * t.2.2 - t.1 * s.2.2).natAbs ≤ 4000000 := cb.2.1
  have c3 : (crN s t).natAbs ≤ 20000 := cb.2.2
  have m1 := mul_bd bk1 c1
  have m2 := mul_bd bk2 c2
  have m3 := mul_bd bk3 c3
  have cN : Int64.ofInt (s.1 * t.2.1 - t.1 * s.2.1) = Int64.ofInt (crN s t) := rfl
  have eN : (Int64.ofInt (crN s t)).toInt = crN s t := l_of (by omega) (by omega)
  have x1 : (Int64.ofInt (u.1 * (s.2.2 * t.2.1 - t.2.2 * s.2.1) + u.2.1 * (s.1 * t.2.2 - t.1 * s.2.2))).toInt = u.1 * (s.2.2 * t.2.1 - t.2.2 * s.2.1) + u.2.1 * (s.1 * t.2.2 - t.1 * s.2.2) := l_of (by omega) (by omega)
  have x2 : (Int64.ofInt (u.2.2 * crN s t)).toInt = u.2.2 * crN s t := l_of (by omega) (by omega)
  have lm : ∀ {a b : Int}, (Int64.ofInt a = Int64.ofInt b) = (Int64.ofInt a = Int64.ofInt b) := rfl
  simp only [F_X3_meet, chk_true, bnd_some, ob_some, oc_some, oc_none, hl_eq, jn_eq, ix_0, ix_1, if_true, if_false, inb0_2, inb1_2, not_true_eq_false, not_false_eq_true, ite_true, ite_false, true_or, or_true, or_self, zero_eq_one_I, one_eq_zero_I, ms_k0, ms_k1, ms_n1, ms_k2, ms_n2, ms_k3, ms_n3, ms_k4, ms_n4, ms_k5, ms_n5, ms_k6, ms_n6, ms_k7, ms_n7, ms_k8, ms_n8, ms_k9, ms_n9, ms_k10, ms_n10, ms_k11, ms_n11, ms_k12, ms_n12, ms_k13, ms_n13, ms_k14, ms_n14, ms_k15, ms_n15, ms_k16, ms_n16, ms_k17, ms_n17, ms_k18, ms_n18, ms_k19, ms_n19, ms_k20, ms_n20, ms_k21, ms_n21, ms_k22, ms_n22, ms_k23, ms_n23, ms_k24, ms_n24, ms_k25, ms_n25, ms_k26, ms_n26, ms_k27, ms_n27, ms_k28, ms_n28, ms_k29, ms_n29, ms_k30, ms_n30, ms_k31, ms_n31, ms_k32, ms_n32, ms_k33, ms_n33, ms_k34, ms_n34, ms_k35, ms_n35, ms_k36, ms_n36, ms_k37, ms_n37, ms_k38, ms_n38, ms_k39, ms_n39, ms_k40, ms_n40, ms_k41, ms_n41, ms_k50, ms_n50, ms_k51, ms_n51, ms_k52, ms_n52, ms_k53, ms_n53, ms_r0_0, ms_r0_6, ms_r2_0, ms_r2_1, ms_r0_7, ms_r5_0, ms_r5_1, ms_r0_8, ms_r8_0, ms_r8_1, ms_r0_9, ms_r11_0, ms_r11_1, ms_r0_10, ms_r14_0, ms_r14_1, ms_r0_11, ms_r17_0, ms_r17_1, ms_r0_12, ms_r20_0, ms_r20_1, ms_r0_13, ms_r23_0, ms_r23_1, ms_r0_14, ms_r0_15, ms_r0_16, ms_r0_17, ms_r0_18, ms_r0_23, ms_r0_24, ms_r0_25, ms_r0_26, ms_r0_30, ms_r0_31, ms_r0_32, ms_r0_35, ms_r0_36, ms_r0_39, ms_r0_40, ms_r0_41, ms_r0_42, ms_r0_43, ms_r0_47, MS, e1, e2, e3, e4, e5, e6, g1, g2, g3, p1, p2, p3, r1, r2, r3, l1, l2, l3, l4, l5, l6, l7, l8, l9, l_pp, l_mm, l_aa, cN, c_eq0, c_eq, eN]
  have z0 : (0 : Int64).toInt = 0 := rfl
  simp only [x1, x2, z0]
  unfold noMeet
  by_cases c0 : crN s t = 0
  · simp [c0, bI]
  · by_cases cc : u.1 * (s.2.2 * t.2.1 - t.2.2 * s.2.1) + u.2.1 * (s.1 * t.2.2 - t.1 * s.2.2) = u.2.2 * crN s t
    · simp [c0, cc, bI]
    · simp [c0, cc, bI]
theorem m_pr54 {n : Nat} {K : Nat → Nat} {m : Nat} {h : AH} {S : St} (hn : 20000 < n) (B : Bd S) (MS : MSh m h) (L : M3I m h (linesS S)) {i j : Nat} (hi : i < (linesS S).1) (hj : j < (linesS S).1) (w : Int32) (kk : AH → Option (Int32 × AH)) : F_X3_proof_L54 n K (nI j) (nI i) m w n (nI (j + 1)) h kk = selS (prK S i j) (fun q => some (if w = 0 then nI i else if w = 1 then nI j else nI q, h)) (kk h) := by
  obtain ⟨T5, h105⟩ := lines_ok B
  refine loopG_aux (fun f q => F_X3_proof_L54 n K (nI j) (nI i) m w f q h kk) (linesS S).1 (fun q => noMeet ((linesS S).2 i) ((linesS S).2 j) ((linesS S).2 q)) (fun q => some (if w = 0 then nI i else if w = 1 then nI j else nI q, h)) (kk h) ?_ ?_ _ (j + 1) n (by omega) (by omega)
  · intro f q hq
    have e3 : (nI (linesS S).1 ≤ nI q) = False := eq_false (nI_ge hq (by omega))
    have me := m_meet (n := n) (K := K) B MS L hi hj hq
    simp only [F_X3_proof_L54, chk_true, bnd_some, ob_some, oc_some, oc_none, hl_eq, jn_eq, ix_0, ix_1, if_true, if_false, inb0_2, inb1_2, not_true_eq_false, not_false_eq_true, ite_true, ite_false, true_or, or_true, or_self, zero_eq_one_I, one_eq_zero_I, ms_k0 MS, L.1, e3, me, bI_0, nI_1]
    cases noMeet ((linesS S).2 i) ((linesS S).2 j) ((linesS S).2 q)
    · simp
    · by_cases w0 : w = 0
      · simp [w0]
      · by_cases w1 : w = 1
        · simp [w1]
        · simp [w0, w1]
  · intro f
    have e3 : (nI (linesS S).1 ≤ nI (linesS S).1) = True := eq_true (nI_le (Nat.le_refl _) (by omega))
    simp only [F_X3_proof_L54, chk_true, bnd_some, ob_some, oc_some, oc_none, hl_eq, jn_eq, ix_0, ix_1, if_true, if_false, inb0_2, inb1_2, not_true_eq_false, not_false_eq_true, ite_true, ite_false, true_or, or_true, or_self, zero_eq_one_I, one_eq_zero_I, ms_k0 MS, L.1, e3]
theorem m_pr41 {n : Nat} {K : Nat → Nat} {m : Nat} {h : AH} {S : St} (hn : 20000 < n) (B : Bd S) (MS : MSh m h) (L : M3I m h (linesS S)) {i : Nat} (hi : i < (linesS S).1) (w : Int32) (kk : AH → Option (Int32 × AH)) : F_X3_proof_L41 n K (nI i) m w n (nI (i + 1)) h kk = selS (prJ S i) (fun j => selS (prK S i j) (fun q => some (if w = 0 then nI i else if w = 1 then nI j else nI q, h)) (some (-1, h))) (kk h) := by
  obtain ⟨T5, h105⟩ := lines_ok B
  refine loopG_aux (fun f q => F_X3_proof_L41 n K (nI i) m w f q h kk) (linesS S).1 (fun j => (prK S i j).isSome) (fun j => selS (prK S i j) (fun q => some (if w = 0 then nI i else if w = 1 then nI j else nI q, h)) (some (-1, h))) (kk h) ?_ ?_ _ (i + 1) n (by omega) (by omega)
  · intro f j hj
    have e3 : (nI (linesS S).1 ≤ nI j) = False := eq_false (nI_ge hj (by omega))
    have L54 := m_pr54 (n := n) (K := K) hn B MS L hi hj w (fun h35 => F_X3_proof_L41 n K (nI i) m w f (nI (j + 1)) h35 kk)
    show F_X3_proof_L41 n K (nI i) m w (f + 1) (nI j) h kk = _
    rw [F_X3_proof_L41]
    simp only [chk_true, bnd_some, ob_some, oc_some, oc_none, hl_eq, jn_eq, ix_0, ix_1, if_true, if_false, inb0_2, inb1_2, not_true_eq_false, not_false_eq_true, ite_true, ite_false, true_or, or_true, or_self, zero_eq_one_I, one_eq_zero_I, ms_k0 MS, L.1, e3, nI_1, L54]
    cases prK S i j <;> rfl
  · intro f
    have e3 : (nI (linesS S).1 ≤ nI (linesS S).1) = True := eq_true (nI_le (Nat.le_refl _) (by omega))
    simp only [F_X3_proof_L41, chk_true, bnd_some, ob_some, oc_some, oc_none, hl_eq, jn_eq, ix_0, ix_1, if_true, if_false, inb0_2, inb1_2, not_true_eq_false, not_false_eq_true, ite_true, ite_false, true_or, or_true, or_self, zero_eq_one_I, one_eq_zero_I, ms_k0 MS, L.1, e3]
theorem m_pr29 {n : Nat} {K : Nat → Nat} {m : Nat} {h : AH} {S : St} (hn : 20000 < n) (B : Bd S) (MS : MSh m h) (L : M3I m h (linesS S)) (w : Int32) : F_X3_proof_L29 n K m w n 0 h = selS (prI S) (fun i => selS (prJ S i) (fun j => selS (prK S i j) (fun q => some (if w = 0 then nI i else if w = 1 then nI j else nI q, h)) (some (-1, h))) (some (-1, h))) (some (-1, h)) := by
  obtain ⟨T5, h105⟩ := lines_ok B
  refine loopG (fun f q => F_X3_proof_L29 n K m w f q h) (linesS S).1 (fun i => (prJ S i).isSome) (fun i => selS (prJ S i) (fun j => selS (prK S i j) (fun q => some (if w = 0 then nI i else if w = 1 then nI j else nI q, h)) (some (-1, h))) (some (-1, h))) (some (-1, h)) ?_ ?_ n (by omega)
  · intro f i hi
    have e3 : (nI (linesS S).1 ≤ nI i) = False := eq_false (nI_ge hi (by omega))
    have L41 := m_pr41 (n := n) (K := K) hn B MS L hi w (fun h36 => F_X3_proof_L29 n K m w f (nI (i + 1)) h36)
    show F_X3_proof_L29 n K m w (f + 1) (nI i) h = _
    rw [F_X3_proof_L29]
    simp only [chk_true, bnd_some, ob_some, oc_some, oc_none, hl_eq, jn_eq, ix_0, ix_1, if_true, if_false, inb0_2, inb1_2, not_true_eq_false, not_false_eq_true, ite_true, ite_false, true_or, or_true, or_self, zero_eq_one_I, one_eq_zero_I, ms_k0 MS, L.1, e3, nI_1, L41]
    cases prJ S i <;> rfl
  · intro f
    have e3 : (nI (linesS S).1 ≤ nI (linesS S).1) = True := eq_true (nI_le (Nat.le_refl _) (by omega))
    simp only [F_X3_proof_L29, chk_true, bnd_some, ob_some, oc_some, oc_none, hl_eq, jn_eq, ix_0, ix_1, if_true, if_false, inb0_2, inb1_2, not_true_eq_false, not_false_eq_true, ite_true, ite_false, true_or, or_true, or_self, zero_eq_one_I, one_eq_zero_I, ms_k0 MS, L.1, e3]
theorem m_in2 {n : Nat} {K : Nat → Nat} {h : AH} (a : Int32) : F_X3_in n K a.toInt64 (0 : Int64) (2 : Int64) h = some (bI (inS a 0 2), h) := m_inC a 2 (by decide)
theorem m_in3 {n : Nat} {K : Nat → Nat} {h : AH} (a : Int32) : F_X3_in n K a.toInt64 (0 : Int64) (3 : Int64) h = some (bI (inS a 0 3), h) := m_inC a 3 (by decide)
theorem om_proof {n : Nat} {K : Nat → Nat} {m : Nat} {h : AH} {Z : Zt} (hn : 20000 < n) (bz : Bz Z) (I : InvM m h Z) (w : Int32) : MOk m Z (proofS Z.S w) (F_X3_proof n K m w h) h := by
  have k0 := ms_k0 I.1.1
  unfold proofS
  cases hw : inS w 0 2
  · rw [if_neg (by decide)]
    refine mok_same bz I ?_
    simp only [F_X3_proof, chk_true, bnd_some, ob_some, oc_some, oc_none, hl_eq, jn_eq, ix_0, ix_1, if_true, if_false, inb0_2, inb1_2, not_true_eq_false, not_false_eq_true, ite_true, ite_false, true_or, or_true, or_self, zero_eq_one_I, one_eq_zero_I, m_in2, hw, bI_0]
  · rw [if_pos rfl]
    obtain ⟨h1, q1, J, F⟩ := m_knows (K := K) hn bz I
    refine mok_know J F ?_
    have MS := J.1.1.1
    have L := J.2.2.1
    have hb := (middles_ok bz.1).2
    have k1 := ms_k0 MS
    simp only [F_X3_proof, chk_true, bnd_some, ob_some, oc_some, oc_none, hl_eq, jn_eq, ix_0, ix_1, if_true, if_false, inb0_2, inb1_2, not_true_eq_false, not_false_eq_true, ite_true, ite_false, true_or, or_true, or_self, zero_eq_one_I, one_eq_zero_I, m_in2, hw, bI_0, Bool.true_eq_false, k0, q1, k1, J.2.2.2.1, m_pr29 hn bz.1 MS L]
    unfold prS
    by_cases em : (middlesS Z.S).1 = 0
    · have e1 : (nI (middlesS Z.S).1 ≤ 0) = True := eq_true (by rw [em]; decide)
      rw [if_pos em]
      simp only [e1, chk_true, bnd_some, ob_some, oc_some, oc_none, hl_eq, jn_eq, ix_0, ix_1, if_true, if_false, inb0_2, inb1_2, not_true_eq_false, not_false_eq_true, ite_true, ite_false, true_or, or_true, or_self, zero_eq_one_I, one_eq_zero_I]
      have ww : ∀ i j q : Nat, (if w = 0 then nI i else if w = 1 then nI j else nI q) = if ix w = 0 then nI i else if ix w = 1 then nI j else nI q := by
        intro i j q
        rcases (in02 w).1 hw with rfl | rfl | rfl
        · rfl
        · rfl
        · rfl
      simp only [ww]
      cases prI Z.S with
      | none => rfl
      | some i =>
        show selS (prJ Z.S i) _ _ = some (selS (prJ Z.S i) _ _, h1)
        cases prJ Z.S i with
        | none => rfl
        | some j =>
          show selS (prK Z.S i j) _ _ = some (selS (prK Z.S i j) _ _, h1)
          cases prK Z.S i j with
          | none => rfl
          | some k => rfl
    · have e1 : (nI (middlesS Z.S).1 ≤ 0) = False := eq_false (nI_nle (by omega) (by omega))
      rw [if_neg em]
      simp only [e1, chk_true, bnd_some, ob_some, oc_some, oc_none, hl_eq, jn_eq, ix_0, ix_1, if_true, if_false, inb0_2, inb1_2, not_true_eq_false, not_false_eq_true, ite_true, ite_false, true_or, or_true, or_self, zero_eq_one_I, one_eq_zero_I]
/-! round -/
def AH.fa (h : AH) (m : Nat) (s : Int64 × Int64) : AH := (h.setL m 33 s.1).setL m 34 s.2
theorem fa_L (h : AH) (m : Nat) (s : Int64 × Int64) (p j : Nat) : (h.fa m s).L p j = if p = m ∧ j = 34 then s.2 else if p = m ∧ j = 33 then s.1 else h.L p j := by
  unfold AH.fa
  simp only [AH.L_setL]
theorem fa_fa (h : AH) (m : Nat) (s t : Int64 × Int64) : (h.fa m s).fa m t = h.fa m t := by
  refine AH.ext rfl rfl rfl (fun _ _ => rfl) (fun p j => ?_) (fun _ _ => rfl)
  rw [fa_L, fa_L, fa_L]; split <;> (try rfl) <;> split <;> rfl
theorem fa_fr (h : AH) (m : Nat) (s : Int64 × Int64) : Fr 0 0 (ScM m) h (h.fa m s) := by
  refine ⟨id, Nat.le_refl _, Nat.le_refl _, Nat.le_refl _, Nat.le_refl _, fun p _ => ⟨rfl, rfl, fun j hj => ⟨rfl, ?_, rfl⟩⟩⟩
  have a1 : ¬ (p = m ∧ j = 34) := by rintro ⟨rfl, e⟩; exact hj (ScM_fld (by omega))
  have a2 : ¬ (p = m ∧ j = 33) := by rintro ⟨rfl, e⟩; exact hj (ScM_fld (by omega))
  rw [fa_L, if_neg a1, if_neg a2]
theorem m_far {n : Nat} {K : Nat → Nat} {m : Nat} {h : AH} {S : St} (hn : 20000 < n) (B : Bd S) (MS : MSh m h) (L : M3I m h (linesS S)) {a b : Nat} (ha : a < 100) (hb : b < 100) : F_X3_far n K m (nI a) (nI b) h = some ((), h.fa m (farS S (100 * a + b))) := by
  obtain ⟨T5, h105⟩ := lines_ok B
  have ea : (nI a).toInt64 = Int64.ofInt (a : Int) := by rw [V_l, nI_toInt (by omega)]
  have eb : (nI b).toInt64 = Int64.ofInt (b : Int) := by rw [V_l, nI_toInt (by omega)]
  have k0 := ms_k0 MS
  have key := loopU (fun f i (s : AH) => F_X3_far_L12 n K m (nI a) (nI b) f i s) (linesS S).1 (fun q s => s = h.fa m (foldS (farG S (Int64.ofInt (a : Int)) (Int64.ofInt (b : Int))) (0, 1) q)) (fun o => o = some ((), h.fa m (farS S (100 * a + b))))
    (by
      intro f q s hq hs
      right
      refine ⟨_, rfl, ?_⟩
      have e1 : ix (nI q) = q := ix_nI (by omega)
      have e2 : inb (nI q) 105 = True := eq_true ((inb_nI (by omega)).2 (by omega))
      have e3 : (nI (linesS S).1 ≤ nI q) = False := eq_false (nI_ge hq (by omega))
      obtain ⟨g1, g2, g3⟩ := L.2 q hq
      obtain ⟨b1, b2, b3⟩ := T5.2 q hq
      have l1 := i_l ((linesS S).2 q).1 (by omega)
      have l2 := i_l ((linesS S).2 q).2.1 (by omega)
      have l3 := i_l ((linesS S).2 q).2.2 (by omega)
      have cg : ∀ {u v : Int64}, (0 < lg_cmp u v) = ¬ (u ≤ v) := by
        intro u v
        rw [lg_cmp_gt, Int64.lt_iff_toInt_lt, Int64.le_iff_toInt_le]
        exact propext ⟨fun z => by omega, fun z => by omega⟩
      rw [hs, show foldS (farG S (Int64.ofInt (a : Int)) (Int64.ofInt (b : Int))) (0, 1) (q + 1) = farG S (Int64.ofInt (a : Int)) (Int64.ofInt (b : Int)) q (foldS (farG S (Int64.ofInt (a : Int)) (Int64.ofInt (b : Int))) (0, 1) q) from rfl]
      generalize foldS (farG S (Int64.ofInt (a : Int)) (Int64.ofInt (b : Int))) (0, 1) q = r
      have kd : (h.fa m r).kind = h.kind := rfl
      have ln : (h.fa m r).len = h.len := rfl
      have rr : (h.fa m r).R = h.R := rfl
      have ii : (h.fa m r).I = h.I := rfl
      have L33 : (h.fa m r).L m 33 = r.1 := by rw [fa_L, if_neg (by omega), if_pos ⟨rfl, rfl⟩]
      have L34 : (h.fa m r).L m 34 = r.2 := by rw [fa_L, if_pos ⟨rfl, rfl⟩]
      by_cases c : (Int64.ofInt ((linesS S).2 q).1 * Int64.ofInt (a : Int) + Int64.ofInt ((linesS S).2 q).2.1 * Int64.ofInt (b : Int) - Int64.ofInt ((linesS S).2 q).2.2) * (Int64.ofInt ((linesS S).2 q).1 * Int64.ofInt (a : Int) + Int64.ofInt ((linesS S).2 q).2.1 * Int64.ofInt (b : Int) - Int64.ofInt ((linesS S).2 q).2.2) * r.2 ≤ r.1 * (Int64.ofInt ((linesS S).2 q).1 * Int64.ofInt ((linesS S).2 q).1 + Int64.ofInt ((linesS S).2 q).2.1 * Int64.ofInt ((linesS S).2 q).2.1)
      · have fg : farG S (Int64.ofInt (a : Int)) (Int64.ofInt (b : Int)) q r = r := (farG_eq ..).trans (if_pos c)
        have c' := eq_true c
        simp only [F_X3_far_L12, chk_true, bnd_some, ob_some, oc_some, oc_none, hl_eq, jn_eq, ix_0, ix_1, if_true, if_false, inb0_2, inb1_2, not_true_eq_false, not_false_eq_true, ite_true, ite_false, true_or, or_true, or_self, zero_eq_one_I, one_eq_zero_I, kd, ln, rr, ii, ms_k0, ms_k1, ms_n1, ms_k2, ms_n2, ms_k3, ms_n3, ms_k4, ms_n4, ms_k5, ms_n5, ms_k6, ms_n6, ms_k7, ms_n7, ms_k8, ms_n8, ms_k9, ms_n9, ms_k10, ms_n10, ms_k11, ms_n11, ms_k12, ms_n12, ms_k13, ms_n13, ms_k14, ms_n14, ms_k15, ms_n15, ms_k16, ms_n16, ms_k17, ms_n17, ms_k18, ms_n18, ms_k19, ms_n19, ms_k20, ms_n20, ms_k21, ms_n21, ms_k22, ms_n22, ms_k23, ms_n23, ms_k24, ms_n24, ms_k25, ms_n25, ms_k26, ms_n26, ms_k27, ms_n27, ms_k28, ms_n28, ms_k29, ms_n29, ms_k30, ms_n30, ms_k31, ms_n31, ms_k32, ms_n32, ms_k33, ms_n33, ms_k34, ms_n34, ms_k35, ms_n35, ms_k36, ms_n36, ms_k37, ms_n37, ms_k38, ms_n38, ms_k39, ms_n39, ms_k40, ms_n40, ms_k41, ms_n41, ms_k50, ms_n50, ms_k51, ms_n51, ms_k52, ms_n52, ms_k53, ms_n53, ms_r0_0, ms_r0_6, ms_r2_0, ms_r2_1, ms_r0_7, ms_r5_0, ms_r5_1, ms_r0_8, ms_r8_0, ms_r8_1, ms_r0_9, ms_r11_0, ms_r11_1, ms_r0_10, ms_r14_0, ms_r14_1, ms_r0_11, ms_r17_0, ms_r17_1, ms_r0_12, ms_r20_0, ms_r20_1, ms_r0_13, ms_r23_0, ms_r23_1, ms_r0_14, ms_r0_15, ms_r0_16, ms_r0_17, ms_r0_18, ms_r0_23, ms_r0_24, ms_r0_25, ms_r0_26, ms_r0_30, ms_r0_31, ms_r0_32, ms_r0_35, ms_r0_36, ms_r0_39, ms_r0_40, ms_r0_41, ms_r0_42, ms_r0_43, ms_r0_47, MS, L.1, e1, e2, e3, g1, g2, g3, l1, l2, l3, ea, eb, cg, L33, L34, fg, c', nI_1]
      · have fg := (farG_eq S (Int64.ofInt (a : Int)) (Int64.ofInt (b : Int)) q r).trans (if_neg c)
        have c' := eq_false c
        rw [fg]
        simp only [F_X3_far_L12, chk_true, bnd_some, ob_some, oc_some, oc_none, hl_eq, jn_eq, ix_0, ix_1, if_true, if_false, inb0_2, inb1_2, not_true_eq_false, not_false_eq_true, ite_true, ite_false, true_or, or_true, or_self, zero_eq_one_I, one_eq_zero_I, kd, ln, rr, ii, ms_k0, ms_k1, ms_n1, ms_k2, ms_n2, ms_k3, ms_n3, ms_k4, ms_n4, ms_k5, ms_n5, ms_k6, ms_n6, ms_k7, ms_n7, ms_k8, ms_n8, ms_k9, ms_n9, ms_k10, ms_n10, ms_k11, ms_n11, ms_k12, ms_n12, ms_k13, ms_n13, ms_k14, ms_n14, ms_k15, ms_n15, ms_k16, ms_n16, ms_k17, ms_n17, ms_k18, ms_n18, ms_k19, ms_n19, ms_k20, ms_n20, ms_k21, ms_n21, ms_k22, ms_n22, ms_k23, ms_n23, ms_k24, ms_n24, ms_k25, ms_n25, ms_k26, ms_n26, ms_k27, ms_n27, ms_k28, ms_n28, ms_k29, ms_n29, ms_k30, ms_n30, ms_k31, ms_n31, ms_k32, ms_n32, ms_k33, ms_n33, ms_k34, ms_n34, ms_k35, ms_n35, ms_k36, ms_n36, ms_k37, ms_n37, ms_k38, ms_n38, ms_k39, ms_n39, ms_k40, ms_n40, ms_k41, ms_n41, ms_k50, ms_n50, ms_k51, ms_n51, ms_k52, ms_n52, ms_k53, ms_n53, ms_r0_0, ms_r0_6, ms_r2_0, ms_r2_1, ms_r0_7, ms_r5_0, ms_r5_1, ms_r0_8, ms_r8_0, ms_r8_1, ms_r0_9, ms_r11_0, ms_r11_1, ms_r0_10, ms_r14_0, ms_r14_1, ms_r0_11, ms_r17_0, ms_r17_1, ms_r0_12, ms_r20_0, ms_r20_1, ms_r0_13, ms_r23_0, ms_r23_1, ms_r0_14, ms_r0_15, ms_r0_16, ms_r0_17, ms_r0_18, ms_r0_23, ms_r0_24, ms_r0_25, ms_r0_26, ms_r0_30, ms_r0_31, ms_r0_32, ms_r0_35, ms_r0_36, ms_r0_39, ms_r0_40, ms_r0_41, ms_r0_42, ms_r0_43, ms_r0_47, MS, L.1, e1, e2, e3, g1, g2, g3, l1, l2, l3, ea, eb, cg, L33, L34, c', nI_1]
        show F_X3_far_L12 n K m (nI a) (nI b) f (nI (q + 1)) ((h.fa m r).fa m (_, _)) = _
        rw [fa_fa]
        rfl)
    (by
      intro f s hs
      have e3 : (nI (linesS S).1 ≤ nI (linesS S).1) = True := eq_true (nI_le (Nat.le_refl _) (by omega))
      have k1 : s.kind m = 5 := by rw [hs]; exact k0
      have i27 : s.I m 27 = nI (linesS S).1 := by rw [hs]; exact L.1
      simp only [F_X3_far_L12, chk_true, bnd_some, ob_some, oc_some, oc_none, hl_eq, jn_eq, ix_0, ix_1, if_true, if_false, inb0_2, inb1_2, not_true_eq_false, not_false_eq_true, ite_true, ite_false, true_or, or_true, or_self, zero_eq_one_I, one_eq_zero_I, k1, i27, e3]
      rw [hs]
      unfold farS
      rw [show (100 * a + b) / 100 = a by omega, show (100 * a + b) % 100 = b by omega])
  have k := key (linesS S).1 0 (h.fa m (0, 1)) n (by omega) (by omega) rfl
  simp only [F_X3_far, chk_true, bnd_some, ob_some, oc_some, oc_none, hl_eq, jn_eq, ix_0, ix_1, if_true, if_false, inb0_2, inb1_2, not_true_eq_false, not_false_eq_true, ite_true, ite_false, true_or, or_true, or_self, zero_eq_one_I, one_eq_zero_I, k0]
  exact k
theorem i_div100 {p : Nat} (h : p < 10000) : nI p / 100 = nI (p / 100) := pk_div (d := 100) (by omega) (by omega) (by omega)
theorem i_mod100 {p : Nat} (h : p < 10000) : nI p - nI p / 100 * 100 = nI (p % 100) := by
  rw [i_div100 h]
  apply Int32.toInt_inj.1
  have e1 : (nI (p / 100) * 100).toInt = ((p / 100 : Nat) : Int) * 100 := by
    rw [i_mul (by rw [nI_toInt (by omega)]; show _ ≤ _ * (100 : Int); omega) (by rw [nI_toInt (by omega)]; show _ * (100 : Int) ≤ _; omega), nI_toInt (by omega)]; rfl
  rw [i_sub (by rw [e1, nI_toInt (by omega)]; omega) (by rw [e1, nI_toInt (by omega)]; omega), e1, nI_toInt (by omega), nI_toInt (by omega)]
  omega
theorem om_round {n : Nat} {K : Nat → Nat} {m : Nat} {h : AH} {Z : Zt} (hn : 20000 < n) (bz : Bz Z) (I : InvM m h Z) (w : Int32) : MOk m Z (roundS Z.S w) (F_X3_round n K m w h) h := by
  have k0 := ms_k0 I.1.1
  have vo := m_voters (n := n) (K := K) I.1.1 I.1.2.1
  have B := bz.1
  have h15 : Z.S.nv ≤ 15 := B.2.2.2.1
  unfold roundS
  by_cases nv0 : Z.S.nv = 0
  · rw [if_pos nv0]
    refine mok_same bz I ?_
    simp only [F_X3_round, chk_true, bnd_some, ob_some, oc_some, oc_none, hl_eq, jn_eq, ix_0, ix_1, if_true, if_false, inb0_2, inb1_2, not_true_eq_false, not_false_eq_true, ite_true, ite_false, true_or, or_true, or_self, zero_eq_one_I, one_eq_zero_I, k0, vo, nv0, nI_0]
  · rw [if_neg nv0]
    have z1 : (nI Z.S.nv = 0) = False := eq_false (nI_ne0 (by omega) (by omega))
    cases hw : inS w 0 3
    · rw [if_neg (by decide)]
      refine mok_same bz I ?_
      simp only [F_X3_round, chk_true, bnd_some, ob_some, oc_some, oc_none, hl_eq, jn_eq, ix_0, ix_1, if_true, if_false, inb0_2, inb1_2, not_true_eq_false, not_false_eq_true, ite_true, ite_false, true_or, or_true, or_self, zero_eq_one_I, one_eq_zero_I, k0, vo, z1, m_in3, hw, bI_0]
    · rw [if_pos rfl]
      obtain ⟨h1, q1, J, F⟩ := m_knows (K := K) hn bz I
      have MS := J.1.1.1
      have L := J.2.2.1
      have k1 := ms_k0 MS
      have f0 := m_far (n := n) (K := K) hn B MS L (a := 0) (b := 0) (by omega) (by omega)
      have fL : ∀ p, p < 10000 → ∀ t, F_X3_far n K m (nI (p / 100)) (nI (p % 100)) (h1.fa m t) = some ((), h1.fa m (farS Z.S p)) := by
        intro p hp t
        have := m_far (n := n) (K := K) (h := h1.fa m t) hn B MS L (a := p / 100) (b := p % 100) (by omega) (by omega)
        rw [show 100 * (p / 100) + p % 100 = p by omega, fa_fa] at this
        exact this
      have L33 : ∀ r, (h1.fa m r).L m 33 = r.1 := fun r => by rw [fa_L, if_neg (by omega), if_pos ⟨rfl, rfl⟩]
      have L34 : ∀ r, (h1.fa m r).L m 34 = r.2 := fun r => by rw [fa_L, if_pos ⟨rfl, rfl⟩]
      have kd : ∀ r, (h1.fa m r).kind m = 5 := fun r => k1
      have key : ∃ t, F_X3_round_L47 n K m w n 1 (farS Z.S 0).2 (farS Z.S 0).1 0 (h1.fa m (farS Z.S 0)) = F_X3_round_L47 n K m w 1 (nI 10000) (rdS Z.S).2.2 (rdS Z.S).2.1 (nI (rdS Z.S).1) (h1.fa m t) := by
        rw [rdS_P]
        refine loopU (fun f i (s : (Nat × Int64 × Int64) × (Int64 × Int64)) => F_X3_round_L47 n K m w f i s.1.2.2 s.1.2.1 (nI s.1.1) (h1.fa m s.2)) 10000 (fun p s => 1 ≤ p ∧ s.1 = rdP Z.S (p - 1)) (fun o => ∃ t, o = F_X3_round_L47 n K m w 1 (nI 10000) (rdP Z.S 9999).2.2 (rdP Z.S 9999).2.1 (nI (rdP Z.S 9999).1) (h1.fa m t)) ?_ ?_ 9999 1 ((0, farS Z.S 0), farS Z.S 0) n (by omega) (by omega) ⟨Nat.le_refl _, rfl⟩
        · rintro f p ⟨s, t⟩ hp ⟨hp1, hs⟩
          right
          have hs' : s = rdP Z.S (p - 1) := hs
          obtain ⟨q, rfl⟩ : ∃ q, p = q + 1 := ⟨p - 1, by omega⟩
          refine ⟨(rdP Z.S (q + 1), farS Z.S (q + 1)), ⟨by omega, rfl⟩, ?_⟩
          show F_X3_round_L47 n K m w (f + 1) (nI (q + 1)) s.2.2 s.2.1 (nI s.1) (h1.fa m t) = F_X3_round_L47 n K m w f (nI (q + 1 + 1)) (rdP Z.S (q + 1)).2.2 (rdP Z.S (q + 1)).2.1 (nI (rdP Z.S (q + 1)).1) (h1.fa m (farS Z.S (q + 1)))
          have e3 : ((10000 : Int32) ≤ nI (q + 1)) = False := eq_false (nI_ge (b := 10000) hp (by omega))
          have cl : ∀ {u v : Int64}, (lg_cmp u v < 0) = ¬ (v ≤ u) := by
            intro u v
            rw [lg_cmp_lt, Int64.lt_iff_toInt_lt, Int64.le_iff_toInt_le]
            exact propext ⟨fun z => by omega, fun z => by omega⟩
          rw [rdP_s]
          rw [show q + 1 - 1 = q from rfl] at hs'
          rw [← hs']
          rw [F_X3_round_L47]
          rw [i_mod100 hp, i_div100 hp]
          simp only [chk_true, bnd_some, ob_some, oc_some, oc_none, hl_eq, jn_eq, ix_0, ix_1, if_true, if_false, inb0_2, inb1_2, not_true_eq_false, not_false_eq_true, ite_true, ite_false, true_or, or_true, or_self, zero_eq_one_I, one_eq_zero_I, e3, kd, fL (q + 1) hp, L33, L34, cl, nI_1]
          unfold rdG
          by_cases c2 : s.2.1 * (farS Z.S (q + 1)).2 ≤ (farS Z.S (q + 1)).1 * s.2.2
          · rw [if_neg (fun y => y c2), if_pos c2]
          · rw [if_pos c2, if_neg c2]
        · rintro f ⟨s, t⟩ ⟨_, hs⟩
          have hs' : s = rdP Z.S 9999 := hs
          refine ⟨t, ?_⟩
          have e3 : ((10000 : Int32) ≤ nI 10000) = True := eq_true (by decide)
          show F_X3_round_L47 n K m w (f + 1) (nI 10000) s.2.2 s.2.1 (nI s.1) (h1.fa m t) = _
          rw [hs']
          simp only [F_X3_round_L47, chk_true, bnd_some, ob_some, oc_some, oc_none, hl_eq, ix_0, ix_1, if_true, if_false, inb0_2, inb1_2, not_true_eq_false, not_false_eq_true, ite_true, ite_false, true_or, or_true, or_self, zero_eq_one_I, one_eq_zero_I, e3]
      obtain ⟨t, key⟩ := key
      obtain ⟨rb1, rb2⟩ := rd_ok B
      obtain ⟨g1, g2⟩ := gcdL_ok rb2
      have gc := m_gcd (n := n) (K := K) (h := h1.fa m t) hn (a := (rdS Z.S).2.1) (b := (rdS Z.S).2.2) ⟨by have := rb2.1; omega, by have := rb2.2.1; omega⟩ ⟨by have := rb2.2.2.1; omega, by have := rb2.2.2.2; omega⟩
      rw [g1] at gc
      refine ⟨h1.fa m t, ?_, InvM_fr (MMb_inv J) bz.2.2.1 (fa_fr h1 m t) (fun _ _ _ z => Or.inl z), Fr_trans (W := fun a j => RgW m a j ∧ a ≠ m + 31) F (fa_fr h1 m t) (fun _ _ _ z => ⟨WK_in z, WK_31 z⟩) (fun _ _ _ z => ⟨ScM_in z, ScM_31 z⟩)⟩
      have f0' : F_X3_far n K m 0 0 h1 = some ((), h1.fa m (farS Z.S 0)) := f0
      have e3 : ((10000 : Int32) ≤ nI 10000) = True := eq_true (by decide)
      have g2' := eq_false g2
      simp only [F_X3_round, chk_true, bnd_some, ob_some, oc_some, oc_none, hl_eq, jn_eq, ix_0, ix_1, if_true, if_false, inb0_2, inb1_2, not_true_eq_false, not_false_eq_true, ite_true, ite_false, true_or, or_true, or_self, zero_eq_one_I, one_eq_zero_I, k0, vo, z1, m_in3, hw, bI_0, Bool.true_eq_false, q1, k1, f0', kd, L33, L34, key]
      rw [F_X3_round_L47]
      generalize rdS Z.S = R at *
      have im : nI R.1 - nI (R.1 / 100) * 100 = nI (R.1 % 100) := by rw [← i_div100 rb1]; exact i_mod100 rb1
      simp only [chk_true, bnd_some, ob_some, oc_some, oc_none, hl_eq, jn_eq, ix_0, ix_1, if_true, if_false, inb0_2, inb1_2, not_true_eq_false, not_false_eq_true, ite_true, ite_false, true_or, or_true, or_self, zero_eq_one_I, one_eq_zero_I, e3, gc, i_div100 rb1, im, g2']
      by_cases w0 : w = 0
      · simp [w0]
      · by_cases w1 : w = 1
        · simp [w1]
        · by_cases w2 : w = 2
          · simp [w2]
          · simp [w0, w1, w2]
