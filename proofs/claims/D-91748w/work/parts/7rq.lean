/-! PURE PART RQ: the model's lines -/
set_option maxRecDepth 100000
def MC (m : Nat) (h : AH) (Z : Zt) : Prop := MA m h Z.S ∧ MMo m h Z.nm Z.Mo ∧ MTx m h Z.tm Z.T
def WK (m a j : Nat) : Prop := (m + 32 ≤ a ∧ a ≤ m + 37) ∨ (a = m ∧ (j = 27 ∨ j = 28 ∨ j = 29 ∨ j = 33 ∨ j = 34))
def WL (m a j : Nat) : Prop := (m + 32 ≤ a ∧ a ≤ m + 34) ∨ (a = m ∧ j = 27)
def WM (m a j : Nat) : Prop := (m + 35 ≤ a ∧ a ≤ m + 37) ∨ (a = m ∧ j = 28)
theorem WK_in {m a j : Nat} (z : WK m a j) : RgW m a j := by
  have h1 : ∀ p, p ∈ mRs → (p.1 < 32 ∨ 37 < p.1) ∧ (p.1 = 0 → p.2.1 < 27 ∨ 34 < p.2.1 ∨ (29 < p.2.1 ∧ p.2.1 < 33)) := by decide
  refine ⟨?_, fun p hp => ?_⟩
  · rcases z with z | z
    · exact ⟨by omega, by omega⟩
    · exact ⟨by omega, by omega⟩
  · have h2 := h1 p hp
    rintro ⟨w1, w2⟩
    rcases z with z | z
    · omega
    · have := h2.2 (by omega)
      omega
theorem WK_31 {m a j : Nat} (z : WK m a j) : a ≠ m + 31 := by
  rcases z with z | z
  · omega
  · omega
theorem WL_K {m a j : Nat} (z : WL m a j) : WK m a j := by
  rcases z with z | z
  · exact Or.inl (by omega)
  · exact Or.inr (by omega)
theorem WM_K {m a j : Nat} (z : WM m a j) : WK m a j := by
  rcases z with z | z
  · exact Or.inl (by omega)
  · exact Or.inr (by omega)
theorem MC_fr {m : Nat} {h h' : AH} {Z : Zt} {cc ss : Nat} {W : Nat → Nat → Prop} (I : MC m h Z) (bz : Z.nm ≤ 40) (F : Fr cc ss W h h') (hW : ∀ a j, h.kind a ≠ 0 → W a j → WK m a j) : MC m h' Z := by
  obtain ⟨M, m2, m3⟩ := I
  have MS := M.1
  have nz : ∀ i, i < 94 → h.kind (m + i) ≠ 0 := by
    intro i hi
    have := mKs_kind MS (a := m + i) ⟨by omega, by omega⟩
    omega
  have rd : ∀ i, i < 94 → (i < 32 ∨ 37 < i) → ∀ j, (i = 0 → j ≠ 27 ∧ j ≠ 28 ∧ j ≠ 29 ∧ j ≠ 33 ∧ j ≠ 34) → h'.I (m + i) j = h.I (m + i) j := by
    intro i hi h1 j hj
    obtain ⟨_, _, f3⟩ := F.2.2.2.2.2 (m + i) (nz i hi)
    refine (f3 j (fun w => ?_)).1
    rcases hW _ _ (nz i hi) w with z | ⟨z1, z2⟩
    · omega
    · have := hj (by omega); omega
  have rI : ∀ i, 0 < i → i < 32 → h'.I (m + i) = h.I (m + i) := fun i i0 i1 => funext fun j => rd i (by omega) (by omega) j (fun z => by omega)
  refine ⟨⟨?_, ?_, ?_, ?_⟩, ⟨?_, ?_⟩, ⟨?_, ?_⟩⟩
  · refine MSh_fr MS F (fun p hp w => ?_)
    have h1 : ∀ p, p ∈ mRs → p.1 < 94 := by decide
    exact (WK_in (hW _ _ (nz p.1 (h1 p hp)) w)).2 p hp ⟨rfl, rfl⟩
  · unfold MV; rw [rI 26 (by omega) (by omega), rI 3 (by omega) (by omega), rI 6 (by omega) (by omega), rI 9 (by omega) (by omega), rI 12 (by omega) (by omega), rI 15 (by omega) (by omega), rI 18 (by omega) (by omega)]; exact M.2.1
  · unfold MP; rw [rI 27 (by omega) (by omega), rI 21 (by omega) (by omega), rI 24 (by omega) (by omega)]; exact M.2.2.1
  · unfold MB; rw [rI 28 (by omega) (by omega), rI 29 (by omega) (by omega), rI 30 (by omega) (by omega)]; exact M.2.2.2
  · rw [show h'.I m 48 = h.I m 48 from rd 0 (by omega) (by omega) 48 (fun _ => by omega)]; exact m2.1
  · intro k hk j hj
    rw [show m + 54 + k = m + (54 + k) by omega, rd (54 + k) (by omega) (by omega) j (fun z => by omega), show m + (54 + k) = m + 54 + k by omega]
    exact m2.2 k hk j hj
  · rw [show h'.I m 1 = h.I m 1 from rd 0 (by omega) (by omega) 1 (fun _ => by omega)]; exact m3.1
  · intro j hj; rw [rI 1 (by omega) (by omega)]; exact m3.2 j hj
theorem M3I_fr {m : Nat} {h h' : AH} {l : TL} {cc ss : Nat} {W : Nat → Nat → Prop} (MS : MSh m h) (L : M3I m h l) (F : Fr cc ss W h h') (hW : ∀ a j, h.kind a ≠ 0 → W a j → ¬ WL m a j) : M3I m h' l := by
  have nz : ∀ i, i < 94 → h.kind (m + i) ≠ 0 := by
    intro i hi
    have := mKs_kind MS (a := m + i) ⟨by omega, by omega⟩
    omega
  have rd : ∀ i, 32 ≤ i → i ≤ 34 → ∀ j, h'.I (m + i) j = h.I (m + i) j := by
    intro i i1 i2 j
    exact ((F.2.2.2.2.2 (m + i) (nz i (by omega))).2.2 j (fun w => hW _ _ (nz i (by omega)) w (Or.inl (by omega)))).1
  have r0 : h'.I m 27 = h.I m 27 := ((F.2.2.2.2.2 m (nz 0 (by omega))).2.2 27 (fun w => hW _ _ (nz 0 (by omega)) w (Or.inr ⟨rfl, rfl⟩))).1
  refine ⟨by rw [r0]; exact L.1, fun k hk => ?_⟩
  rw [rd 32 (by omega) (by omega), rd 33 (by omega) (by omega), rd 34 (by omega) (by omega)]
  exact L.2 k hk
theorem M3L_fr {m : Nat} {h h' : AH} {l : TL} {cc ss : Nat} {W : Nat → Nat → Prop} (MS : MSh m h) (L : M3L m h l) (F : Fr cc ss W h h') (hW : ∀ a j, h.kind a ≠ 0 → W a j → ¬ WM m a j) : M3L m h' l := by
  have nz : ∀ i, i < 94 → h.kind (m + i) ≠ 0 := by
    intro i hi
    have := mKs_kind MS (a := m + i) ⟨by omega, by omega⟩
    omega
  have rd : ∀ i, 35 ≤ i → i ≤ 37 → ∀ j, h'.L (m + i) j = h.L (m + i) j := by
    intro i i1 i2 j
    exact ((F.2.2.2.2.2 (m + i) (nz i (by omega))).2.2 j (fun w => hW _ _ (nz i (by omega)) w (Or.inl (by omega)))).2.1
  have r0 : h'.I m 28 = h.I m 28 := ((F.2.2.2.2.2 m (nz 0 (by omega))).2.2 28 (fun w => hW _ _ (nz 0 (by omega)) w (Or.inr ⟨rfl, rfl⟩))).1
  refine ⟨by rw [r0]; exact L.1, fun k hk => ?_⟩
  rw [rd 35 (by omega) (by omega), rd 36 (by omega) (by omega), rd 37 (by omega) (by omega)]
  exact L.2 k hk
theorem side_i {S : St} (B : Bd S) {t : T3} (bt : LB t) {k : Nat} (hk : k < S.nv) : (Int32.ofInt t.1 * S.V k 0 + Int32.ofInt t.2.1 * S.V k 1).toInt = t.1 * vX S k + t.2.1 * vY S k := by
  obtain ⟨a1, a2⟩ := vX_bd B hk
  obtain ⟨t1, t2, t3⟩ := bt
  have m1 := mul_bd t1 (x := vX S k) (l := 99) (by omega)
  have m2 := mul_bd t2 (x := vY S k) (l := 99) (by omega)
  rw [show S.V k 0 = Int32.ofInt (vX S k) from i_ofT rfl, show S.V k 1 = Int32.ofInt (vY S k) from i_ofT rfl, ← Int32.ofInt_mul, ← Int32.ofInt_mul, ← Int32.ofInt_add, i_of (by omega) (by omega)]
theorem m_halves {n : Nat} {K : Nat → Nat} {m : Nat} {h : AH} {S : St} (hn : 20000 < n) (M : MA m h S) (B : Bd S) {t : T3} (bt : LB t) : F_X3_halves n K m (Int32.ofInt t.1) (Int32.ofInt t.2.1) (Int32.ofInt t.2.2) h = some (bI (halvS S t), h) := by
  obtain ⟨H, HV, HP, HB⟩ := M
  have h15 := HV.2.1
  have key := loopU (fun f i (s : Int32 × Int32) => F_X3_halves_L9 n K m (Int32.ofInt t.1) (Int32.ofInt t.2.1) (Int32.ofInt t.2.2) f i s.1 s.2 h) S.nv (fun k s => s = (sideW S t false k, sideW S t true k)) (fun o => o = some (bI (halvS S t), h))
    (by
      intro f k s hk hs
      right
      refine ⟨_, rfl, ?_⟩
      have e1 : ix (nI k) = k := ix_nI (by omega)
      have e2 : inb (nI k) 15 = True := eq_true ((inb_nI (by omega)).2 (by omega))
      have e3 : (nI S.nv ≤ nI k) = False := eq_false (nI_ge hk (by omega))
      obtain ⟨g0, g1, g2, g3, g4, g5⟩ := HV.2.2 k hk
      have ec : (Int32.ofInt t.2.2).toInt = t.2.2 := i_of (by have := bt.2.2; omega) (by have := bt.2.2; omega)
      have le1 : (Int32.ofInt t.2.2 ≤ Int32.ofInt t.1 * S.V k 0 + Int32.ofInt t.2.1 * S.V k 1) = ¬ (t.1 * vX S k + t.2.1 * vY S k < t.2.2) := by rw [i_leT, side_i B bt hk, ec]
      have le2 : (Int32.ofInt t.1 * S.V k 0 + Int32.ofInt t.2.1 * S.V k 1 ≤ Int32.ofInt t.2.2) = ¬ (t.2.2 < t.1 * vX S k + t.2.1 * vY S k) := by rw [i_leT, side_i B bt hk, ec]
      subst hs
      simp only [F_X3_halves_L9, chk_true, bnd_some, ob_some, oc_some, oc_none, hl_eq, jn_eq, ix_0, ix_1, if_true, if_false, inb0_2, inb1_2, not_true_eq_false, not_false_eq_true, ite_true, ite_false, true_or, or_true, or_self, zero_eq_one_I, one_eq_zero_I, ms_k0, ms_k1, ms_n1, ms_k2, ms_n2, ms_k3, ms_n3, ms_k4, ms_n4, ms_k5, ms_n5, ms_k6, ms_n6, ms_k7, ms_n7, ms_k8, ms_n8, ms_k9, ms_n9, ms_k10, ms_n10, ms_k11, ms_n11, ms_k12, ms_n12, ms_k13, ms_n13, ms_k14, ms_n14, ms_k15, ms_n15, ms_k16, ms_n16, ms_k17, ms_n17, ms_k18, ms_n18, ms_k19, ms_n19, ms_k20, ms_n20, ms_k21, ms_n21, ms_k22, ms_n22, ms_k23, ms_n23, ms_k24, ms_n24, ms_k25, ms_n25, ms_k26, ms_n26, ms_k27, ms_n27, ms_k28, ms_n28, ms_k29, ms_n29, ms_k30, ms_n30, ms_k31, ms_n31, ms_k32, ms_n32, ms_k33, ms_n33, ms_k34, ms_n34, ms_k35, ms_n35, ms_k36, ms_n36, ms_k37, ms_n37, ms_k38, ms_n38, ms_k39, ms_n39, ms_k40, ms_n40, ms_k41, ms_n41, ms_k50, ms_n50, ms_k51, ms_n51, ms_k52, ms_n52, ms_k53, ms_n53, ms_r0_0, ms_r0_6, ms_r2_0, ms_r2_1, ms_r0_7, ms_r5_0, ms_r5_1, ms_r0_8, ms_r8_0, ms_r8_1, ms_r0_9, ms_r11_0, ms_r11_1, ms_r0_10, ms_r14_0, ms_r14_1, ms_r0_11, ms_r17_0, ms_r17_1, ms_r0_12, ms_r20_0, ms_r20_1, ms_r0_13, ms_r23_0, ms_r23_1, ms_r0_14, ms_r0_15, ms_r0_16, ms_r0_17, ms_r0_18, ms_r0_23, ms_r0_24, ms_r0_25, ms_r0_26, ms_r0_30, ms_r0_31, ms_r0_32, ms_r0_35, ms_r0_36, ms_r0_39, ms_r0_40, ms_r0_41, ms_r0_42, ms_r0_43, ms_r0_47, H, m_voters H HV, e1, e2, e3, g0, g1, g2, le1, le2, nI_1, sideW]
      by_cases c1 : t.1 * vX S k + t.2.1 * vY S k < t.2.2
      · have c2 : ¬ (t.2.2 < t.1 * vX S k + t.2.1 * vY S k) := by omega
        simp [c1, c2]
      · by_cases c2 : t.2.2 < t.1 * vX S k + t.2.1 * vY S k
        · simp [c1, c2]
        · simp [c1, c2])
    (by
      intro f s hs
      have e3 : (nI S.nv ≤ nI S.nv) = True := eq_true (nI_le (Nat.le_refl _) (by omega))
      subst hs
      simp only [F_X3_halves_L9, chk_true, bnd_some, ob_some, oc_some, oc_none, hl_eq, jn_eq, ix_0, ix_1, if_true, if_false, inb0_2, inb1_2, not_true_eq_false, not_false_eq_true, ite_true, ite_false, true_or, or_true, or_self, zero_eq_one_I, one_eq_zero_I, ms_k0, ms_k1, ms_n1, ms_k2, ms_n2, ms_k3, ms_n3, ms_k4, ms_n4, ms_k5, ms_n5, ms_k6, ms_n6, ms_k7, ms_n7, ms_k8, ms_n8, ms_k9, ms_n9, ms_k10, ms_n10, ms_k11, ms_n11, ms_k12, ms_n12, ms_k13, ms_n13, ms_k14, ms_n14, ms_k15, ms_n15, ms_k16, ms_n16, ms_k17, ms_n17, ms_k18, ms_n18, ms_k19, ms_n19, ms_k20, ms_n20, ms_k21, ms_n21, ms_k22, ms_n22, ms_k23, ms_n23, ms_k24, ms_n24, ms_k25, ms_n25, ms_k26, ms_n26, ms_k27, ms_n27, ms_k28, ms_n28, ms_k29, ms_n29, ms_k30, ms_n30, ms_k31, ms_n31, ms_k32, ms_n32, ms_k33, ms_n33, ms_k34, ms_n34, ms_k35, ms_n35, ms_k36, ms_n36, ms_k37, ms_n37, ms_k38, ms_n38, ms_k39, ms_n39, ms_k40, ms_n40, ms_k41, ms_n41, ms_k50, ms_n50, ms_k51, ms_n51, ms_k52, ms_n52, ms_k53, ms_n53, ms_r0_0, ms_r0_6, ms_r2_0, ms_r2_1, ms_r0_7, ms_r5_0, ms_r5_1, ms_r0_8, ms_r8_0, ms_r8_1, ms_r0_9, ms_r11_0, ms_r11_1, ms_r0_10, ms_r14_0, ms_r14_1, ms_r0_11, ms_r17_0, ms_r17_1, ms_r0_12, ms_r20_0, ms_r20_1, ms_r0_13, ms_r23_0, ms_r23_1, ms_r0_14, ms_r0_15, ms_r0_16, ms_r0_17, ms_r0_18, ms_r0_23, ms_r0_24, ms_r0_25, ms_r0_26, ms_r0_30, ms_r0_31, ms_r0_32, ms_r0_35, ms_r0_36, ms_r0_39, ms_r0_40, ms_r0_41, ms_r0_42, ms_r0_43, ms_r0_47, H, m_voters H HV, e3, m_total (n := n) (by omega) H HV, halvS]
      by_cases c1 : totS S.V S.nv < 2 * sideW S t false S.nv
      · by_cases c2 : totS S.V S.nv < 2 * sideW S t true S.nv
        · simp [c1, c2, bI]
        · simp [c1, c2, bI]
      · by_cases c2 : totS S.V S.nv < 2 * sideW S t true S.nv
        · simp [c1, c2, bI]
        · simp [c1, c2, bI])
  exact key S.nv 0 (0, 0) n (by omega) (by omega) rfl
theorem i_ofE {a b : Int} (ha : a.natAbs ≤ 100000000) (hb : b.natAbs ≤ 100000000) : (Int32.ofInt a = Int32.ofInt b) = (a = b) := by
  rw [← Int32.toInt_inj, i_of (by omega) (by omega), i_of (by omega) (by omega)]
theorem l_ofE {a b : Int} (ha : a.natAbs ≤ 100000000000000) (hb : b.natAbs ≤ 100000000000000) : (Int64.ofInt a = Int64.ofInt b) = (a = b) := by
  rw [← Int64.toInt_inj, l_of (by omega) (by omega), l_of (by omega) (by omega)]
theorem sel_mem {β : Type} {t : T3} {l : TL} (A B : β) : selS (findS (fun q => decide (l.2 q = t)) l.1 0) (fun _ => A) B = if memS t l = true then A else B := by
  cases hf : findS (fun q => decide (l.2 q = t)) l.1 0 with
  | none =>
    rw [if_neg]
    · rfl
    · intro z
      obtain ⟨i, h1, h2⟩ := mem_iff.1 z
      have := findS_none hf i (by omega) (by omega)
      simp [h2] at this
  | some j =>
    obtain ⟨h1, h2, h3, _⟩ := findS_some hf
    rw [if_pos (mem_iff.2 ⟨j, by omega, by simpa using h3⟩)]
    rfl
theorem m_addL3 {n : Nat} {K : Nat → Nat} {m : Nat} {h : AH} (hn : 20000 < n) (MS : MSh m h) {l : TL} (L : M3I m h l) (hl : l.1 ≤ 105) (T : ∀ k, k < l.1 → LB (l.2 k)) {t : T3} (bt : LB t) (k : Option (Unit × AH)) : F_X3_addsLine_L3 n K m (Int32.ofInt t.1) (Int32.ofInt t.2.1) (Int32.ofInt t.2.2) h n 0 k = if memS t l = true then some ((), h) else k := by
  have key := loopG (fun f i => F_X3_addsLine_L3 n K m (Int32.ofInt t.1) (Int32.ofInt t.2.1) (Int32.ofInt t.2.2) h f i k) l.1 (fun q => decide (l.2 q = t)) (fun _ => some ((), h)) k
    (by
      intro f q hq
      have e1 : ix (nI q) = q := ix_nI (by omega)
      have e2 : inb (nI q) 105 = True := eq_true ((inb_nI (by omega)).2 (by omega))
      have e3 : (nI l.1 ≤ nI q) = False := eq_false (nI_ge hq (by omega))
      obtain ⟨g1, g2, g3⟩ := L.2 q hq
      obtain ⟨a1, a2, a3⟩ := T q hq
      obtain ⟨b1, b2, b3⟩ := bt
      simp only [F_X3_addsLine_L3, chk_true, bnd_some, ob_some, oc_some, oc_none, hl_eq, jn_eq, ix_0, ix_1, if_true, if_false, inb0_2, inb1_2, not_true_eq_false, not_false_eq_true, ite_true, ite_false, true_or, or_true, or_self, zero_eq_one_I, one_eq_zero_I, ms_k0, ms_k1, ms_n1, ms_k2, ms_n2, ms_k3, ms_n3, ms_k4, ms_n4, ms_k5, ms_n5, ms_k6, ms_n6, ms_k7, ms_n7, ms_k8, ms_n8, ms_k9, ms_n9, ms_k10, ms_n10, ms_k11, ms_n11, ms_k12, ms_n12, ms_k13, ms_n13, ms_k14, ms_n14, ms_k15, ms_n15, ms_k16, ms_n16, ms_k17, ms_n17, ms_k18, ms_n18, ms_k19, ms_n19, ms_k20, ms_n20, ms_k21, ms_n21, ms_k22, ms_n22, ms_k23, ms_n23, ms_k24, ms_n24, ms_k25, ms_n25, ms_k26, ms_n26, ms_k27, ms_n27, ms_k28, ms_n28, ms_k29, ms_n29, ms_k30, ms_n30, ms_k31, ms_n31, ms_k32, ms_n32, ms_k33, ms_n33, ms_k34, ms_n34, ms_k35, ms_n35, ms_k36, ms_n36, ms_k37, ms_n37, ms_k38, ms_n38, ms_k39, ms_n39, ms_k40, ms_n40, ms_k41, ms_n41, ms_k50, ms_n50, ms_k51, ms_n51, ms_k52, ms_n52, ms_k53, ms_n53, ms_r0_0, ms_r0_6, ms_r2_0, ms_r2_1, ms_r0_7, ms_r5_0, ms_r5_1, ms_r0_8, ms_r8_0, ms_r8_1, ms_r0_9, ms_r11_0, ms_r11_1, ms_r0_10, ms_r14_0, ms_r14_1, ms_r0_11, ms_r17_0, ms_r17_1, ms_r0_12, ms_r20_0, ms_r20_1, ms_r0_13, ms_r23_0, ms_r23_1, ms_r0_14, ms_r0_15, ms_r0_16, ms_r0_17, ms_r0_18, ms_r0_23, ms_r0_24, ms_r0_25, ms_r0_26, ms_r0_30, ms_r0_31, ms_r0_32, ms_r0_35, ms_r0_36, ms_r0_39, ms_r0_40, ms_r0_41, ms_r0_42, ms_r0_43, ms_r0_47, MS, L.1, e1, e2, e3, g1, g2, g3, i_ofE (a := (l.2 q).1) (b := t.1) (by omega) (by omega), i_ofE (a := (l.2 q).2.1) (b := t.2.1) (by omega) (by omega), i_ofE (a := (l.2 q).2.2) (b := t.2.2) (by omega) (by omega), nI_1]
      generalize l.2 q = s
      obtain ⟨s1, s2, s3⟩ := s
      obtain ⟨t1, t2, t3⟩ := t
      by_cases c1 : s1 = t1
      · by_cases c2 : s2 = t2
        · by_cases c3 : s3 = t3 <;> simp [c1, c2, c3]
        · simp [c1, c2]
      · simp [c1])
    (by
      intro f
      have e3 : (nI l.1 ≤ nI l.1) = True := eq_true (nI_le (Nat.le_refl _) (by omega))
      simp only [F_X3_addsLine_L3, chk_true, bnd_some, ob_some, oc_some, oc_none, hl_eq, jn_eq, ix_0, ix_1, if_true, if_false, inb0_2, inb1_2, not_true_eq_false, not_false_eq_true, ite_true, ite_false, true_or, or_true, or_self, zero_eq_one_I, one_eq_zero_I, ms_k0, ms_k1, ms_n1, ms_k2, ms_n2, ms_k3, ms_n3, ms_k4, ms_n4, ms_k5, ms_n5, ms_k6, ms_n6, ms_k7, ms_n7, ms_k8, ms_n8, ms_k9, ms_n9, ms_k10, ms_n10, ms_k11, ms_n11, ms_k12, ms_n12, ms_k13, ms_n13, ms_k14, ms_n14, ms_k15, ms_n15, ms_k16, ms_n16, ms_k17, ms_n17, ms_k18, ms_n18, ms_k19, ms_n19, ms_k20, ms_n20, ms_k21, ms_n21, ms_k22, ms_n22, ms_k23, ms_n23, ms_k24, ms_n24, ms_k25, ms_n25, ms_k26, ms_n26, ms_k27, ms_n27, ms_k28, ms_n28, ms_k29, ms_n29, ms_k30, ms_n30, ms_k31, ms_n31, ms_k32, ms_n32, ms_k33, ms_n33, ms_k34, ms_n34, ms_k35, ms_n35, ms_k36, ms_n36, ms_k37, ms_n37, ms_k38, ms_n38, ms_k39, ms_n39, ms_k40, ms_n40, ms_k41, ms_n41, ms_k50, ms_n50, ms_k51, ms_n51, ms_k52, ms_n52, ms_k53, ms_n53, ms_r0_0, ms_r0_6, ms_r2_0, ms_r2_1, ms_r0_7, ms_r5_0, ms_r5_1, ms_r0_8, ms_r8_0, ms_r8_1, ms_r0_9, ms_r11_0, ms_r11_1, ms_r0_10, ms_r14_0, ms_r14_1, ms_r0_11, ms_r17_0, ms_r17_1, ms_r0_12, ms_r20_0, ms_r20_1, ms_r0_13, ms_r23_0, ms_r23_1, ms_r0_14, ms_r0_15, ms_r0_16, ms_r0_17, ms_r0_18, ms_r0_23, ms_r0_24, ms_r0_25, ms_r0_26, ms_r0_30, ms_r0_31, ms_r0_32, ms_r0_35, ms_r0_36, ms_r0_39, ms_r0_40, ms_r0_41, ms_r0_42, ms_r0_43, ms_r0_47, MS, L.1, e3]) n (by omega)
  exact key.trans (sel_mem _ _)
def AH.shL (h : AH) (m k : Nat) : AH :=
  let h59 := h.setI (m + 32) (k + 1) (h.I (m + 32) k)
  let h65 := h59.setI (m + 33) (k + 1) (h59.I (m + 33) k)
  h65.setI (m + 34) (k + 1) (h65.I (m + 34) k)
theorem shL_I (h : AH) (m k a j : Nat) : (h.shL m k).I a j = if (m + 32 ≤ a ∧ a ≤ m + 34) ∧ j = k + 1 then h.I a k else h.I a j := by
  unfold AH.shL
  simp only [AH.I_setI]
  by_cases c : j = k + 1
  · by_cases a2 : a = m + 32
    · subst a2; subst c
      rw [if_neg (by omega), if_neg (by omega), if_pos ⟨rfl, rfl⟩, if_pos (by omega)]
    · by_cases a3 : a = m + 33
      · subst a3; subst c
        rw [if_neg (by omega), if_pos ⟨rfl, rfl⟩, if_neg (by omega), if_pos (by omega)]
      · by_cases a4 : a = m + 34
        · subst a4; subst c
          rw [if_pos ⟨rfl, rfl⟩, if_neg (by omega), if_neg (by omega), if_pos (by omega)]
        · rw [if_neg (by omega), if_neg (by omega), if_neg (by omega), if_neg (by omega)]
  · rw [if_neg (by omega), if_neg (by omega), if_neg (by omega), if_neg (by omega)]
def AH.puL (h : AH) (m k : Nat) (a b c v : Int32) : AH := (((h.setI (m + 32) k a).setI (m + 33) k b).setI (m + 34) k c).setI m 27 v
theorem puL_I (h : AH) (m k : Nat) (a b c v : Int32) (p j : Nat) : (h.puL m k a b c v).I p j = if p = m ∧ j = 27 then v else if p = m + 34 ∧ j = k then c else if p = m + 33 ∧ j = k then b else if p = m + 32 ∧ j = k then a else h.I p j := by
  unfold AH.puL
  simp only [AH.I_setI]
theorem puL_32 (h : AH) (m k : Nat) (a b c v : Int32) (j : Nat) : (h.puL m k a b c v).I (m + 32) j = if j = k then a else h.I (m + 32) j := by
  rw [puL_I, if_neg (by omega), if_neg (by omega), if_neg (by omega)]
  by_cases z : j = k
  · rw [if_pos ⟨rfl, z⟩, if_pos z]
  · rw [if_neg (fun y => z y.2), if_neg z]
theorem puL_33 (h : AH) (m k : Nat) (a b c v : Int32) (j : Nat) : (h.puL m k a b c v).I (m + 33) j = if j = k then b else h.I (m + 33) j := by
  rw [puL_I, if_neg (by omega), if_neg (by omega)]
  by_cases z : j = k
  · rw [if_pos ⟨rfl, z⟩, if_pos z]
  · rw [if_neg (fun y => z y.2), if_neg z, if_neg (by omega)]
theorem puL_34 (h : AH) (m k : Nat) (a b c v : Int32) (j : Nat) : (h.puL m k a b c v).I (m + 34) j = if j = k then c else h.I (m + 34) j := by
  rw [puL_I, if_neg (by omega)]
  by_cases z : j = k
  · rw [if_pos ⟨rfl, z⟩, if_pos z]
  · rw [if_neg (fun y => z y.2), if_neg z, if_neg (by omega), if_neg (by omega)]
def QL (m : Nat) (h : AH) (l : TL) (k : Nat) : Prop := MSh m h ∧ h.I m 27 = nI l.1 ∧ (∀ i, i < k → h.I (m + 32) i = Int32.ofInt (l.2 i).1 ∧ h.I (m + 33) i = Int32.ofInt (l.2 i).2.1 ∧ h.I (m + 34) i = Int32.ofInt (l.2 i).2.2) ∧ (∀ i, k < i → i ≤ l.1 → h.I (m + 32) i = Int32.ofInt (l.2 (i - 1)).1 ∧ h.I (m + 33) i = Int32.ofInt (l.2 (i - 1)).2.1 ∧ h.I (m + 34) i = Int32.ofInt (l.2 (i - 1)).2.2)
theorem puL_ok {m : Nat} {h : AH} {l : TL} {k : Nat} (hk : k ≤ l.1) (Q : QL m h l k) (t : T3) : M3I m (h.puL m k (Int32.ofInt t.1) (Int32.ofInt t.2.1) (Int32.ofInt t.2.2) (nI (l.1 + 1))) (l.1 + 1, insF k t l.2) ∧ Fr 0 0 (WL m) h (h.puL m k (Int32.ofInt t.1) (Int32.ofInt t.2.1) (Int32.ofInt t.2.2) (nI (l.1 + 1))) := by
  refine ⟨⟨?_, fun i hi => ?_⟩, Fr_of rfl rfl rfl rfl rfl (fun a j z => ?_)⟩
  · rw [puL_I, if_pos ⟨rfl, rfl⟩]
  · have hi' : i < l.1 + 1 := hi
    show (h.puL m k (Int32.ofInt t.1) (Int32.ofInt t.2.1) (Int32.ofInt t.2.2) (nI (l.1 + 1))).I (m + 32) i = Int32.ofInt (insF k t l.2 i).1 ∧ _ = Int32.ofInt (insF k t l.2 i).2.1 ∧ _ = Int32.ofInt (insF k t l.2 i).2.2
    rw [puL_32, puL_33, puL_34]
    unfold insF
    by_cases c1 : i = k
    · subst c1
      rw [if_pos rfl, if_pos rfl, if_pos rfl, if_neg (by omega), if_pos rfl]
      exact ⟨rfl, rfl, rfl⟩
    · simp only [if_neg c1]
      by_cases c2 : i < k
      · simp only [if_pos c2]; exact Q.2.2.1 i c2
      · simp only [if_neg c2]; exact Q.2.2.2 i (by omega) (by omega)
  · unfold WL at z
    rw [puL_I, if_neg (by omega), if_neg (by omega), if_neg (by omega), if_neg (by omega)]
theorem nI_dec (k : Nat) : nI (k + 1) + (-1) = nI k := by rw [← nI_pred k, Int32.sub_eq_add_neg]
theorem m_addL58 {n : Nat} {K : Nat → Nat} {m : Nat} {l : TL} (hl : l.1 < 105) (T : ∀ k, k < l.1 → LB (l.2 k)) {t : T3} (bt : LB t) : ∀ k, k ≤ l.1 → ∀ (h : AH) (fuel : Nat), k < fuel → QL m h l k → ∃ h', F_X3_addsLine_L58 n K m (Int32.ofInt t.1) (Int32.ofInt t.2.1) (Int32.ofInt t.2.2) fuel (nI k) h = some ((), h') ∧ M3I m h' (l.1 + 1, insF (dnS aheadL t l.2 k) t l.2) ∧ Fr 0 0 (WL m) h h' := by
  intro k
  induction k with
  | zero =>
    intro hk h fuel hf Q
    obtain ⟨f, rfl⟩ : ∃ f, fuel = f + 1 := ⟨fuel - 1, by omega⟩
    obtain ⟨p1, p2⟩ := puL_ok hk Q t
    refine ⟨_, ?_, p1, p2⟩
    have MS := Q.1
    have z0 : (nI 0 ≤ 0) = True := eq_true (by decide)
    have e1 : ix (nI 0) = 0 := by decide
    have e2 : inb (nI 0) 105 = True := eq_true (by decide)
    have i27 : (((h.setI (m + 32) 0 (Int32.ofInt t.1)).setI (m + 33) 0 (Int32.ofInt t.2.1)).setI (m + 34) 0 (Int32.ofInt t.2.2)).I m 27 = nI l.1 := by
      simp only [AH.I_setI]
      rw [if_neg (by omega), if_neg (by omega), if_neg (by omega)]; exact Q.2.1
    simp only [F_X3_addsLine_L58, chk_true, bnd_some, ob_some, oc_some, oc_none, hl_eq, jn_eq, ix_0, ix_1, if_true, if_false, inb0_2, inb1_2, not_true_eq_false, not_false_eq_true, ite_true, ite_false, true_or, or_true, or_self, zero_eq_one_I, one_eq_zero_I, AH.n_setI, AH.n_setL, AH.n_setR, AH.sl_setI, AH.sl_setL, AH.sl_setR, AH.kind_setI, AH.kind_setL, AH.kind_setR, AH.len_setI, AH.len_setL, AH.len_setR, AH.I_setL, AH.I_setR, AH.L_setI, AH.L_setR, AH.R_setI, AH.R_setL, ms_k0, ms_k1, ms_n1, ms_k2, ms_n2, ms_k3, ms_n3, ms_k4, ms_n4, ms_k5, ms_n5, ms_k6, ms_n6, ms_k7, ms_n7, ms_k8, ms_n8, ms_k9, ms_n9, ms_k10, ms_n10, ms_k11, ms_n11, ms_k12, ms_n12, ms_k13, ms_n13, ms_k14, ms_n14, ms_k15, ms_n15, ms_k16, ms_n16, ms_k17, ms_n17, ms_k18, ms_n18, ms_k19, ms_n19, ms_k20, ms_n20, ms_k21, ms_n21, ms_k22, ms_n22, ms_k23, ms_n23, ms_k24, ms_n24, ms_k25, ms_n25, ms_k26, ms_n26, ms_k27, ms_n27, ms_k28, ms_n28, ms_k29, ms_n29, ms_k30, ms_n30, ms_k31, ms_n31, ms_k32, ms_n32, ms_k33, ms_n33, ms_k34, ms_n34, ms_k35, ms_n35, ms_k36, ms_n36, ms_k37, ms_n37, ms_k38, ms_n38, ms_k39, ms_n39, ms_k40, ms_n40, ms_k41, ms_n41, ms_k50, ms_n50, ms_k51, ms_n51, ms_k52, ms_n52, ms_k53, ms_n53, ms_r0_0, ms_r0_6, ms_r2_0, ms_r2_1, ms_r0_7, ms_r5_0, ms_r5_1, ms_r0_8, ms_r8_0, ms_r8_1, ms_r0_9, ms_r11_0, ms_r11_1, ms_r0_10, ms_r14_0, ms_r14_1, ms_r0_11, ms_r17_0, ms_r17_1, ms_r0_12, ms_r20_0, ms_r20_1, ms_r0_13, ms_r23_0, ms_r23_1, ms_r0_14, ms_r0_15, ms_r0_16, ms_r0_17, ms_r0_18, ms_r0_23, ms_r0_24, ms_r0_25, ms_r0_26, ms_r0_30, ms_r0_31, ms_r0_32, ms_r0_35, ms_r0_36, ms_r0_39, ms_r0_40, ms_r0_41, ms_r0_42, ms_r0_43, ms_r0_47, MS, z0, e1, e2, i27, nI_1]
    rfl
  | succ k ih =>
    intro hk h fuel hf Q
    obtain ⟨f, rfl⟩ : ∃ f, fuel = f + 1 := ⟨fuel - 1, by omega⟩
    have MS := Q.1
    obtain ⟨g1, g2, g3⟩ := Q.2.2.1 k (by omega)
    have z0 : (nI (k + 1) ≤ 0) = False := eq_false (nI_nle (by omega) (by omega))
    have z1 : nI (k + 1) - 1 = nI k := nI_pred k
    have e1 : ix (nI (k + 1)) = k + 1 := ix_nI (by omega)
    have e2 : inb (nI (k + 1)) 105 = True := eq_true ((inb_nI (by omega)).2 (by omega))
    have e3 : ix (nI k) = k := ix_nI (by omega)
    have e4 : inb (nI k) 105 = True := eq_true ((inb_nI (by omega)).2 (by omega))
    have ah := m_isAheadL (n := n) (K := K) MS (k := k) (by omega) (T k (by omega)) bt g1 g2 g3
    cases hb : aheadL t (l.2 k)
    · obtain ⟨p1, p2⟩ := puL_ok hk Q t
      have dn : dnS aheadL t l.2 (k + 1) = k + 1 := by rw [dnS, hb]; rfl
      rw [dn]
      refine ⟨_, ?_, p1, p2⟩
      have i27 : (((h.setI (m + 32) (k + 1) (Int32.ofInt t.1)).setI (m + 33) (k + 1) (Int32.ofInt t.2.1)).setI (m + 34) (k + 1) (Int32.ofInt t.2.2)).I m 27 = nI l.1 := by
        simp only [AH.I_setI]
        rw [if_neg (by omega), if_neg (by omega), if_neg (by omega)]; exact Q.2.1
      rw [hb] at ah
      simp only [F_X3_addsLine_L58, chk_true, bnd_some, ob_some, oc_some, oc_none, hl_eq, jn_eq, ix_0, ix_1, if_true, if_false, inb0_2, inb1_2, not_true_eq_false, not_false_eq_true, ite_true, ite_false, true_or, or_true, or_self, zero_eq_one_I, one_eq_zero_I, AH.n_setI, AH.n_setL, AH.n_setR, AH.sl_setI, AH.sl_setL, AH.sl_setR, AH.kind_setI, AH.kind_setL, AH.kind_setR, AH.len_setI, AH.len_setL, AH.len_setR, AH.I_setL, AH.I_setR, AH.L_setI, AH.L_setR, AH.R_setI, AH.R_setL, ms_k0, ms_k1, ms_n1, ms_k2, ms_n2, ms_k3, ms_n3, ms_k4, ms_n4, ms_k5, ms_n5, ms_k6, ms_n6, ms_k7, ms_n7, ms_k8, ms_n8, ms_k9, ms_n9, ms_k10, ms_n10, ms_k11, ms_n11, ms_k12, ms_n12, ms_k13, ms_n13, ms_k14, ms_n14, ms_k15, ms_n15, ms_k16, ms_n16, ms_k17, ms_n17, ms_k18, ms_n18, ms_k19, ms_n19, ms_k20, ms_n20, ms_k21, ms_n21, ms_k22, ms_n22, ms_k23, ms_n23, ms_k24, ms_n24, ms_k25, ms_n25, ms_k26, ms_n26, ms_k27, ms_n27, ms_k28, ms_n28, ms_k29, ms_n29, ms_k30, ms_n30, ms_k31, ms_n31, ms_k32, ms_n32, ms_k33, ms_n33, ms_k34, ms_n34, ms_k35, ms_n35, ms_k36, ms_n36, ms_k37, ms_n37, ms_k38, ms_n38, ms_k39, ms_n39, ms_k40, ms_n40, ms_k41, ms_n41, ms_k50, ms_n50, ms_k51, ms_n51, ms_k52, ms_n52, ms_k53, ms_n53, ms_r0_0, ms_r0_6, ms_r2_0, ms_r2_1, ms_r0_7, ms_r5_0, ms_r5_1, ms_r0_8, ms_r8_0, ms_r8_1, ms_r0_9, ms_r11_0, ms_r11_1, ms_r0_10, ms_r14_0, ms_r14_1, ms_r0_11, ms_r17_0, ms_r17_1, ms_r0_12, ms_r20_0, ms_r20_1, ms_r0_13, ms_r23_0, ms_r23_1, ms_r0_14, ms_r0_15, ms_r0_16, ms_r0_17, ms_r0_18, ms_r0_23, ms_r0_24, ms_r0_25, ms_r0_26, ms_r0_30, ms_r0_31, ms_r0_32, ms_r0_35, ms_r0_36, ms_r0_39, ms_r0_40, ms_r0_41, ms_r0_42, ms_r0_43, ms_r0_47, MS, z0, z1, e1, e2, ah, bI_0, i27, nI_1]
      rfl
    · have dn : dnS aheadL t l.2 (k + 1) = dnS aheadL t l.2 k := by rw [dnS, hb]; rfl
      rw [dn]
      have Q1 : QL m (h.shL m k) l k := by
        refine ⟨MS, ?_, fun i hi => ?_, fun i h1 h2 => ?_⟩
        · rw [shL_I, if_neg (by omega)]; exact Q.2.1
        · rw [shL_I, shL_I, shL_I, if_neg (by omega), if_neg (by omega), if_neg (by omega)]; exact Q.2.2.1 i (by omega)
        · rw [shL_I, shL_I, shL_I]
          by_cases c : i = k + 1
          · rw [if_pos (by omega), if_pos (by omega), if_pos (by omega), c]; exact Q.2.2.1 k (by omega)
          · rw [if_neg (by omega), if_neg (by omega), if_neg (by omega)]; exact Q.2.2.2 i (by omega) h2
      obtain ⟨h', q1, q2, q3⟩ := ih (by omega) (h.shL m k) f (by omega) Q1
      have F1 : Fr 0 0 (WL m) h (h.shL m k) := Fr_of rfl rfl rfl rfl rfl (fun a j z => by
        unfold WL at z
        rw [shL_I, if_neg (by omega)])
      refine ⟨h', ?_, q2, Fr_trans (W := WL m) F1 q3 (fun _ _ _ z => z) (fun _ _ _ z => z)⟩
      rw [hb] at ah
      rw [← q1]
      simp only [F_X3_addsLine_L58, chk_true, bnd_some, ob_some, oc_some, oc_none, hl_eq, jn_eq, ix_0, ix_1, if_true, if_false, inb0_2, inb1_2, not_true_eq_false, not_false_eq_true, ite_true, ite_false, true_or, or_true, or_self, zero_eq_one_I, one_eq_zero_I, AH.n_setI, AH.n_setL, AH.n_setR, AH.sl_setI, AH.sl_setL, AH.sl_setR, AH.kind_setI, AH.kind_setL, AH.kind_setR, AH.len_setI, AH.len_setL, AH.len_setR, AH.I_setL, AH.I_setR, AH.L_setI, AH.L_setR, AH.R_setI, AH.R_setL, ms_k0, ms_k1, ms_n1, ms_k2, ms_n2, ms_k3, ms_n3, ms_k4, ms_n4, ms_k5, ms_n5, ms_k6, ms_n6, ms_k7, ms_n7, ms_k8, ms_n8, ms_k9, ms_n9, ms_k10, ms_n10, ms_k11, ms_n11, ms_k12, ms_n12, ms_k13, ms_n13, ms_k14, ms_n14, ms_k15, ms_n15, ms_k16, ms_n16, ms_k17, ms_n17, ms_k18, ms_n18, ms_k19, ms_n19, ms_k20, ms_n20, ms_k21, ms_n21, ms_k22, ms_n22, ms_k23, ms_n23, ms_k24, ms_n24, ms_k25, ms_n25, ms_k26, ms_n26, ms_k27, ms_n27, ms_k28, ms_n28, ms_k29, ms_n29, ms_k30, ms_n30, ms_k31, ms_n31, ms_k32, ms_n32, ms_k33, ms_n33, ms_k34, ms_n34, ms_k35, ms_n35, ms_k36, ms_n36, ms_k37, ms_n37, ms_k38, ms_n38, ms_k39, ms_n39, ms_k40, ms_n40, ms_k41, ms_n41, ms_k50, ms_n50, ms_k51, ms_n51, ms_k52, ms_n52, ms_k53, ms_n53, ms_r0_0, ms_r0_6, ms_r2_0, ms_r2_1, ms_r0_7, ms_r5_0, ms_r5_1, ms_r0_8, ms_r8_0, ms_r8_1, ms_r0_9, ms_r11_0, ms_r11_1, ms_r0_10, ms_r14_0, ms_r14_1, ms_r0_11, ms_r17_0, ms_r17_1, ms_r0_12, ms_r20_0, ms_r20_1, ms_r0_13, ms_r23_0, ms_r23_1, ms_r0_14, ms_r0_15, ms_r0_16, ms_r0_17, ms_r0_18, ms_r0_23, ms_r0_24, ms_r0_25, ms_r0_26, ms_r0_30, ms_r0_31, ms_r0_32, ms_r0_35, ms_r0_36, ms_r0_39, ms_r0_40, ms_r0_41, ms_r0_42, ms_r0_43, ms_r0_47, MS, z0, z1, e1, e2, e3, e4, ah, bI_0, nI_dec, Bool.true_eq_false]
      rfl
theorem m_addsLine {n : Nat} {K : Nat → Nat} {m : Nat} {h : AH} (hn : 20000 < n) (MS : MSh m h) {l : TL} (L : M3I m h l) (hl : l.1 < 105) (T : TLok l) {t : T3} (nt : NrmL t) (bt : LB t) : ∃ h', F_X3_addsLine n K m (Int32.ofInt t.1) (Int32.ofInt t.2.1) (Int32.ofInt t.2.2) h = some ((), h') ∧ M3I m h' (putS aheadL t l) ∧ Fr 0 0 (WL m) h h' := by
  have k0 := ms_k0 MS
  cases hm : memS t l
  · obtain ⟨h', q1, q2, q3⟩ := m_addL58 (n := n) (K := K) (m := m) hl T.2 bt l.1 (Nat.le_refl _) h n (by omega) ⟨MS, L.1, L.2, fun i h1 h2 => by omega⟩
    refine ⟨h', ?_, ?_, q3⟩
    · unfold F_X3_addsLine
      rw [m_addL3 hn MS L (by omega) T.2 bt, if_neg (by rw [hm]; decide), chk_pos k0, L.1]
      exact q1
    · rw [put_new hm, ← dn_pos ordL nt T.1 hm l.1 (Nat.le_refl _) (pos_le _ _ _)]; exact q2
  · refine ⟨h, ?_, by rw [put_mem hm]; exact L, Fr_refl h⟩
    unfold F_X3_addsLine
    rw [m_addL3 hn MS L (by omega) T.2 bt, if_pos hm]
def MLb (m : Nat) (h : AH) (Z : Zt) (l : TL) : Prop := MC m h Z ∧ h.I m 29 = 1 ∧ M3I m h l
theorem m_through {n : Nat} {K : Nat → Nat} {m : Nat} {h : AH} {Z : Zt} {l : TL} (hn : 20000 < n) (bz : Bz Z) (I : MLb m h Z l) (T : TLok l) (hl : l.1 < 105) {i j : Nat} (hi : i < Z.S.nv) (hj : j < i) : ∃ h', F_X3_through n K m (nI i) (nI j) h = some ((), h') ∧ MLb m h' Z (lnStep Z.S i j l) ∧ Fr 0 0 (WL m) h h' := by
  have M := I.1.1
  have MS := M.1
  have B := bz.1
  have h15 := B.2.2.2.1
  obtain ⟨x0, x1, _⟩ := M.2.1.2.2 i hi
  obtain ⟨y0, y1, _⟩ := M.2.1.2.2 j (by omega)
  obtain ⟨a1, a2⟩ := vX_bd B hi
  obtain ⟨b1, b2⟩ := vX_bd B (v := j) (by omega)
  have e1 : ix (nI i) = i := ix_nI (by omega)
  have e2 : inb (nI i) 15 = True := eq_true ((inb_nI (by omega)).2 (by omega))
  have e3 : ix (nI j) = j := ix_nI (by omega)
  have e4 : inb (nI j) 15 = True := eq_true ((inb_nI (by omega)).2 (by omega))
  have p1 : (Z.S.V j 1 - Z.S.V i 1).toInt = vY Z.S j - vY Z.S i := i_sub (by show _ ≤ vY Z.S j - vY Z.S i; omega) (by show vY Z.S j - vY Z.S i ≤ _; omega)
  have q1 : (Z.S.V i 0 - Z.S.V j 0).toInt = vX Z.S i - vX Z.S j := i_sub (by show _ ≤ vX Z.S i - vX Z.S j; omega) (by show vX Z.S i - vX Z.S j ≤ _; omega)
  have p0 : (Z.S.V j 1 - Z.S.V i 1 = 0) = (Z.S.V i 1 = Z.S.V j 1) := by
    rw [i_eq0, p1]
    refine propext ⟨fun z => Int32.toInt_inj.1 (show vY Z.S i = vY Z.S j by omega), fun z => ?_⟩
    have : vY Z.S i = vY Z.S j := by unfold vY; rw [z]
    omega
  have q0 : (Z.S.V i 0 - Z.S.V j 0 = 0) = (Z.S.V i 0 = Z.S.V j 0) := by
    rw [i_eq0, q1]
    refine propext ⟨fun z => Int32.toInt_inj.1 (show vX Z.S i = vX Z.S j by omega), fun z => ?_⟩
    have : vX Z.S i = vX Z.S j := by unfold vX; rw [z]
    omega
  by_cases same : Z.S.V i 0 = Z.S.V j 0 ∧ Z.S.V i 1 = Z.S.V j 1
  · refine ⟨h, ?_, by unfold lnStep; rw [if_pos same]; exact I, Fr_refl h⟩
    unfold F_X3_through
    simp only [chk_true, bnd_some, ob_some, oc_some, oc_none, hl_eq, ix_0, ix_1, if_true, if_false, inb0_2, inb1_2, not_true_eq_false, not_false_eq_true, ite_true, ite_false, true_or, or_true, or_self, zero_eq_one_I, one_eq_zero_I, ms_k0, ms_k1, ms_n1, ms_k2, ms_n2, ms_k3, ms_n3, ms_k4, ms_n4, ms_k5, ms_n5, ms_k6, ms_n6, ms_k7, ms_n7, ms_k8, ms_n8, ms_k9, ms_n9, ms_k10, ms_n10, ms_k11, ms_n11, ms_k12, ms_n12, ms_k13, ms_n13, ms_k14, ms_n14, ms_k15, ms_n15, ms_k16, ms_n16, ms_k17, ms_n17, ms_k18, ms_n18, ms_k19, ms_n19, ms_k20, ms_n20, ms_k21, ms_n21, ms_k22, ms_n22, ms_k23, ms_n23, ms_k24, ms_n24, ms_k25, ms_n25, ms_k26, ms_n26, ms_k27, ms_n27, ms_k28, ms_n28, ms_k29, ms_n29, ms_k30, ms_n30, ms_k31, ms_n31, ms_k32, ms_n32, ms_k33, ms_n33, ms_k34, ms_n34, ms_k35, ms_n35, ms_k36, ms_n36, ms_k37, ms_n37, ms_k38, ms_n38, ms_k39, ms_n39, ms_k40, ms_n40, ms_k41, ms_n41, ms_k50, ms_n50, ms_k51, ms_n51, ms_k52, ms_n52, ms_k53, ms_n53, ms_r0_0, ms_r0_6, ms_r2_0, ms_r2_1, ms_r0_7, ms_r5_0, ms_r5_1, ms_r0_8, ms_r8_0, ms_r8_1, ms_r0_9, ms_r11_0, ms_r11_1, ms_r0_10, ms_r14_0, ms_r14_1, ms_r0_11, ms_r17_0, ms_r17_1, ms_r0_12, ms_r20_0, ms_r20_1, ms_r0_13, ms_r23_0, ms_r23_1, ms_r0_14, ms_r0_15, ms_r0_16, ms_r0_17, ms_r0_18, ms_r0_23, ms_r0_24, ms_r0_25, ms_r0_26, ms_r0_30, ms_r0_31, ms_r0_32, ms_r0_35, ms_r0_36, ms_r0_39, ms_r0_40, ms_r0_41, ms_r0_42, ms_r0_43, ms_r0_47, MS, e1, e2, e3, e4, x0, x1, y0, y1]
    rw [jn_and, if_pos (by rw [p0, q0]; exact ⟨same.2, same.1⟩)]
  · obtain ⟨nt, bt⟩ := lnT_ok B hi (j := j) (by omega) same
    have hne := lnT_ne same
    have gb := gcd_le99 (k := 99) hne (by omega) (by omega)
    have sb := sgL_bd (k := 99) hne (by omega) (by omega)
    have sn := sgL_ne hne
    have P1 : (Z.S.V j 1 - Z.S.V i 1).toInt64.toInt = vY Z.S j - vY Z.S i := by rw [Int32.toInt_toInt64, p1]
    have Q1 : (Z.S.V i 0 - Z.S.V j 0).toInt64.toInt = vX Z.S i - vX Z.S j := by rw [Int32.toInt_toInt64, q1]
    have gc := m_gcd (n := n) (K := K) (h := h) hn (a := (Z.S.V j 1 - Z.S.V i 1).toInt64) (b := (Z.S.V i 0 - Z.S.V j 0).toInt64) ⟨by omega, by omega⟩ ⟨by omega, by omega⟩
    rw [P1, Q1] at gc
    have es : (Int32.ofInt (sgL (vY Z.S j - vY Z.S i) (vX Z.S i - vX Z.S j))).toInt = sgL (vY Z.S j - vY Z.S i) (vX Z.S i - vX Z.S j) := i_of (by omega) (by omega)
    have s0 : (Int32.ofInt (sgL (vY Z.S j - vY Z.S i) (vX Z.S i - vX Z.S j)) = 0) = False := eq_false (fun z => sn (by rw [i_eq0, es] at z; exact z))
    have t1 := tdiv_bd (p := vY Z.S j - vY Z.S i) (s := sgL (vY Z.S j - vY Z.S i) (vX Z.S i - vX Z.S j)) (k := 99) (by omega)
    have t2 := tdiv_bd (p := vX Z.S i - vX Z.S j) (s := sgL (vY Z.S j - vY Z.S i) (vX Z.S i - vX Z.S j)) (k := 99) (by omega)
    have d1 : (Z.S.V j 1 - Z.S.V i 1) / Int32.ofInt (sgL (vY Z.S j - vY Z.S i) (vX Z.S i - vX Z.S j)) = Int32.ofInt (lnT Z.S i j).1 := by
      apply i_ofT
      rw [i_div (by rw [p1, es]; omega) (by rw [p1, es]; omega), p1, es]; rfl
    have d2 : (Z.S.V i 0 - Z.S.V j 0) / Int32.ofInt (sgL (vY Z.S j - vY Z.S i) (vX Z.S i - vX Z.S j)) = Int32.ofInt (lnT Z.S i j).2.1 := by
      apply i_ofT
      rw [i_div (by rw [q1, es]; omega) (by rw [q1, es]; omega), q1, es]; rfl
    have d3 : Int32.ofInt (lnT Z.S i j).1 * Z.S.V i 0 + Int32.ofInt (lnT Z.S i j).2.1 * Z.S.V i 1 = Int32.ofInt (lnT Z.S i j).2.2 := by
      rw [show Z.S.V i 0 = Int32.ofInt (vX Z.S i) from i_ofT rfl, show Z.S.V i 1 = Int32.ofInt (vY Z.S i) from i_ofT rfl, ← Int32.ofInt_mul, ← Int32.ofInt_mul, ← Int32.ofInt_add]; rfl
    have hv := m_halves (K := K) hn M B bt
    have start : F_X3_through n K m (nI i) (nI j) h = bnd (some (bI (halvS Z.S (lnT Z.S i j)), h)) (fun r46 h47 =>
      if r46 = 0 then (
        some ((), h47)
      ) else (
        chk (h47.kind m = 5) <|
        bnd (F_X3_addsLine n K m (Int32.ofInt (lnT Z.S i j).1) (Int32.ofInt (lnT Z.S i j).2.1) (Int32.ofInt (lnT Z.S i j).2.2) h47) fun _ h50 =>
        some ((), h50)
      )) := by
      unfold F_X3_through
      simp only [chk_true, bnd_some, ob_some, oc_some, oc_none, hl_eq, ix_0, ix_1, if_true, if_false, inb0_2, inb1_2, not_true_eq_false, not_false_eq_true, ite_true, ite_false, true_or, or_true, or_self, zero_eq_one_I, one_eq_zero_I, ms_k0, ms_k1, ms_n1, ms_k2, ms_n2, ms_k3, ms_n3, ms_k4, ms_n4, ms_k5, ms_n5, ms_k6, ms_n6, ms_k7, ms_n7, ms_k8, ms_n8, ms_k9, ms_n9, ms_k10, ms_n10, ms_k11, ms_n11, ms_k12, ms_n12, ms_k13, ms_n13, ms_k14, ms_n14, ms_k15, ms_n15, ms_k16, ms_n16, ms_k17, ms_n17, ms_k18, ms_n18, ms_k19, ms_n19, ms_k20, ms_n20, ms_k21, ms_n21, ms_k22, ms_n22, ms_k23, ms_n23, ms_k24, ms_n24, ms_k25, ms_n25, ms_k26, ms_n26, ms_k27, ms_n27, ms_k28, ms_n28, ms_k29, ms_n29, ms_k30, ms_n30, ms_k31, ms_n31, ms_k32, ms_n32, ms_k33, ms_n33, ms_k34, ms_n34, ms_k35, ms_n35, ms_k36, ms_n36, ms_k37, ms_n37, ms_k38, ms_n38, ms_k39, ms_n39, ms_k40, ms_n40, ms_k41, ms_n41, ms_k50, ms_n50, ms_k51, ms_n51, ms_k52, ms_n52, ms_k53, ms_n53, ms_r0_0, ms_r0_6, ms_r2_0, ms_r2_1, ms_r0_7, ms_r5_0, ms_r5_1, ms_r0_8, ms_r8_0, ms_r8_1, ms_r0_9, ms_r11_0, ms_r11_1, ms_r0_10, ms_r14_0, ms_r14_1, ms_r0_11, ms_r17_0, ms_r17_1, ms_r0_12, ms_r20_0, ms_r20_1, ms_r0_13, ms_r23_0, ms_r23_1, ms_r0_14, ms_r0_15, ms_r0_16, ms_r0_17, ms_r0_18, ms_r0_23, ms_r0_24, ms_r0_25, ms_r0_26, ms_r0_30, ms_r0_31, ms_r0_32, ms_r0_35, ms_r0_36, ms_r0_39, ms_r0_40, ms_r0_41, ms_r0_42, ms_r0_43, ms_r0_47, MS, e1, e2, e3, e4, x0, x1, y0, y1]
      rw [jn_and, if_neg (by rw [p0, q0]; exact fun z => same ⟨z.2, z.1⟩), gc, bnd_some, lN_i, sg_jnI _ (by omega) (by rw [p1, q1]), p1, q1]
      simp only [chk_true, bnd_some, ob_some, oc_some, oc_none, hl_eq, ix_0, ix_1, if_true, if_false, inb0_2, inb1_2, not_true_eq_false, not_false_eq_true, ite_true, ite_false, true_or, or_true, or_self, zero_eq_one_I, one_eq_zero_I, ms_k0, ms_k1, ms_n1, ms_k2, ms_n2, ms_k3, ms_n3, ms_k4, ms_n4, ms_k5, ms_n5, ms_k6, ms_n6, ms_k7, ms_n7, ms_k8, ms_n8, ms_k9, ms_n9, ms_k10, ms_n10, ms_k11, ms_n11, ms_k12, ms_n12, ms_k13, ms_n13, ms_k14, ms_n14, ms_k15, ms_n15, ms_k16, ms_n16, ms_k17, ms_n17, ms_k18, ms_n18, ms_k19, ms_n19, ms_k20, ms_n20, ms_k21, ms_n21, ms_k22, ms_n22, ms_k23, ms_n23, ms_k24, ms_n24, ms_k25, ms_n25, ms_k26, ms_n26, ms_k27, ms_n27, ms_k28, ms_n28, ms_k29, ms_n29, ms_k30, ms_n30, ms_k31, ms_n31, ms_k32, ms_n32, ms_k33, ms_n33, ms_k34, ms_n34, ms_k35, ms_n35, ms_k36, ms_n36, ms_k37, ms_n37, ms_k38, ms_n38, ms_k39, ms_n39, ms_k40, ms_n40, ms_k41, ms_n41, ms_k50, ms_n50, ms_k51, ms_n51, ms_k52, ms_n52, ms_k53, ms_n53, ms_r0_0, ms_r0_6, ms_r2_0, ms_r2_1, ms_r0_7, ms_r5_0, ms_r5_1, ms_r0_8, ms_r8_0, ms_r8_1, ms_r0_9, ms_r11_0, ms_r11_1, ms_r0_10, ms_r14_0, ms_r14_1, ms_r0_11, ms_r17_0, ms_r17_1, ms_r0_12, ms_r20_0, ms_r20_1, ms_r0_13, ms_r23_0, ms_r23_1, ms_r0_14, ms_r0_15, ms_r0_16, ms_r0_17, ms_r0_18, ms_r0_23, ms_r0_24, ms_r0_25, ms_r0_26, ms_r0_30, ms_r0_31, ms_r0_32, ms_r0_35, ms_r0_36, ms_r0_39, ms_r0_40, ms_r0_41, ms_r0_42, ms_r0_43, ms_r0_47, MS, s0, d1, d2, x0, x1, e1, e2, d3, hv]
    have ln : lnStep Z.S i j l = if halvS Z.S (lnT Z.S i j) = true then putS aheadL (lnT Z.S i j) l else l := by
      unfold lnStep
      rw [if_neg same]
    cases hb : halvS Z.S (lnT Z.S i j)
    · refine ⟨h, ?_, by rw [ln, hb]; exact I, Fr_refl h⟩
      rw [start, hb]; rfl
    · obtain ⟨h', r1, r2, r3⟩ := m_addsLine (K := K) hn MS I.2.2 hl T nt bt
      refine ⟨h', ?_, ?_, r3⟩
      · rw [start, hb]
        have z : (bI true = 0) = False := eq_false (by decide)
        simp only [chk_true, bnd_some, ob_some, oc_some, oc_none, hl_eq, jn_eq, ix_0, ix_1, if_true, if_false, inb0_2, inb1_2, not_true_eq_false, not_false_eq_true, ite_true, ite_false, true_or, or_true, or_self, zero_eq_one_I, one_eq_zero_I, z, ms_k0 MS, r1]
      · rw [ln, hb, if_pos rfl]
        have k0 := ms_k0 MS
        refine ⟨MC_fr I.1 bz.2.2.1 r3 (fun _ _ _ z => WL_K z), ?_, r2⟩
        rw [((r3.2.2.2.2.2 m (by omega)).2.2 29 (fun z => by unfold WL at z; omega)).1]
        exact I.2.1
