/-! PURE PART SL: lot() of the model, whole -/
set_option maxRecDepth 100000
/-- rows of gains filled up to (i, j) -/
def GR (m : Nat) (h s : AH) (S : St) (i j : Nat) : Prop := (s.1 = h.1 ∧ s.kind = h.kind ∧ s.len = h.len ∧ s.I = h.I ∧ s.R = h.R) ∧ (∀ a q, (a < m + 42 ∨ m + 50 ≤ a) → s.L a q = h.L a q) ∧ ∀ a q, a < ncS S → q < ncS S → (a < i ∨ (a = i ∧ q < j)) → s.L (m + 42 + a) q = Int64.ofInt (gnZ S a q)
theorem GR_MA {m : Nat} {h s : AH} {S : St} {i j : Nat} (M : MA m h S) (G : GR m h s S i j) : MA m s S := MA_of M G.1.2.1 G.1.2.2.1 G.1.2.2.2.2 (fun b _ _ => by rw [G.1.2.2.2.1])
theorem GR_fr {m : Nat} {h s : AH} {S : St} {i j : Nat} (G : GR m h s S i j) : Fr 0 0 (ScM m) h s := by
  obtain ⟨⟨g1, g2, g3, g4, g5⟩, g6, g7⟩ := G
  have hn : s.n = h.n := congrArg Prod.fst g1
  have hs : s.sl = h.sl := congrArg Prod.snd g1
  refine ⟨fun w a ha => by rw [g2]; exact w a (by omega), by omega, by omega, by omega, by omega, fun a _ => ⟨by rw [g2], by rw [g3], fun q hq => ⟨by rw [g4], ?_, by rw [g5]⟩⟩⟩
  refine g6 a q ?_
  rcases Nat.lt_or_ge a (m + 42) with z | z
  · exact Or.inl z
  · rcases Nat.lt_or_ge a (m + 50) with y | y
    · exfalso
      have h1 : ∀ i, i < 8 → ∀ p, p ∈ mRs → p.1 ≠ 42 + i := by decide
      have := ScM_arr (m := m) (i := 42 + (a - m - 42)) (j := q) (by omega) (by omega) (h1 (a - m - 42) (by omega))
      rw [show m + (42 + (a - m - 42)) = a by omega] at this
      exact hq this
    · exact Or.inr y
theorem m_gains {n : Nat} {K : Nat → Nat} {m : Nat} {h : AH} {S : St} (hn : 20000 < n) (M : MA m h S) (k : AH → Option (Int32 × AH)) : ∃ s, F_X3_findsLots_L2 n K m n 0 h k = k s ∧ GR m h s S (ncS S) 0 := by
  have c8 := nc8 S
  have cp := ncp S
  have h20 := mnp hn M
  have inner : ∀ i, i < ncS S → ∀ (g : AH) (k : AH → Option (Int32 × AH)), GR m h g S i 0 → ∃ s, F_X3_findsLots_L12 n K (nI i) m n 0 g k = k s ∧ GR m h s S (i + 1) 0 := by
    intro i hi g k G0
    have e1 : ix (nI i) = i := ix_nI (by omega)
    have e2 : inb (nI i) 8 = True := eq_true ((inb_nI (by omega)).2 (by omega))
    refine loopU (fun f j (s : AH) => F_X3_findsLots_L12 n K (nI i) m f j s k) (ncS S) (fun j s => GR m h s S i j) (fun o => ∃ s, o = k s ∧ GR m h s S (i + 1) 0) ?_ ?_ (ncS S) 0 g n (by omega) (by omega) G0
    · intro f j s hj G
      right
      have Ms := GR_MA M G
      have H := Ms.1
      obtain ⟨r1, r2, r3⟩ := ms_row H (i := i) (by omega)
      have e3 : (nI (ncS S) ≤ nI j) = False := eq_false (nI_ge hj (by omega))
      have e4 : ix (nI j) = j := ix_nI (by omega)
      have e5 : inb (nI j) 8 = True := eq_true ((inb_nI (by omega)).2 (by omega))
      have gn := m_gain (n := n) (K := K) hn Ms (i := i) (j := j) (by omega) (by omega)
      refine ⟨s.setL (m + 42 + i) j (Int64.ofInt (gnZ S i j)), ⟨G.1, fun a q ha => ?_, fun a q ha hq hh => ?_⟩, ?_⟩
      · rw [AH.L_setL, if_neg (by omega)]; exact G.2.1 a q ha
      · rw [AH.L_setL]
        by_cases z : a = i ∧ q = j
        · rw [if_pos ⟨by omega, z.2⟩, z.1, z.2]
        · rw [if_neg (by omega)]; exact G.2.2 a q ha hq (by omega)
      · simp only [F_X3_findsLots_L12, chk_true, bnd_some, ob_some, oc_some, oc_none, hl_eq, jn_eq, ix_0, ix_1, if_true, if_false, inb0_2, inb1_2, not_true_eq_false, not_false_eq_true, ite_true, ite_false, true_or, or_true, or_self, zero_eq_one_I, one_eq_zero_I, ms_k0, ms_k1, ms_n1, ms_k2, ms_n2, ms_k3, ms_n3, ms_k4, ms_n4, ms_k5, ms_n5, ms_k6, ms_n6, ms_k7, ms_n7, ms_k8, ms_n8, ms_k9, ms_n9, ms_k10, ms_n10, ms_k11, ms_n11, ms_k12, ms_n12, ms_k13, ms_n13, ms_k14, ms_n14, ms_k15, ms_n15, ms_k16, ms_n16, ms_k17, ms_n17, ms_k18, ms_n18, ms_k19, ms_n19, ms_k20, ms_n20, ms_k21, ms_n21, ms_k22, ms_n22, ms_k23, ms_n23, ms_k24, ms_n24, ms_k25, ms_n25, ms_k26, ms_n26, ms_k27, ms_n27, ms_k28, ms_n28, ms_k29, ms_n29, ms_k30, ms_n30, ms_k31, ms_n31, ms_k32, ms_n32, ms_k33, ms_n33, ms_k34, ms_n34, ms_k35, ms_n35, ms_k36, ms_n36, ms_k37, ms_n37, ms_k38, ms_n38, ms_k39, ms_n39, ms_k40, ms_n40, ms_k41, ms_n41, ms_k50, ms_n50, ms_k51, ms_n51, ms_k52, ms_n52, ms_k53, ms_n53, ms_r0_0, ms_r0_6, ms_r2_0, ms_r2_1, ms_r0_7, ms_r5_0, ms_r5_1, ms_r0_8, ms_r8_0, ms_r8_1, ms_r0_9, ms_r11_0, ms_r11_1, ms_r0_10, ms_r14_0, ms_r14_1, ms_r0_11, ms_r17_0, ms_r17_1, ms_r0_12, ms_r20_0, ms_r20_1, ms_r0_13, ms_r23_0, ms_r23_1, ms_r0_14, ms_r0_15, ms_r0_16, ms_r0_17, ms_r0_18, ms_r0_23, ms_r0_24, ms_r0_25, ms_r0_26, ms_r0_30, ms_r0_31, ms_r0_32, ms_r0_35, ms_r0_36, ms_r0_39, ms_r0_40, ms_r0_41, ms_r0_42, ms_r0_43, ms_r0_47, H, m_chosen hn Ms, e1, e2, e3, e4, e5, r1, r2, r3, gn, gn_l, nI_1]
    · intro f s G
      have Ms := GR_MA M G
      have H := Ms.1
      have e3 : (nI (ncS S) ≤ nI (ncS S)) = True := eq_true (nI_le (Nat.le_refl _) (by omega))
      refine ⟨s, by simp only [F_X3_findsLots_L12, chk_true, bnd_some, ob_some, oc_some, oc_none, hl_eq, jn_eq, ix_0, ix_1, if_true, if_false, inb0_2, inb1_2, not_true_eq_false, not_false_eq_true, ite_true, ite_false, true_or, or_true, or_self, zero_eq_one_I, one_eq_zero_I, ms_k0 H, m_chosen hn Ms, e3], G.1, G.2.1, fun a q ha hq hh => G.2.2 a q ha hq (by omega)⟩
  refine loopU (fun f i (s : AH) => F_X3_findsLots_L2 n K m f i s k) (ncS S) (fun i s => GR m h s S i 0) (fun o => ∃ s, o = k s ∧ GR m h s S (ncS S) 0) ?_ ?_ (ncS S) 0 h n (by omega) (by omega) ⟨⟨rfl, rfl, rfl, rfl, rfl⟩, fun _ _ _ => rfl, fun a q _ _ hh => by omega⟩
  · intro f i s hi G
    right
    have Ms := GR_MA M G
    have H := Ms.1
    have e3 : (nI (ncS S) ≤ nI i) = False := eq_false (nI_ge hi (by omega))
    obtain ⟨s', q1, q2⟩ := inner i hi s (fun h27 => F_X3_findsLots_L2 n K m f (nI (i + 1)) h27 k) G
    refine ⟨s', q2, ?_⟩
    show F_X3_findsLots_L2 n K m (f + 1) (nI i) s k = _
    rw [F_X3_findsLots_L2]
    simp only [chk_true, bnd_some, ob_some, oc_some, oc_none, hl_eq, jn_eq, ix_0, ix_1, if_true, if_false, inb0_2, inb1_2, not_true_eq_false, not_false_eq_true, ite_true, ite_false, true_or, or_true, or_self, zero_eq_one_I, one_eq_zero_I, ms_k0 H, m_chosen hn Ms, e3, nI_1, q1]
  · intro f s G
    have Ms := GR_MA M G
    have H := Ms.1
    have e3 : (nI (ncS S) ≤ nI (ncS S)) = True := eq_true (nI_le (Nat.le_refl _) (by omega))
    exact ⟨s, by simp only [F_X3_findsLots_L2, chk_true, bnd_some, ob_some, oc_some, oc_none, hl_eq, jn_eq, ix_0, ix_1, if_true, if_false, inb0_2, inb1_2, not_true_eq_false, not_false_eq_true, ite_true, ite_false, true_or, or_true, or_self, zero_eq_one_I, one_eq_zero_I, ms_k0 H, m_chosen hn Ms, e3], G⟩
theorem om_lot {n : Nat} {K : Nat → Nat} {m : Nat} {h : AH} {Z : Zt} (hn : 20000 < n) (bz : Bz Z) (I : InvM m h Z) (v : Int32) : MOk m Z (lotS Z.S v) (F_X3_lot n K m v h) h := by
  have M := I.1
  have MS := M.1
  have B := bz.1
  have k0 := ms_k0 MS
  have c8 := nc8 Z.S
  have ch := m_chosen (n := n) (K := K) hn M
  have mi : ∀ g, F_X3_in n K v.toInt64 (-1 : Int64) ((nI (ncS Z.S) - 1).toInt64) g = some (bI (inS v (-1) (nI (ncS Z.S) - 1)), g) := fun g => m_in v (-1) (nI (ncS Z.S) - 1) rfl (by decide) rfl
  unfold lotS
  cases hv : inS v (-1) (nI (ncS Z.S) - 1)
  · rw [if_neg (by decide)]
    refine mok_same bz I ?_
    simp only [F_X3_lot, chk_true, bnd_some, ob_some, oc_some, oc_none, hl_eq, jn_eq, ix_0, ix_1, if_true, if_false, inb0_2, inb1_2, not_true_eq_false, not_false_eq_true, ite_true, ite_false, true_or, or_true, or_self, zero_eq_one_I, one_eq_zero_I, k0, ch, mi, hv, bI_0]
  · rw [if_pos rfl]
    obtain ⟨g, q0, GRg⟩ := m_gains (K := K) hn M (fun h28 => F_X3_findsLots_L49 n K m n 1 h28)
    have Mg := GR_MA M GRg
    have G : GA m g Z.S := ⟨Mg, Mg.1, fun i j hi hj => GRg.2.2 i j hi hj (Or.inl hi)⟩
    have HG := Mg.1
    have kg := ms_k0 HG
    have Fg := GR_fr GRg
    obtain ⟨f, q1⟩ := m_fl49 (K := K) hn B G (g.L (m + 50))
    rw [ovL_self] at q1
    have Fo : ∀ f, Fr 0 0 (ScM m) g (g.ovL (m + 50) 8 f) := by
      intro f
      refine ⟨id, Nat.le_refl _, Nat.le_refl _, Nat.le_refl _, Nat.le_refl _, fun p _ => ⟨rfl, rfl, fun j hj => ⟨rfl, ?_, rfl⟩⟩⟩
      by_cases z : p = m + 50
      · exact absurd (z ▸ ScM_arr (i := 50) (by omega) (by omega) (by decide)) hj
      · rw [L_ov_ne z]
    have fl : F_X3_findsLots n K m h = selS (loS Z.S) (fun b => some (1, g.ovL (m + 50) 8 (fnS Z.S b))) (some (0, g.ovL (m + 50) 8 f)) := by
      rw [← q1]
      exact q0
    cases hl : loS Z.S with
    | none =>
      rw [hl] at fl
      have fl' : F_X3_findsLots n K m h = some (0, g.ovL (m + 50) 8 f) := fl
      refine mok_scr bz I ?_ (Fr_trans (W := ScM m) Fg (Fo f) (fun _ _ _ z => z) (fun _ _ _ z => z))
      simp only [F_X3_lot, chk_true, bnd_some, ob_some, oc_some, oc_none, hl_eq, jn_eq, ix_0, ix_1, if_true, if_false, inb0_2, inb1_2, not_true_eq_false, not_false_eq_true, ite_true, ite_false, true_or, or_true, or_self, zero_eq_one_I, one_eq_zero_I, k0, ch, mi, hv, bI_0, Bool.true_eq_false, fl']
      rfl
    | some b =>
      rw [hl] at fl
      have fl' : F_X3_findsLots n K m h = some (1, g.ovL (m + 50) 8 (fnS Z.S b)) := fl
      refine mok_scr bz I ?_ (Fr_trans (W := ScM m) Fg (Fo (fnS Z.S b)) (fun _ _ _ z => z) (fun _ _ _ z => z))
      have key := loopF (fun f i (a : Int64) => F_X3_lot_L32 n K m v (g.ovL (m + 50) 8 (fnS Z.S b)) f i a) 8 (fun j a => a + fnS Z.S b j) (fun a => some (if v = -1 then a.toInt32 else (fnS Z.S b (ix v)).toInt32, g.ovL (m + 50) 8 (fnS Z.S b))) 0
        (by
          intro f j a hj
          have e3 : ((8 : Int32) ≤ nI j) = False := eq_false (nI_ge (b := 8) hj (by omega))
          have e4 : ix (nI j) = j := ix_nI (by omega)
          have e5 : inb (nI j) 8 = True := eq_true ((inb_nI (by omega)).2 (by omega))
          have L1 : (g.ovL (m + 50) 8 (fnS Z.S b)).L (m + 50) j = fnS Z.S b j := L_ov_eq (by omega) ..
          simp only [F_X3_lot_L32, chk_true, bnd_some, ob_some, oc_some, oc_none, hl_eq, jn_eq, ix_0, ix_1, if_true, if_false, inb0_2, inb1_2, not_true_eq_false, not_false_eq_true, ite_true, ite_false, true_or, or_true, or_self, zero_eq_one_I, one_eq_zero_I, kind_ovL, len_ovL, R_ovL, ms_k0, ms_k1, ms_n1, ms_k2, ms_n2, ms_k3, ms_n3, ms_k4, ms_n4, ms_k5, ms_n5, ms_k6, ms_n6, ms_k7, ms_n7, ms_k8, ms_n8, ms_k9, ms_n9, ms_k10, ms_n10, ms_k11, ms_n11, ms_k12, ms_n12, ms_k13, ms_n13, ms_k14, ms_n14, ms_k15, ms_n15, ms_k16, ms_n16, ms_k17, ms_n17, ms_k18, ms_n18, ms_k19, ms_n19, ms_k20, ms_n20, ms_k21, ms_n21, ms_k22, ms_n22, ms_k23, ms_n23, ms_k24, ms_n24, ms_k25, ms_n25, ms_k26, ms_n26, ms_k27, ms_n27, ms_k28, ms_n28, ms_k29, ms_n29, ms_k30, ms_n30, ms_k31, ms_n31, ms_k32, ms_n32, ms_k33, ms_n33, ms_k34, ms_n34, ms_k35, ms_n35, ms_k36, ms_n36, ms_k37, ms_n37, ms_k38, ms_n38, ms_k39, ms_n39, ms_k40, ms_n40, ms_k41, ms_n41, ms_k50, ms_n50, ms_k51, ms_n51, ms_k52, ms_n52, ms_k53, ms_n53, ms_r0_0, ms_r0_6, ms_r2_0, ms_r2_1, ms_r0_7, ms_r5_0, ms_r5_1, ms_r0_8, ms_r8_0, ms_r8_1, ms_r0_9, ms_r11_0, ms_r11_1, ms_r0_10, ms_r14_0, ms_r14_1, ms_r0_11, ms_r17_0, ms_r17_1, ms_r0_12, ms_r20_0, ms_r20_1, ms_r0_13, ms_r23_0, ms_r23_1, ms_r0_14, ms_r0_15, ms_r0_16, ms_r0_17, ms_r0_18, ms_r0_23, ms_r0_24, ms_r0_25, ms_r0_26, ms_r0_30, ms_r0_31, ms_r0_32, ms_r0_35, ms_r0_36, ms_r0_39, ms_r0_40, ms_r0_41, ms_r0_42, ms_r0_43, ms_r0_47, HG, e3, e4, e5, L1, nI_1])
        (by
          intro f a
          have e3 : ((8 : Int32) ≤ nI 8) = True := eq_true (by decide)
          by_cases vm : v = -1
          · simp only [F_X3_lot_L32, chk_true, bnd_some, ob_some, oc_some, oc_none, hl_eq, jn_eq, ix_0, ix_1, if_true, if_false, inb0_2, inb1_2, not_true_eq_false, not_false_eq_true, ite_true, ite_false, true_or, or_true, or_self, zero_eq_one_I, one_eq_zero_I, e3, vm]
          · obtain ⟨k, hk, rfl⟩ := in_m1 (by omega) hv vm
            have e4 : ix (nI k) = k := ix_nI (by omega)
            have e5 : inb (nI k) 8 = True := eq_true ((inb_nI (by omega)).2 (by omega))
            have L1 : (g.ovL (m + 50) 8 (fnS Z.S b)).L (m + 50) k = fnS Z.S b k := L_ov_eq (by omega) ..
            have vm' := eq_false vm
            simp only [F_X3_lot_L32, chk_true, bnd_some, ob_some, oc_some, oc_none, hl_eq, jn_eq, ix_0, ix_1, if_true, if_false, inb0_2, inb1_2, not_true_eq_false, not_false_eq_true, ite_true, ite_false, true_or, or_true, or_self, zero_eq_one_I, one_eq_zero_I, kind_ovL, len_ovL, R_ovL, ms_k0, ms_k1, ms_n1, ms_k2, ms_n2, ms_k3, ms_n3, ms_k4, ms_n4, ms_k5, ms_n5, ms_k6, ms_n6, ms_k7, ms_n7, ms_k8, ms_n8, ms_k9, ms_n9, ms_k10, ms_n10, ms_k11, ms_n11, ms_k12, ms_n12, ms_k13, ms_n13, ms_k14, ms_n14, ms_k15, ms_n15, ms_k16, ms_n16, ms_k17, ms_n17, ms_k18, ms_n18, ms_k19, ms_n19, ms_k20, ms_n20, ms_k21, ms_n21, ms_k22, ms_n22, ms_k23, ms_n23, ms_k24, ms_n24, ms_k25, ms_n25, ms_k26, ms_n26, ms_k27, ms_n27, ms_k28, ms_n28, ms_k29, ms_n29, ms_k30, ms_n30, ms_k31, ms_n31, ms_k32, ms_n32, ms_k33, ms_n33, ms_k34, ms_n34, ms_k35, ms_n35, ms_k36, ms_n36, ms_k37, ms_n37, ms_k38, ms_n38, ms_k39, ms_n39, ms_k40, ms_n40, ms_k41, ms_n41, ms_k50, ms_n50, ms_k51, ms_n51, ms_k52, ms_n52, ms_k53, ms_n53, ms_r0_0, ms_r0_6, ms_r2_0, ms_r2_1, ms_r0_7, ms_r5_0, ms_r5_1, ms_r0_8, ms_r8_0, ms_r8_1, ms_r0_9, ms_r11_0, ms_r11_1, ms_r0_10, ms_r14_0, ms_r14_1, ms_r0_11, ms_r17_0, ms_r17_1, ms_r0_12, ms_r20_0, ms_r20_1, ms_r0_13, ms_r23_0, ms_r23_1, ms_r0_14, ms_r0_15, ms_r0_16, ms_r0_17, ms_r0_18, ms_r0_23, ms_r0_24, ms_r0_25, ms_r0_26, ms_r0_30, ms_r0_31, ms_r0_32, ms_r0_35, ms_r0_36, ms_r0_39, ms_r0_40, ms_r0_41, ms_r0_42, ms_r0_43, ms_r0_47, HG, e3, e4, e5, L1, vm']) n (by omega)
      have key' : F_X3_lot_L32 n K m v (g.ovL (m + 50) 8 (fnS Z.S b)) n 0 0 = some (if v = -1 then (foldS (fun j a => a + fnS Z.S b j) 0 8).toInt32 else (fnS Z.S b (ix v)).toInt32, g.ovL (m + 50) 8 (fnS Z.S b)) := key
      simp only [F_X3_lot, chk_true, bnd_some, ob_some, oc_some, oc_none, hl_eq, jn_eq, ix_0, ix_1, if_true, if_false, inb0_2, inb1_2, not_true_eq_false, not_false_eq_true, ite_true, ite_false, true_or, or_true, or_self, zero_eq_one_I, one_eq_zero_I, k0, ch, mi, hv, bI_0, Bool.true_eq_false, fl', key']
      rfl
