/-! PURE PART SF: join() of the model -/
set_option maxRecDepth 100000
def MJ (m : Nat) (h s : AH) (S : St) (p : Nat) (c : Nat → Bool) (w : Nat) : Prop :=
  MA m s (jF S p c) ∧ (∀ k, k < w → s.I (m + 51) k = S.V k 0 ∧ s.I (m + 52) k = S.V k 1) ∧ (s.1 = h.1 ∧ s.kind = h.kind ∧ s.len = h.len ∧ s.L = h.L ∧ s.R = h.R) ∧ (∀ a j, a ≠ m + 3 → a ≠ m + 6 → a ≠ m + 51 → a ≠ m + 52 → s.I a j = h.I a j) ∧ ∀ j, S.nv ≤ j → s.I (m + 3) j = h.I (m + 3) j ∧ s.I (m + 6) j = h.I (m + 6) j
theorem MJ_put {m : Nat} {h s : AH} {S : St} {p : Nat} {c : Nat → Bool} {w : Nat} (J : MJ m h s S p c w) {k : Nat} (hk : k < S.nv) (d : Bool) : MJ m h ((s.setI (m + 3) k (if d = true then S.P p 0 else S.V k 0)).setI (m + 6) k (if d = true then S.P p 1 else S.V k 1)) S p (up1 c k d) w := by
  obtain ⟨M, j2, j3, j4, j5⟩ := J
  refine ⟨?_, fun q hq => ?_, j3, fun a j h1 h2 h3 h4 => ?_, fun j hj => ?_⟩
  · rw [← jF_put]
    exact MA_put M k _ _
  · rw [AH.I_setI, if_neg (by omega), AH.I_setI, if_neg (by omega), AH.I_setI, if_neg (by omega), AH.I_setI, if_neg (by omega)]
    exact j2 q hq
  · rw [AH.I_setI, if_neg (fun z => h2 z.1), AH.I_setI, if_neg (fun z => h1 z.1)]
    exact j4 a j h1 h2 h3 h4
  · rw [AH.I_setI, if_neg (by omega), AH.I_setI, if_neg (by omega), AH.I_setI, if_neg (by omega), AH.I_setI, if_neg (by omega)]
    exact j5 j hj
theorem MJ_was {m : Nat} {h s : AH} {S : St} {p : Nat} {c : Nat → Bool} {k : Nat} (J : MJ m h s S p c k) (hk : k < S.nv) : MJ m h ((s.setI (m + 51) k (S.V k 0)).setI (m + 52) k (S.V k 1)) S p c (k + 1) := by
  obtain ⟨M, j2, j3, j4, j5⟩ := J
  refine ⟨?_, fun q hq => ?_, j3, fun a j h1 h2 h3 h4 => ?_, fun j hj => ?_⟩
  · refine MA_of M rfl rfl rfl (fun b h1 h2 => ?_)
    funext j
    rw [AH.I_setI, if_neg (by omega), AH.I_setI, if_neg (by omega)]
  · rw [AH.I_setI, if_neg (by omega), AH.I_setI, AH.I_setI]
    by_cases z : q = k
    · rw [if_pos ⟨rfl, z⟩, if_pos ⟨rfl, z⟩, z]; exact ⟨rfl, rfl⟩
    · rw [if_neg (fun y => z y.2), if_neg (fun y => z y.2), AH.I_setI, if_neg (by omega)]
      exact j2 q (by omega)
  · rw [AH.I_setI, if_neg (fun z => h4 z.1), AH.I_setI, if_neg (fun z => h3 z.1)]
    exact j4 a j h1 h2 h3 h4
  · rw [AH.I_setI, if_neg (by omega), AH.I_setI, if_neg (by omega), AH.I_setI, if_neg (by omega), AH.I_setI, if_neg (by omega)]
    exact j5 j hj
theorem m_jn2 {n : Nat} {K : Nat → Nat} {m : Nat} {h : AH} {S : St} (hn : 20000 < n) (M : MA m h S) (B : Bd S) {p b : Nat} (hp : p < S.np) (hb : b < 2 ^ min S.nv 9) (k : AH → Option (Int32 × AH)) : ∃ s, F_X3_joins_L2 n K m (nI b) (nI p) n 0 h k = k s ∧ MJ m h s S p b.testBit S.nv := by
  have h15 := B.2.2.2.1
  have h20 := B.2.2.2.2
  have hp9 := pow_le (n := min S.nv 9) (by omega)
  have tb : ∀ v, min S.nv 9 ≤ v → b.testBit v = false := fun v hv => Nat.testBit_lt_two_pow (Nat.lt_of_lt_of_le hb (Nat.pow_le_pow_right (by omega) hv))
  refine loopU (fun f i (s : AH) => F_X3_joins_L2 n K m (nI b) (nI p) f i s k) S.nv (fun i s => MJ m h s S p (fun v => decide (v < i) && b.testBit v) i) (fun o => ∃ s, o = k s ∧ MJ m h s S p b.testBit S.nv) ?_ ?_ S.nv 0 h n (by omega) (by omega) ?_
  · intro f i s hi J
    right
    have Mi := J.1
    have MS := Mi.1
    have HV := Mi.2.1
    have HP := Mi.2.2.1
    obtain ⟨g0, g1, _⟩ := HV.2.2 i hi
    have c0 : (decide (i < i) && b.testBit i) = false := by rw [decide_eq_false (by omega)]; rfl
    have v0 : s.I (m + 3) i = S.V i 0 := g0.trans (if_neg (by show ¬ ((decide (i < i) && b.testBit i) = true); rw [c0]; decide))
    have v1 : s.I (m + 6) i = S.V i 1 := g1.trans (if_neg (by show ¬ ((decide (i < i) && b.testBit i) = true); rw [c0]; decide))
    obtain ⟨p0, p1⟩ := HP.2.2 p hp
    have q0 : s.I (m + 21) p = S.P p 0 := p0
    have q1 : s.I (m + 24) p = S.P p 1 := p1
    have J1 := MJ_was J hi
    have e1 : ix (nI i) = i := ix_nI (by omega)
    have e2 : inb (nI i) 15 = True := eq_true ((inb_nI (by omega)).2 (by omega))
    have e3 : (nI S.nv ≤ nI i) = False := eq_false (nI_ge hi (by omega))
    have e4 : ix (nI p) = p := ix_nI (by omega)
    have e5 : inb (nI p) 20 = True := eq_true ((inb_nI (by omega)).2 (by omega))
    have vo : F_X3_voters n K m s = some (nI S.nv, s) := m_voters MS HV
    have w1 : ∀ a, (s.setI (m + 51) i a).I (m + 6) i = S.V i 1 := fun a => by rw [AH.I_setI, if_neg (by omega)]; exact v1
    cases hbt : b.testBit i
    · refine ⟨(s.setI (m + 51) i (S.V i 0)).setI (m + 52) i (S.V i 1), ?_, ?_⟩
      · have ec : (fun v => decide (v < i + 1) && b.testBit v) = fun v => decide (v < i) && b.testBit v := by
          funext v
          by_cases z : v = i
          · rw [z, hbt, Bool.and_false, Bool.and_false]
          · have : decide (v < i + 1) = decide (v < i) := decide_eq_decide.2 ⟨fun y => by omega, fun y => by omega⟩
            rw [this]
        rw [ec]; exact J1
      · by_cases c9 : 9 ≤ i
        · have e9 : ((9 : Int32) ≤ nI i) = True := eq_true (nI_le (a := 9) c9 (by omega))
          simp only [F_X3_joins_L2, chk_true, bnd_some, ob_some, oc_some, oc_none, hl_eq, jn_eq, ix_0, ix_1, if_true, if_false, inb0_2, inb1_2, not_true_eq_false, not_false_eq_true, ite_true, ite_false, true_or, or_true, or_self, zero_eq_one_I, one_eq_zero_I, AH.n_setI, AH.n_setL, AH.n_setR, AH.sl_setI, AH.sl_setL, AH.sl_setR, AH.kind_setI, AH.kind_setL, AH.kind_setR, AH.len_setI, AH.len_setL, AH.len_setR, AH.I_setL, AH.I_setR, AH.L_setI, AH.L_setR, AH.R_setI, AH.R_setL, ms_k0, ms_k1, ms_n1, ms_k2, ms_n2, ms_k3, ms_n3, ms_k4, ms_n4, ms_k5, ms_n5, ms_k6, ms_n6, ms_k7, ms_n7, ms_k8, ms_n8, ms_k9, ms_n9, ms_k10, ms_n10, ms_k11, ms_n11, ms_k12, ms_n12, ms_k13, ms_n13, ms_k14, ms_n14, ms_k15, ms_n15, ms_k16, ms_n16, ms_k17, ms_n17, ms_k18, ms_n18, ms_k19, ms_n19, ms_k20, ms_n20, ms_k21, ms_n21, ms_k22, ms_n22, ms_k23, ms_n23, ms_k24, ms_n24, ms_k25, ms_n25, ms_k26, ms_n26, ms_k27, ms_n27, ms_k28, ms_n28, ms_k29, ms_n29, ms_k30, ms_n30, ms_k31, ms_n31, ms_k32, ms_n32, ms_k33, ms_n33, ms_k34, ms_n34, ms_k35, ms_n35, ms_k36, ms_n36, ms_k37, ms_n37, ms_k38, ms_n38, ms_k39, ms_n39, ms_k40, ms_n40, ms_k41, ms_n41, ms_k50, ms_n50, ms_k51, ms_n51, ms_k52, ms_n52, ms_k53, ms_n53, ms_r0_0, ms_r0_6, ms_r2_0, ms_r2_1, ms_r0_7, ms_r5_0, ms_r5_1, ms_r0_8, ms_r8_0, ms_r8_1, ms_r0_9, ms_r11_0, ms_r11_1, ms_r0_10, ms_r14_0, ms_r14_1, ms_r0_11, ms_r17_0, ms_r17_1, ms_r0_12, ms_r20_0, ms_r20_1, ms_r0_13, ms_r23_0, ms_r23_1, ms_r0_14, ms_r0_15, ms_r0_16, ms_r0_17, ms_r0_18, ms_r0_23, ms_r0_24, ms_r0_25, ms_r0_26, ms_r0_30, ms_r0_31, ms_r0_32, ms_r0_35, ms_r0_36, ms_r0_39, ms_r0_40, ms_r0_41, ms_r0_42, ms_r0_43, ms_r0_47, MS, vo, e1, e2, e3, v0, w1, e9, nI_1]
        · have e9 : ((9 : Int32) ≤ nI i) = False := eq_false (nI_ge (b := 9) (by omega) (by omega))
          have bt := bit_all b (by omega) i (by omega)
          rw [hbt] at bt
          have z1 : ((nI b >>> (nI i &&& 31)) &&& (1 : Int32)) = 0 := bt
          simp only [F_X3_joins_L2, chk_true, bnd_some, ob_some, oc_some, oc_none, hl_eq, jn_eq, ix_0, ix_1, if_true, if_false, inb0_2, inb1_2, not_true_eq_false, not_false_eq_true, ite_true, ite_false, true_or, or_true, or_self, zero_eq_one_I, one_eq_zero_I, AH.n_setI, AH.n_setL, AH.n_setR, AH.sl_setI, AH.sl_setL, AH.sl_setR, AH.kind_setI, AH.kind_setL, AH.kind_setR, AH.len_setI, AH.len_setL, AH.len_setR, AH.I_setL, AH.I_setR, AH.L_setI, AH.L_setR, AH.R_setI, AH.R_setL, ms_k0, ms_k1, ms_n1, ms_k2, ms_n2, ms_k3, ms_n3, ms_k4, ms_n4, ms_k5, ms_n5, ms_k6, ms_n6, ms_k7, ms_n7, ms_k8, ms_n8, ms_k9, ms_n9, ms_k10, ms_n10, ms_k11, ms_n11, ms_k12, ms_n12, ms_k13, ms_n13, ms_k14, ms_n14, ms_k15, ms_n15, ms_k16, ms_n16, ms_k17, ms_n17, ms_k18, ms_n18, ms_k19, ms_n19, ms_k20, ms_n20, ms_k21, ms_n21, ms_k22, ms_n22, ms_k23, ms_n23, ms_k24, ms_n24, ms_k25, ms_n25, ms_k26, ms_n26, ms_k27, ms_n27, ms_k28, ms_n28, ms_k29, ms_n29, ms_k30, ms_n30, ms_k31, ms_n31, ms_k32, ms_n32, ms_k33, ms_n33, ms_k34, ms_n34, ms_k35, ms_n35, ms_k36, ms_n36, ms_k37, ms_n37, ms_k38, ms_n38, ms_k39, ms_n39, ms_k40, ms_n40, ms_k41, ms_n41, ms_k50, ms_n50, ms_k51, ms_n51, ms_k52, ms_n52, ms_k53, ms_n53, ms_r0_0, ms_r0_6, ms_r2_0, ms_r2_1, ms_r0_7, ms_r5_0, ms_r5_1, ms_r0_8, ms_r8_0, ms_r8_1, ms_r0_9, ms_r11_0, ms_r11_1, ms_r0_10, ms_r14_0, ms_r14_1, ms_r0_11, ms_r17_0, ms_r17_1, ms_r0_12, ms_r20_0, ms_r20_1, ms_r0_13, ms_r23_0, ms_r23_1, ms_r0_14, ms_r0_15, ms_r0_16, ms_r0_17, ms_r0_18, ms_r0_23, ms_r0_24, ms_r0_25, ms_r0_26, ms_r0_30, ms_r0_31, ms_r0_32, ms_r0_35, ms_r0_36, ms_r0_39, ms_r0_40, ms_r0_41, ms_r0_42, ms_r0_43, ms_r0_47, MS, vo, e1, e2, e3, v0, w1, e9, z1, nI_1]
    · have i9 : i < 9 := by
        rcases Nat.lt_or_ge i 9 with z | z
        · exact z
        · rw [tb i (by omega)] at hbt; cases hbt
      have J2 := MJ_put J1 hi true
      refine ⟨((((s.setI (m + 51) i (S.V i 0)).setI (m + 52) i (S.V i 1)).setI (m + 3) i (S.P p 0)).setI (m + 6) i (S.P p 1)), ?_, ?_⟩
      · have ec : (fun v => decide (v < i + 1) && b.testBit v) = up1 (fun v => decide (v < i) && b.testBit v) i true := by
          funext v
          unfold up1
          by_cases z : v = i
          · rw [if_pos z, z, hbt, decide_eq_true (by omega)]; rfl
          · have : decide (v < i + 1) = decide (v < i) := decide_eq_decide.2 ⟨fun y => by omega, fun y => by omega⟩
            rw [if_neg z, this]
        rw [ec]; exact J2
      · have e9 : ((9 : Int32) ≤ nI i) = False := eq_false (nI_ge (b := 9) (by omega) (by omega))
        have bt := bit_all b (by omega) i (by omega)
        rw [hbt] at bt
        have z1 : ((nI b >>> (nI i &&& 31)) &&& (1 : Int32)) = 1 := bt
        have r0 : ((s.setI (m + 51) i (S.V i 0)).setI (m + 52) i (S.V i 1)).I (m + 21) p = S.P p 0 := by
          rw [AH.I_setI, if_neg (by omega), AH.I_setI, if_neg (by omega)]; exact q0
        have r1 : (((s.setI (m + 51) i (S.V i 0)).setI (m + 52) i (S.V i 1)).setI (m + 3) i (S.P p 0)).I (m + 24) p = S.P p 1 := by
          rw [AH.I_setI, if_neg (by omega), AH.I_setI, if_neg (by omega), AH.I_setI, if_neg (by omega)]; exact q1
        simp only [F_X3_joins_L2, chk_true, bnd_some, ob_some, oc_some, oc_none, hl_eq, jn_eq, ix_0, ix_1, if_true, if_false, inb0_2, inb1_2, not_true_eq_false, not_false_eq_true, ite_true, ite_false, true_or, or_true, or_self, zero_eq_one_I, one_eq_zero_I, AH.n_setI, AH.n_setL, AH.n_setR, AH.sl_setI, AH.sl_setL, AH.sl_setR, AH.kind_setI, AH.kind_setL, AH.kind_setR, AH.len_setI, AH.len_setL, AH.len_setR, AH.I_setL, AH.I_setR, AH.L_setI, AH.L_setR, AH.R_setI, AH.R_setL, ms_k0, ms_k1, ms_n1, ms_k2, ms_n2, ms_k3, ms_n3, ms_k4, ms_n4, ms_k5, ms_n5, ms_k6, ms_n6, ms_k7, ms_n7, ms_k8, ms_n8, ms_k9, ms_n9, ms_k10, ms_n10, ms_k11, ms_n11, ms_k12, ms_n12, ms_k13, ms_n13, ms_k14, ms_n14, ms_k15, ms_n15, ms_k16, ms_n16, ms_k17, ms_n17, ms_k18, ms_n18, ms_k19, ms_n19, ms_k20, ms_n20, ms_k21, ms_n21, ms_k22, ms_n22, ms_k23, ms_n23, ms_k24, ms_n24, ms_k25, ms_n25, ms_k26, ms_n26, ms_k27, ms_n27, ms_k28, ms_n28, ms_k29, ms_n29, ms_k30, ms_n30, ms_k31, ms_n31, ms_k32, ms_n32, ms_k33, ms_n33, ms_k34, ms_n34, ms_k35, ms_n35, ms_k36, ms_n36, ms_k37, ms_n37, ms_k38, ms_n38, ms_k39, ms_n39, ms_k40, ms_n40, ms_k41, ms_n41, ms_k50, ms_n50, ms_k51, ms_n51, ms_k52, ms_n52, ms_k53, ms_n53, ms_r0_0, ms_r0_6, ms_r2_0, ms_r2_1, ms_r0_7, ms_r5_0, ms_r5_1, ms_r0_8, ms_r8_0, ms_r8_1, ms_r0_9, ms_r11_0, ms_r11_1, ms_r0_10, ms_r14_0, ms_r14_1, ms_r0_11, ms_r17_0, ms_r17_1, ms_r0_12, ms_r20_0, ms_r20_1, ms_r0_13, ms_r23_0, ms_r23_1, ms_r0_14, ms_r0_15, ms_r0_16, ms_r0_17, ms_r0_18, ms_r0_23, ms_r0_24, ms_r0_25, ms_r0_26, ms_r0_30, ms_r0_31, ms_r0_32, ms_r0_35, ms_r0_36, ms_r0_39, ms_r0_40, ms_r0_41, ms_r0_42, ms_r0_43, ms_r0_47, MS, vo, e1, e2, e3, e4, e5, v0, w1, e9, z1, r0, r1, nI_1]
  · intro f s J
    have e3 : (nI S.nv ≤ nI S.nv) = True := eq_true (nI_le (Nat.le_refl _) (by omega))
    have MS := J.1.1
    have vo : F_X3_voters n K m s = some (nI S.nv, s) := m_voters MS J.1.2.1
    have ec : (fun v => decide (v < S.nv) && b.testBit v) = b.testBit := by
      funext v
      by_cases z : v < S.nv
      · rw [decide_eq_true z, Bool.true_and]
      · rw [decide_eq_false z, Bool.false_and, tb v (by omega)]
    rw [ec] at J
    exact ⟨s, by simp only [F_X3_joins_L2, chk_true, bnd_some, ob_some, oc_some, oc_none, hl_eq, jn_eq, ix_0, ix_1, if_true, if_false, inb0_2, inb1_2, not_true_eq_false, not_false_eq_true, ite_true, ite_false, true_or, or_true, or_self, zero_eq_one_I, one_eq_zero_I, ms_k0, ms_k1, ms_n1, ms_k2, ms_n2, ms_k3, ms_n3, ms_k4, ms_n4, ms_k5, ms_n5, ms_k6, ms_n6, ms_k7, ms_n7, ms_k8, ms_n8, ms_k9, ms_n9, ms_k10, ms_n10, ms_k11, ms_n11, ms_k12, ms_n12, ms_k13, ms_n13, ms_k14, ms_n14, ms_k15, ms_n15, ms_k16, ms_n16, ms_k17, ms_n17, ms_k18, ms_n18, ms_k19, ms_n19, ms_k20, ms_n20, ms_k21, ms_n21, ms_k22, ms_n22, ms_k23, ms_n23, ms_k24, ms_n24, ms_k25, ms_n25, ms_k26, ms_n26, ms_k27, ms_n27, ms_k28, ms_n28, ms_k29, ms_n29, ms_k30, ms_n30, ms_k31, ms_n31, ms_k32, ms_n32, ms_k33, ms_n33, ms_k34, ms_n34, ms_k35, ms_n35, ms_k36, ms_n36, ms_k37, ms_n37, ms_k38, ms_n38, ms_k39, ms_n39, ms_k40, ms_n40, ms_k41, ms_n41, ms_k50, ms_n50, ms_k51, ms_n51, ms_k52, ms_n52, ms_k53, ms_n53, ms_r0_0, ms_r0_6, ms_r2_0, ms_r2_1, ms_r0_7, ms_r5_0, ms_r5_1, ms_r0_8, ms_r8_0, ms_r8_1, ms_r0_9, ms_r11_0, ms_r11_1, ms_r0_10, ms_r14_0, ms_r14_1, ms_r0_11, ms_r17_0, ms_r17_1, ms_r0_12, ms_r20_0, ms_r20_1, ms_r0_13, ms_r23_0, ms_r23_1, ms_r0_14, ms_r0_15, ms_r0_16, ms_r0_17, ms_r0_18, ms_r0_23, ms_r0_24, ms_r0_25, ms_r0_26, ms_r0_30, ms_r0_31, ms_r0_32, ms_r0_35, ms_r0_36, ms_r0_39, ms_r0_40, ms_r0_41, ms_r0_42, ms_r0_43, ms_r0_47, MS, vo, e3], J⟩
  · have ec : (fun v => decide (v < 0) && b.testBit v) = fun _ => false := by
      funext v
      rw [decide_eq_false (by omega)]; rfl
    rw [ec]
    exact ⟨M, fun k hk => absurd hk (Nat.not_lt_zero k), ⟨rfl, rfl, rfl, rfl, rfl⟩, fun _ _ _ _ _ _ => rfl, fun _ _ => ⟨rfl, rfl⟩⟩
theorem m_jn102 {n : Nat} {K : Nat → Nat} {m : Nat} {h s : AH} {S : St} (hn : 20000 < n) (B : Bd S) {p : Nat} {c : Nat → Bool} (J : MJ m h s S p c S.nv) (hc : ∀ v, S.nv ≤ v → c v = false) (u : Bool) : ∃ s', F_X3_joins_L102 n K (bI u) m n 0 s = some (bI u, s') ∧ MJ m h s' S p (fun _ => false) S.nv := by
  have h15 := B.2.2.2.1
  refine loopU (fun f i (s : AH) => F_X3_joins_L102 n K (bI u) m f i s) S.nv (fun i s => MJ m h s S p (fun v => if v < i then false else c v) S.nv) (fun o => ∃ s', o = some (bI u, s') ∧ MJ m h s' S p (fun _ => false) S.nv) ?_ ?_ S.nv 0 s n (by omega) (by omega) ?_
  · intro f i g hi J
    right
    have MS := J.1.1
    have vo : F_X3_voters n K m g = some (nI S.nv, g) := m_voters MS J.1.2.1
    have J2 := MJ_put J hi false
    have ec : up1 (fun v => if v < i then false else c v) i false = fun v => if v < i + 1 then false else c v := by
      funext v
      unfold up1
      by_cases z : v = i
      · rw [if_pos z, if_pos (by omega)]
      · rw [if_neg z]
        show (if v < i then false else c v) = _
        by_cases z2 : v < i
        · rw [if_pos z2, if_pos (by omega)]
        · rw [if_neg z2, if_neg (by omega)]
    rw [ec] at J2
    refine ⟨_, J2, ?_⟩
    have e1 : ix (nI i) = i := ix_nI (by omega)
    have e2 : inb (nI i) 15 = True := eq_true ((inb_nI (by omega)).2 (by omega))
    have e3 : (nI S.nv ≤ nI i) = False := eq_false (nI_ge hi (by omega))
    obtain ⟨w0, w1⟩ := J.2.1 i hi
    have r1 : ∀ a, (g.setI (m + 3) i a).I (m + 52) i = S.V i 1 := fun a => by rw [AH.I_setI, if_neg (by omega)]; exact w1
    simp only [F_X3_joins_L102, chk_true, bnd_some, ob_some, oc_some, oc_none, hl_eq, jn_eq, ix_0, ix_1, if_true, if_false, inb0_2, inb1_2, not_true_eq_false, not_false_eq_true, ite_true, ite_false, true_or, or_true, or_self, zero_eq_one_I, one_eq_zero_I, AH.n_setI, AH.n_setL, AH.n_setR, AH.sl_setI, AH.sl_setL, AH.sl_setR, AH.kind_setI, AH.kind_setL, AH.kind_setR, AH.len_setI, AH.len_setL, AH.len_setR, AH.I_setL, AH.I_setR, AH.L_setI, AH.L_setR, AH.R_setI, AH.R_setL, ms_k0, ms_k1, ms_n1, ms_k2, ms_n2, ms_k3, ms_n3, ms_k4, ms_n4, ms_k5, ms_n5, ms_k6, ms_n6, ms_k7, ms_n7, ms_k8, ms_n8, ms_k9, ms_n9, ms_k10, ms_n10, ms_k11, ms_n11, ms_k12, ms_n12, ms_k13, ms_n13, ms_k14, ms_n14, ms_k15, ms_n15, ms_k16, ms_n16, ms_k17, ms_n17, ms_k18, ms_n18, ms_k19, ms_n19, ms_k20, ms_n20, ms_k21, ms_n21, ms_k22, ms_n22, ms_k23, ms_n23, ms_k24, ms_n24, ms_k25, ms_n25, ms_k26, ms_n26, ms_k27, ms_n27, ms_k28, ms_n28, ms_k29, ms_n29, ms_k30, ms_n30, ms_k31, ms_n31, ms_k32, ms_n32, ms_k33, ms_n33, ms_k34, ms_n34, ms_k35, ms_n35, ms_k36, ms_n36, ms_k37, ms_n37, ms_k38, ms_n38, ms_k39, ms_n39, ms_k40, ms_n40, ms_k41, ms_n41, ms_k50, ms_n50, ms_k51, ms_n51, ms_k52, ms_n52, ms_k53, ms_n53, ms_r0_0, ms_r0_6, ms_r2_0, ms_r2_1, ms_r0_7, ms_r5_0, ms_r5_1, ms_r0_8, ms_r8_0, ms_r8_1, ms_r0_9, ms_r11_0, ms_r11_1, ms_r0_10, ms_r14_0, ms_r14_1, ms_r0_11, ms_r17_0, ms_r17_1, ms_r0_12, ms_r20_0, ms_r20_1, ms_r0_13, ms_r23_0, ms_r23_1, ms_r0_14, ms_r0_15, ms_r0_16, ms_r0_17, ms_r0_18, ms_r0_23, ms_r0_24, ms_r0_25, ms_r0_26, ms_r0_30, ms_r0_31, ms_r0_32, ms_r0_35, ms_r0_36, ms_r0_39, ms_r0_40, ms_r0_41, ms_r0_42, ms_r0_43, ms_r0_47, MS, vo, e1, e2, e3, w0, r1, nI_1, Bool.false_eq_true]
  · intro f g J
    have e3 : (nI S.nv ≤ nI S.nv) = True := eq_true (nI_le (Nat.le_refl _) (by omega))
    have MS := J.1.1
    have vo : F_X3_voters n K m g = some (nI S.nv, g) := m_voters MS J.1.2.1
    refine ⟨g, by simp only [F_X3_joins_L102, chk_true, bnd_some, ob_some, oc_some, oc_none, hl_eq, jn_eq, ix_0, ix_1, if_true, if_false, inb0_2, inb1_2, not_true_eq_false, not_false_eq_true, ite_true, ite_false, true_or, or_true, or_self, zero_eq_one_I, one_eq_zero_I, ms_k0, ms_k1, ms_n1, ms_k2, ms_n2, ms_k3, ms_n3, ms_k4, ms_n4, ms_k5, ms_n5, ms_k6, ms_n6, ms_k7, ms_n7, ms_k8, ms_n8, ms_k9, ms_n9, ms_k10, ms_n10, ms_k11, ms_n11, ms_k12, ms_n12, ms_k13, ms_n13, ms_k14, ms_n14, ms_k15, ms_n15, ms_k16, ms_n16, ms_k17, ms_n17, ms_k18, ms_n18, ms_k19, ms_n19, ms_k20, ms_n20, ms_k21, ms_n21, ms_k22, ms_n22, ms_k23, ms_n23, ms_k24, ms_n24, ms_k25, ms_n25, ms_k26, ms_n26, ms_k27, ms_n27, ms_k28, ms_n28, ms_k29, ms_n29, ms_k30, ms_n30, ms_k31, ms_n31, ms_k32, ms_n32, ms_k33, ms_n33, ms_k34, ms_n34, ms_k35, ms_n35, ms_k36, ms_n36, ms_k37, ms_n37, ms_k38, ms_n38, ms_k39, ms_n39, ms_k40, ms_n40, ms_k41, ms_n41, ms_k50, ms_n50, ms_k51, ms_n51, ms_k52, ms_n52, ms_k53, ms_n53, ms_r0_0, ms_r0_6, ms_r2_0, ms_r2_1, ms_r0_7, ms_r5_0, ms_r5_1, ms_r0_8, ms_r8_0, ms_r8_1, ms_r0_9, ms_r11_0, ms_r11_1, ms_r0_10, ms_r14_0, ms_r14_1, ms_r0_11, ms_r17_0, ms_r17_1, ms_r0_12, ms_r20_0, ms_r20_1, ms_r0_13, ms_r23_0, ms_r23_1, ms_r0_14, ms_r0_15, ms_r0_16, ms_r0_17, ms_r0_18, ms_r0_23, ms_r0_24, ms_r0_25, ms_r0_26, ms_r0_30, ms_r0_31, ms_r0_32, ms_r0_35, ms_r0_36, ms_r0_39, ms_r0_40, ms_r0_41, ms_r0_42, ms_r0_43, ms_r0_47, MS, vo, e3, bI_01], ?_⟩
    have ec : (fun v => if v < S.nv then false else c v) = fun _ => false := by
      funext v
      by_cases z : v < S.nv
      · rw [if_pos z]
      · rw [if_neg z, hc v (by omega)]
    rw [ec] at J
    exact J
  · have ec : (fun v => if v < 0 then false else c v) = c := funext fun v => if_neg (by omega)
    rw [ec]; exact J
theorem m_joins {n : Nat} {K : Nat → Nat} {m : Nat} {h : AH} {S : St} (hn : 20000 < n) (M : MA m h S) (B : Bd S) {p b : Nat} (hp : p < S.np) (hb : b < 2 ^ min S.nv 9) : ∃ s, F_X3_joins n K m (nI b) (nI p) h = some (bI (unJ S p b), s) ∧ MA m s S ∧ Fr 0 0 (ScM m) h s := by
  obtain ⟨s1, q1, J1⟩ := m_jn2 (K := K) hn M B hp hb (fun h63 =>
    chk (h63.kind m = 5) <|
    bnd (F_X3_isUnbeaten n K m (nI p) h63) fun r64 h65 =>
    F_X3_joins_L102 n K r64 m n (0 : Int32) h65)
  have tb : ∀ v, S.nv ≤ v → b.testBit v = false := fun v hv => Nat.testBit_lt_two_pow (Nat.lt_of_lt_of_le hb (Nat.pow_le_pow_right (by omega) (by omega)))
  obtain ⟨s2, q2, J2⟩ := m_jn102 (K := K) hn B J1 tb (unJ S p b)
  have un := m_isUnbeaten (n := n) (K := K) hn J1.1 (p := p) hp
  have un' : F_X3_isUnbeaten n K m (nI p) s1 = some (bI (unJ S p b), s1) := un
  obtain ⟨MF, _, ⟨z1, z2, z3, z4, z5⟩, z6, z7⟩ := J2
  have MF' : MA m s2 S := MF
  refine ⟨s2, ?_, MF', Fr_of z1 z2 z3 z4 z5 (fun a j hj => ?_)⟩
  · unfold F_X3_joins
    rw [q1]
    simp only [chk_true, bnd_some, ob_some, oc_some, oc_none, hl_eq, jn_eq, ix_0, ix_1, if_true, if_false, inb0_2, inb1_2, not_true_eq_false, not_false_eq_true, ite_true, ite_false, true_or, or_true, or_self, zero_eq_one_I, one_eq_zero_I, ms_k0 J1.1.1, un', q2]
  · have n51 : a ≠ m + 51 := fun z => hj (z ▸ ScM_arr (i := 51) (by omega) (by omega) (by decide))
    have n52 : a ≠ m + 52 := fun z => hj (z ▸ ScM_arr (i := 52) (by omega) (by omega) (by decide))
    by_cases a3 : a = m + 3
    · subst a3
      rcases Nat.lt_or_ge j S.nv with y | y
      · rw [(MF'.2.1.2.2 j y).1, (M.2.1.2.2 j y).1]
      · exact (z7 j y).1
    · by_cases a6 : a = m + 6
      · subst a6
        rcases Nat.lt_or_ge j S.nv with y | y
        · rw [(MF'.2.1.2.2 j y).2.1, (M.2.1.2.2 j y).2.1]
        · exact (z7 j y).2
      · exact z6 a j a3 a6 n51 n52
theorem om_join {n : Nat} {K : Nat → Nat} {m : Nat} {h : AH} {Z : Zt} (hn : 20000 < n) (bz : Bz Z) (I : InvM m h Z) (v : Int32) : MOk m Z (joinS Z.S v) (F_X3_join n K m v h) h := by
  have M := I.1
  have MS := M.1
  have B := bz.1
  have k0 := ms_k0 MS
  have h15 := B.2.2.2.1
  have h20 := B.2.2.2.2
  have ip := m_isPlace (n := n) (K := K) MS M.2.2.1 v
  unfold joinS
  cases hv : inS v 0 (nI Z.S.np - 1)
  · rw [if_neg (by decide)]
    refine mok_same bz I ?_
    rw [hv] at ip
    simp only [F_X3_join, chk_true, bnd_some, ob_some, oc_some, oc_none, hl_eq, jn_eq, ix_0, ix_1, if_true, if_false, inb0_2, inb1_2, not_true_eq_false, not_false_eq_true, ite_true, ite_false, true_or, or_true, or_self, zero_eq_one_I, one_eq_zero_I, k0, ip, bI_0]
  · rw [if_pos rfl]
    rw [hv] at ip
    obtain ⟨p, hp, rfl⟩ := (inS_nI (by omega)).1 hv
    have e1 : ix (nI p) = p := ix_nI (by omega)
    rw [e1]
    obtain ⟨N, hN⟩ : ∃ N, N = min Z.S.nv 9 := ⟨_, rfl⟩
    have m9 := min9 h15
    rw [← hN] at m9
    rw [← hN]
    have hp9 := pow_le (n := N) (by omega)
    have sh := shl_all N (by omega)
    have inner : ∀ many, many ≤ N → ∀ (g : AH) (k : AH → Option (Int32 × AH)), MA m g Z.S → Fr 0 0 (ScM m) h g → 
        ∃ s, F_X3_join_L30 n K (nI many) (nI N) m (nI p) n 0 g k = selS (findS (fun b => decide (popN b = many) && unJ Z.S p b) (2 ^ N) 0) (fun b => some (nI b, s)) (k s) ∧ MA m s Z.S ∧ Fr 0 0 (ScM m) h s := by
      intro many hm g k MG FG
      refine loopU (fun f i (s : AH) => F_X3_join_L30 n K (nI many) (nI N) m (nI p) f i s k) (2 ^ N) (fun b s => MA m s Z.S ∧ Fr 0 0 (ScM m) h s ∧ ∀ q, q < b → (decide (popN q = many) && unJ Z.S p q) = false) (fun o => ∃ s, o = selS (findS (fun b => decide (popN b = many) && unJ Z.S p b) (2 ^ N) 0) (fun b => some (nI b, s)) (k s) ∧ MA m s Z.S ∧ Fr 0 0 (ScM m) h s) ?_ ?_ (2 ^ N) 0 g n (by omega) (by omega) ⟨MG, FG, fun q hq => absurd hq (Nat.not_lt_zero q)⟩
      · rintro f b s hb ⟨MA1, F1, hn1⟩
        have e3 : (nI (2 ^ N) ≤ nI b) = False := eq_false (nI_ge hb (by omega))
        have bc1 := bc_pop b (by omega)
        have pl1 := pop_le b (by omega) 9 (by omega) (by omega)
        by_cases cp : popN b = many
        · have e5 : (nI (popN b) = nI many) = True := eq_true (by rw [cp])
          obtain ⟨s', q1, q2, q3⟩ := m_joins (K := K) hn MA1 B hp (b := b) (by rw [← hN]; exact hb)
          have F2 := Fr_trans (W := ScM m) F1 q3 (fun _ _ _ z => z) (fun _ _ _ z => z)
          cases hu : unJ Z.S p b
          · right
            refine ⟨s', ⟨q2, F2, fun q hq => ?_⟩, ?_⟩
            · rcases Nat.lt_or_ge q b with z | z
              · exact hn1 q z
              · rw [show q = b by omega, hu, Bool.and_false]
            · show F_X3_join_L30 n K (nI many) (nI N) m (nI p) (f + 1) (nI b) s k = _
              rw [hu] at q1
              rw [F_X3_join_L30, sh]
              simp only [chk_true, bnd_some, ob_some, oc_some, oc_none, hl_eq, jn_eq, ix_0, ix_1, if_true, if_false, inb0_2, inb1_2, not_true_eq_false, not_false_eq_true, ite_true, ite_false, true_or, or_true, or_self, zero_eq_one_I, one_eq_zero_I, e3, bc_eq, bc1, e5, ms_k0 MA1.1, q1, bI_0, nI_1]
          · left
            refine ⟨s', ?_, q2, F2⟩
            have fi : findS (fun b => decide (popN b = many) && unJ Z.S p b) (2 ^ N) 0 = some b := findS_is (by omega) (by omega) (by rw [hu, decide_eq_true cp]; rfl) (fun i _ hi => hn1 i hi)
            rw [fi]
            show F_X3_join_L30 n K (nI many) (nI N) m (nI p) (f + 1) (nI b) s k = some (nI b, s')
            rw [hu] at q1
            rw [F_X3_join_L30, sh]
            simp only [chk_true, bnd_some, ob_some, oc_some, oc_none, hl_eq, jn_eq, ix_0, ix_1, if_true, if_false, inb0_2, inb1_2, not_true_eq_false, not_false_eq_true, ite_true, ite_false, true_or, or_true, or_self, zero_eq_one_I, one_eq_zero_I, e3, bc_eq, bc1, e5, ms_k0 MA1.1, q1, bI_0, Bool.true_eq_false]
        · have e5 : (nI (popN b) = nI many) = False := eq_false (fun z => cp ((nI_eq (by omega) (by omega)).1 z))
          right
          refine ⟨s, ⟨MA1, F1, fun q hq => ?_⟩, ?_⟩
          · rcases Nat.lt_or_ge q b with z | z
            · exact hn1 q z
            · rw [show q = b by omega, decide_eq_false cp, Bool.false_and]
          · show F_X3_join_L30 n K (nI many) (nI N) m (nI p) (f + 1) (nI b) s k = _
            rw [F_X3_join_L30, sh]
            simp only [chk_true, bnd_some, ob_some, oc_some, oc_none, hl_eq, jn_eq, ix_0, ix_1, if_true, if_false, inb0_2, inb1_2, not_true_eq_false, not_false_eq_true, ite_true, ite_false, true_or, or_true, or_self, zero_eq_one_I, one_eq_zero_I, e3, bc_eq, bc1, e5, nI_1]
      · rintro f s ⟨MA1, F1, hn1⟩
        have e3 : (nI (2 ^ N) ≤ nI (2 ^ N)) = True := eq_true (nI_le (Nat.le_refl _) (by omega))
        refine ⟨s, ?_, MA1, F1⟩
        rw [findS_no (fun i _ hi => hn1 i (by omega))]
        show F_X3_join_L30 n K (nI many) (nI N) m (nI p) (f + 1) (nI (2 ^ N)) s k = k s
        rw [F_X3_join_L30, sh]
        simp only [e3, if_true]
    have outer : ∃ s r, F_X3_join_L22 n K (nI N) m (nI p) n 0 h = some (r, s) ∧ r = selS (findS (fun many => (findS (fun b => decide (popN b = many) && unJ Z.S p b) (2 ^ N) 0).isSome) (N + 1) 0) (fun many => selS (findS (fun b => decide (popN b = many) && unJ Z.S p b) (2 ^ N) 0) nI (-1)) (-1) ∧ Fr 0 0 (ScM m) h s := by
      refine loopU (fun f i (s : AH) => F_X3_join_L22 n K (nI N) m (nI p) f i s) (N + 1) (fun i s => MA m s Z.S ∧ Fr 0 0 (ScM m) h s ∧ ∀ q, q < i → (findS (fun b => decide (popN b = q) && unJ Z.S p b) (2 ^ N) 0).isSome = false) (fun o => ∃ s r, o = some (r, s) ∧ r = selS (findS (fun many => (findS (fun b => decide (popN b = many) && unJ Z.S p b) (2 ^ N) 0).isSome) (N + 1) 0) (fun many => selS (findS (fun b => decide (popN b = many) && unJ Z.S p b) (2 ^ N) 0) nI (-1)) (-1) ∧ Fr 0 0 (ScM m) h s) ?_ ?_ (N + 1) 0 h n (by omega) (by omega) ⟨M, Fr_refl h, fun q hq => absurd hq (Nat.not_lt_zero q)⟩
      · rintro f i s hi ⟨MA1, F1, hn1⟩
        obtain ⟨s', q1, q2, q3⟩ := inner i (by omega) s (fun h28 => F_X3_join_L22 n K (nI N) m (nI p) f (nI (i + 1)) h28) MA1 F1
        have e3 : (nI N < nI i) = False := eq_false (nI_nlt (by omega) (by omega))
        have st : F_X3_join_L22 n K (nI N) m (nI p) (f + 1) (nI i) s = selS (findS (fun b => decide (popN b = i) && unJ Z.S p b) (2 ^ N) 0) (fun b => some (nI b, s')) (F_X3_join_L22 n K (nI N) m (nI p) f (nI (i + 1)) s') := by
          rw [← q1, F_X3_join_L22]
          simp only [chk_true, bnd_some, ob_some, oc_some, oc_none, hl_eq, jn_eq, ix_0, ix_1, if_true, if_false, inb0_2, inb1_2, not_true_eq_false, not_false_eq_true, ite_true, ite_false, true_or, or_true, or_self, zero_eq_one_I, one_eq_zero_I, e3, nI_1]
        cases hf : findS (fun b => decide (popN b = i) && unJ Z.S p b) (2 ^ N) 0 with
        | none =>
          right
          refine ⟨s', ⟨q2, q3, fun q hq => ?_⟩, ?_⟩
          · rcases Nat.lt_or_ge q i with z | z
            · exact hn1 q z
            · rw [show q = i by omega, hf]; rfl
          · show F_X3_join_L22 n K (nI N) m (nI p) (f + 1) (nI i) s = _
            rw [st, hf]; rfl
        | some b =>
          left
          refine ⟨s', nI b, ?_, ?_, q3⟩
          · show F_X3_join_L22 n K (nI N) m (nI p) (f + 1) (nI i) s = _
            rw [st, hf]; rfl
          · have fi : findS (fun many => (findS (fun b => decide (popN b = many) && unJ Z.S p b) (2 ^ N) 0).isSome) (N + 1) 0 = some i := findS_is (by omega) (by omega) (by rw [hf]; rfl) (fun j _ hj => hn1 j hj)
            rw [fi]
            show nI b = selS (findS (fun b => decide (popN b = i) && unJ Z.S p b) (2 ^ N) 0) nI (-1)
            rw [hf]; rfl
      · rintro f s ⟨MA1, F1, hn1⟩
        have e3 : (nI N < nI (N + 1)) = True := eq_true (nI_lt (by omega) (by omega))
        refine ⟨s, -1, ?_, ?_, F1⟩
        · show F_X3_join_L22 n K (nI N) m (nI p) (f + 1) (nI (N + 1)) s = _
          rw [F_X3_join_L22]
          simp only [e3, if_true]
        · rw [findS_no (fun i _ hi => hn1 i (by omega))]; rfl
    obtain ⟨s, r, q1, q2, q3⟩ := outer
    rw [← q2]
    refine mok_scr bz I ?_ q3
    have z : (bI true = 0) = False := eq_false (by decide)
    simp only [F_X3_join, chk_true, bnd_some, ob_some, oc_some, oc_none, hl_eq, jn_eq, ix_0, ix_1, if_true, if_false, inb0_2, inb1_2, not_true_eq_false, not_false_eq_true, ite_true, ite_false, true_or, or_true, or_self, zero_eq_one_I, one_eq_zero_I, k0, ip, z, m_voters MS M.2.1, m9, q1]
