/-! PURE PART SK: lot() of the model -/
set_option maxRecDepth 100000
def GA (m : Nat) (g : AH) (S : St) : Prop := MA m g S ∧ GM m g S
theorem GA_ov {m : Nat} {g : AH} {S : St} (G : GA m g S) (f : Nat → Int64) : GA m (g.ovL (m + 50) 8 f) S := by
  have c8 := nc8 S
  refine ⟨MA_of G.1 rfl rfl rfl (fun _ _ _ => rfl), G.2.1, fun i j hi hj => ?_⟩
  rw [L_ov_ne (by omega)]
  exact G.2.2 i j hi hj
theorem m_is13 {n : Nat} {K : Nat → Nat} {m : Nat} {g : AH} {S : St} (hn : 20000 < n) (B : Bd S) (G : GA m g S) {b : Nat} (hb : b < 2 ^ ncS S) (f0 : Nat → Int64) (kk : Int32 → Int32 → Int64 → AH → Option (Int32 × AH)) : F_X3_isLot_L13 n K m (nI b) n 0 0 0 0 1 (g.ovL (m + 50) 8 f0) kk = kk (nI (psN S b 8)) (nI (mnN S b 8)) (lN (gcN S b 8)) (g.ovL (m + 50) 8 (fun j => Int64.ofInt (shZ S b j))) := by
  have c8 := nc8 S
  have p8 := pow8 c8
  have hb2 : b < 256 := by omega
  have H := G.1.1
  have key := loopU (fun f i (s : Int32 × Int32 × Int64 × Int32 × AH) => F_X3_isLot_L13 n K m (nI b) f i s.1 s.2.1 s.2.2.1 s.2.2.2.1 s.2.2.2.2 kk) 8 (fun k s => s = (nI (psN S b k), nI (mnN S b k), lN (gcN S b k), Int32.ofInt (sgB (negB b k)), g.ovL (m + 50) 8 (fun j => if j < k then Int64.ofInt (shZ S b j) else f0 j))) (fun o => o = kk (nI (psN S b 8)) (nI (mnN S b 8)) (lN (gcN S b 8)) (g.ovL (m + 50) 8 (fun j => Int64.ofInt (shZ S b j))))
    (by
      intro f k s hk hs
      right
      refine ⟨_, rfl, ?_⟩
      subst hs
      have e1 : ix (nI k) = k := ix_nI (by omega)
      have e2 : inb (nI k) 8 = True := eq_true ((inb_nI (by omega)).2 hk)
      have e3 : ((8 : Int32) ≤ nI k) = False := eq_false (nI_ge (b := 8) hk (by omega))
      have bt := bit_all b (by omega) k (by omega)
      obtain ⟨fk, hfk⟩ : ∃ fk : Nat → Int64, fk = fun j => if j < k then Int64.ofInt (shZ S b j) else f0 j := ⟨_, rfl⟩
      rw [← hfk]
      have e14 : (g.ovL (m + 50) 8 fk).setL (m + 50) k 0 = g.ovL (m + 50) 8 (up1 fk k 0) := ovL_set hk ..
      show F_X3_isLot_L13 n K m (nI b) (f + 1) (nI k) (nI (psN S b k)) (nI (mnN S b k)) (lN (gcN S b k)) (Int32.ofInt (sgB (negB b k))) (g.ovL (m + 50) 8 fk) kk = F_X3_isLot_L13 n K m (nI b) f (nI (k + 1)) (nI (psN S b (k + 1))) (nI (mnN S b (k + 1))) (lN (gcN S b (k + 1))) (Int32.ofInt (sgB (negB b (k + 1)))) (g.ovL (m + 50) 8 (fun j => if j < k + 1 then Int64.ofInt (shZ S b j) else f0 j)) kk
      have fin : ∀ v, v = Int64.ofInt (shZ S b k) → ∀ w, g.ovL (m + 50) 8 (up1 (up1 fk k w) k v) = g.ovL (m + 50) 8 (fun j => if j < k + 1 then Int64.ofInt (shZ S b j) else f0 j) := by
        intro v hv w
        refine ovL_congr (fun j hj => ?_)
        unfold up1
        by_cases z : j = k
        · rw [if_pos z, if_pos (by omega), hv, z]
        · rw [if_neg z, if_neg z, hfk]
          show (if j < k then Int64.ofInt (shZ S b j) else f0 j) = _
          by_cases z2 : j < k
          · rw [if_pos z2, if_pos (by omega)]
          · rw [if_neg z2, if_neg (by omega)]
      rw [show mnN S b (k + 1) = mnN S b k + if (b.testBit k && decide (shZ S b k < 0)) = true then 1 else 0 from rfl, show psN S b (k + 1) = psN S b k + if (b.testBit k && decide (0 < shZ S b k)) = true then 1 else 0 from rfl, neg_s, gc_s]
      cases ht : b.testBit k
      · rw [ht] at bt
        have bt' : ((nI b >>> (nI k &&& 31)) &&& (1 : Int32)) = 0 := bt
        have s0 : shZ S b k = 0 := by unfold shZ; rw [ht]; rfl
        have fin0 := fin 0 (by rw [s0]; rfl) 0
        rw [← fin0]
        have e15 : g.ovL (m + 50) 8 (up1 (up1 fk k 0) k 0) = g.ovL (m + 50) 8 (up1 fk k 0) := ovL_congr (fun j hj => by unfold up1; split <;> rfl)
        rw [e15]
        simp only [F_X3_isLot_L13, chk_true, bnd_some, ob_some, oc_some, oc_none, hl_eq, jn_eq, ix_0, ix_1, if_true, if_false, inb0_2, inb1_2, not_true_eq_false, not_false_eq_true, ite_true, ite_false, true_or, or_true, or_self, zero_eq_one_I, one_eq_zero_I, kind_ovL, len_ovL, R_ovL, ms_k0, ms_k1, ms_n1, ms_k2, ms_n2, ms_k3, ms_n3, ms_k4, ms_n4, ms_k5, ms_n5, ms_k6, ms_n6, ms_k7, ms_n7, ms_k8, ms_n8, ms_k9, ms_n9, ms_k10, ms_n10, ms_k11, ms_n11, ms_k12, ms_n12, ms_k13, ms_n13, ms_k14, ms_n14, ms_k15, ms_n15, ms_k16, ms_n16, ms_k17, ms_n17, ms_k18, ms_n18, ms_k19, ms_n19, ms_k20, ms_n20, ms_k21, ms_n21, ms_k22, ms_n22, ms_k23, ms_n23, ms_k24, ms_n24, ms_k25, ms_n25, ms_k26, ms_n26, ms_k27, ms_n27, ms_k28, ms_n28, ms_k29, ms_n29, ms_k30, ms_n30, ms_k31, ms_n31, ms_k32, ms_n32, ms_k33, ms_n33, ms_k34, ms_n34, ms_k35, ms_n35, ms_k36, ms_n36, ms_k37, ms_n37, ms_k38, ms_n38, ms_k39, ms_n39, ms_k40, ms_n40, ms_k41, ms_n41, ms_k50, ms_n50, ms_k51, ms_n51, ms_k52, ms_n52, ms_k53, ms_n53, ms_r0_0, ms_r0_6, ms_r2_0, ms_r2_1, ms_r0_7, ms_r5_0, ms_r5_1, ms_r0_8, ms_r8_0, ms_r8_1, ms_r0_9, ms_r11_0, ms_r11_1, ms_r0_10, ms_r14_0, ms_r14_1, ms_r0_11, ms_r17_0, ms_r17_1, ms_r0_12, ms_r20_0, ms_r20_1, ms_r0_13, ms_r23_0, ms_r23_1, ms_r0_14, ms_r0_15, ms_r0_16, ms_r0_17, ms_r0_18, ms_r0_23, ms_r0_24, ms_r0_25, ms_r0_26, ms_r0_30, ms_r0_31, ms_r0_32, ms_r0_35, ms_r0_36, ms_r0_39, ms_r0_40, ms_r0_41, ms_r0_42, ms_r0_43, ms_r0_47, H, e1, e2, e3, e14, bt', nI_1, Bool.false_and, Bool.false_eq_true, Nat.add_zero]
      · rw [ht] at bt
        have bt' : ((nI b >>> (nI k &&& 31)) &&& (1 : Int32)) = 1 := bt
        have cl := t8_clr b hb2 k hk
        have cp := t8_clr2 b hb2 k hk ht
        have cle := clr_le b k
        have pb := pop_le b (by omega) 8 (by omega) (by omega)
        have pr := m_coupled (K := K) hn (GA_ov G (up1 fk k 0)).2 8 (clrN b k) (by omega) (by omega)
        have hsh : Int64.ofInt (sgB (negB b k)) * Int64.ofInt (prZ (gnZ S) 8 (clrN b k)) = Int64.ofInt (shZ S b k) := by
          unfold shZ; rw [ht, if_pos rfl, l_pp]
        have e22 : (g.ovL (m + 50) 8 (up1 fk k 0)).setL (m + 50) k (Int64.ofInt (shZ S b k)) = g.ovL (m + 50) 8 (fun j => if j < k + 1 then Int64.ofInt (shZ S b j) else f0 j) := by
          rw [ovL_set hk]; exact fin _ rfl 0
        have L22 : (g.ovL (m + 50) 8 (fun j => if j < k + 1 then Int64.ofInt (shZ S b j) else f0 j)).L (m + 50) k = Int64.ofInt (shZ S b k) := by
          rw [L_ov_eq hk]; exact if_pos (by omega)
        obtain ⟨sm1, sm2⟩ := gc_sm B hb2 k
        have gc := m_gcd (n := n) (K := K) (h := g.ovL (m + 50) 8 (fun j => if j < k + 1 then Int64.ofInt (shZ S b j) else f0 j)) hn sm1 sm2
        rw [gc_step B hb2 k] at gc
        have so := sh_of B hb2 k
        have z0 : (0 : Int64).toInt = 0 := rfl
        simp only [F_X3_isLot_L13, chk_true, bnd_some, ob_some, oc_some, oc_none, hl_eq, jn_eq, ix_0, ix_1, if_true, if_false, inb0_2, inb1_2, not_true_eq_false, not_false_eq_true, ite_true, ite_false, true_or, or_true, or_self, zero_eq_one_I, one_eq_zero_I, kind_ovL, len_ovL, R_ovL, ms_k0, ms_k1, ms_n1, ms_k2, ms_n2, ms_k3, ms_n3, ms_k4, ms_n4, ms_k5, ms_n5, ms_k6, ms_n6, ms_k7, ms_n7, ms_k8, ms_n8, ms_k9, ms_n9, ms_k10, ms_n10, ms_k11, ms_n11, ms_k12, ms_n12, ms_k13, ms_n13, ms_k14, ms_n14, ms_k15, ms_n15, ms_k16, ms_n16, ms_k17, ms_n17, ms_k18, ms_n18, ms_k19, ms_n19, ms_k20, ms_n20, ms_k21, ms_n21, ms_k22, ms_n22, ms_k23, ms_n23, ms_k24, ms_n24, ms_k25, ms_n25, ms_k26, ms_n26, ms_k27, ms_n27, ms_k28, ms_n28, ms_k29, ms_n29, ms_k30, ms_n30, ms_k31, ms_n31, ms_k32, ms_n32, ms_k33, ms_n33, ms_k34, ms_n34, ms_k35, ms_n35, ms_k36, ms_n36, ms_k37, ms_n37, ms_k38, ms_n38, ms_k39, ms_n39, ms_k40, ms_n40, ms_k41, ms_n41, ms_k50, ms_n50, ms_k51, ms_n51, ms_k52, ms_n52, ms_k53, ms_n53, ms_r0_0, ms_r0_6, ms_r2_0, ms_r2_1, ms_r0_7, ms_r5_0, ms_r5_1, ms_r0_8, ms_r8_0, ms_r8_1, ms_r0_9, ms_r11_0, ms_r11_1, ms_r0_10, ms_r14_0, ms_r14_1, ms_r0_11, ms_r17_0, ms_r17_1, ms_r0_12, ms_r20_0, ms_r20_1, ms_r0_13, ms_r23_0, ms_r23_1, ms_r0_14, ms_r0_15, ms_r0_16, ms_r0_17, ms_r0_18, ms_r0_23, ms_r0_24, ms_r0_25, ms_r0_26, ms_r0_30, ms_r0_31, ms_r0_32, ms_r0_35, ms_r0_36, ms_r0_39, ms_r0_40, ms_r0_41, ms_r0_42, ms_r0_43, ms_r0_47, H, e1, e2, e3, e14, bt', cl, pr, sgB_l, hsh, e22, L22, c_le, c_ge0, so, z0, gc, sgB_negI, nI_1, Bool.true_and]
        rcases Int.lt_trichotomy (shZ S b k) 0 with z | z | z
        · have z1 : ¬ (0 < shZ S b k) := by omega
          simp [z, z1, nI_1]
        · simp [z]
        · have z1 : ¬ (shZ S b k < 0) := by omega
          simp [z, z1, nI_1])
    (by
      intro f s hs
      have e3 : ((8 : Int32) ≤ nI 8) = True := eq_true (by decide)
      subst hs
      simp only [F_X3_isLot_L13, chk_true, bnd_some, ob_some, oc_some, oc_none, hl_eq, jn_eq, ix_0, ix_1, if_true, if_false, inb0_2, inb1_2, not_true_eq_false, not_false_eq_true, ite_true, ite_false, true_or, or_true, or_self, zero_eq_one_I, one_eq_zero_I, e3]
      congr 1
      exact ovL_congr (fun j hj => if_pos hj))
  have e0 : g.ovL (m + 50) 8 f0 = g.ovL (m + 50) 8 (fun j => if j < 0 then Int64.ofInt (shZ S b j) else f0 j) := ovL_congr (fun j _ => (if_neg (by omega)).symm)
  rw [e0]
  exact key 8 0 _ n (by omega) (by omega) rfl
theorem l_neg {z : Int} (h : z.natAbs ≤ 1360488960000) : -(Int64.ofInt z) = Int64.ofInt (-z) := by
  apply l_ofT
  rw [Int64.toInt_neg, l_of (by omega) (by omega)]
  exact Int.bmod_eq_of_le (by omega) (by omega)
theorem m_is152 {n : Nat} {K : Nat → Nat} {m : Nat} {g : AH} {S : St} (hn : 20000 < n) (B : Bd S) (G : GA m g S) {b : Nat} (hb : b < 2 ^ ncS S) (hok : okB S b = true) (hg : 0 < gcN S b 8) (kk : AH → Option (Int32 × AH)) : F_X3_isLot_L152 n K (nI (mnN S b 8)) (lN (gcN S b 8)) m n 0 (g.ovL (m + 50) 8 (fun j => Int64.ofInt (shZ S b j))) kk = kk (g.ovL (m + 50) 8 (fnS S b)) := by
  have c8 := nc8 S
  have p8 := pow8 c8
  have hb2 : b < 256 := by omega
  have H := G.1.1
  have gb := gc_bd B hb2 8
  have pm : mnN S b 8 ≤ 8 := cn_le b (fun j => decide (shZ S b j < 0)) 8
  obtain ⟨sg1, sg2⟩ := mn_sign hb2 hok
  have key := loopU (fun f i (s : AH) => F_X3_isLot_L152 n K (nI (mnN S b 8)) (lN (gcN S b 8)) m f i s kk) 8 (fun k s => s = g.ovL (m + 50) 8 (fun j => if j < k then fnS S b j else Int64.ofInt (shZ S b j))) (fun o => o = kk (g.ovL (m + 50) 8 (fnS S b)))
    (by
      intro f k s hk hs
      right
      refine ⟨_, rfl, ?_⟩
      subst hs
      have e1 : ix (nI k) = k := ix_nI (by omega)
      have e2 : inb (nI k) 8 = True := eq_true ((inb_nI (by omega)).2 hk)
      have e3 : ((8 : Int32) ≤ nI k) = False := eq_false (nI_ge (b := 8) hk (by omega))
      have g0 : (lN (gcN S b 8) = 0) = False := (lN_eq0 (by omega)).trans (eq_false (by omega))
      have sb := sh_bd B hb2 k
      have so := sh_of B hb2 k
      have L1 : (g.ovL (m + 50) 8 (fun j => if j < k then fnS S b j else Int64.ofInt (shZ S b j))).L (m + 50) k = Int64.ofInt (shZ S b k) := by
        rw [L_ov_eq hk]; exact if_neg (by omega)
      have dv : lN (shZ S b k).natAbs / lN (gcN S b 8) = fnS S b k := pk_lDiv (by omega) hg (by omega)
      have st : (g.ovL (m + 50) 8 (fun j => if j < k then fnS S b j else Int64.ofInt (shZ S b j))).setL (m + 50) k (fnS S b k) = g.ovL (m + 50) 8 (fun j => if j < k + 1 then fnS S b j else Int64.ofInt (shZ S b j)) := by
        rw [ovL_set hk]
        refine ovL_congr (fun j hj => ?_)
        unfold up1
        by_cases z : j = k
        · rw [if_pos z, if_pos (by omega), z]
        · rw [if_neg z]
          show (if j < k then fnS S b j else Int64.ofInt (shZ S b j)) = _
          by_cases z2 : j < k
          · rw [if_pos z2, if_pos (by omega)]
          · rw [if_neg z2, if_neg (by omega)]
      rcases Nat.eq_zero_or_pos (mnN S b 8) with z | z
      · have zz : (nI (mnN S b 8) ≤ 0) = True := eq_true (by rw [z]; decide)
        have ab : Int64.ofInt (shZ S b k) = lN (shZ S b k).natAbs := by
          rw [of_lN (by omega)]
          congr 1
          have := sg1 z k hk
          omega
        simp only [F_X3_isLot_L152, chk_true, bnd_some, ob_some, oc_some, oc_none, hl_eq, jn_eq, ix_0, ix_1, if_true, if_false, inb0_2, inb1_2, not_true_eq_false, not_false_eq_true, ite_true, ite_false, true_or, or_true, or_self, zero_eq_one_I, one_eq_zero_I, kind_ovL, len_ovL, R_ovL, ms_k0, ms_k1, ms_n1, ms_k2, ms_n2, ms_k3, ms_n3, ms_k4, ms_n4, ms_k5, ms_n5, ms_k6, ms_n6, ms_k7, ms_n7, ms_k8, ms_n8, ms_k9, ms_n9, ms_k10, ms_n10, ms_k11, ms_n11, ms_k12, ms_n12, ms_k13, ms_n13, ms_k14, ms_n14, ms_k15, ms_n15, ms_k16, ms_n16, ms_k17, ms_n17, ms_k18, ms_n18, ms_k19, ms_n19, ms_k20, ms_n20, ms_k21, ms_n21, ms_k22, ms_n22, ms_k23, ms_n23, ms_k24, ms_n24, ms_k25, ms_n25, ms_k26, ms_n26, ms_k27, ms_n27, ms_k28, ms_n28, ms_k29, ms_n29, ms_k30, ms_n30, ms_k31, ms_n31, ms_k32, ms_n32, ms_k33, ms_n33, ms_k34, ms_n34, ms_k35, ms_n35, ms_k36, ms_n36, ms_k37, ms_n37, ms_k38, ms_n38, ms_k39, ms_n39, ms_k40, ms_n40, ms_k41, ms_n41, ms_k50, ms_n50, ms_k51, ms_n51, ms_k52, ms_n52, ms_k53, ms_n53, ms_r0_0, ms_r0_6, ms_r2_0, ms_r2_1, ms_r0_7, ms_r5_0, ms_r5_1, ms_r0_8, ms_r8_0, ms_r8_1, ms_r0_9, ms_r11_0, ms_r11_1, ms_r0_10, ms_r14_0, ms_r14_1, ms_r0_11, ms_r17_0, ms_r17_1, ms_r0_12, ms_r20_0, ms_r20_1, ms_r0_13, ms_r23_0, ms_r23_1, ms_r0_14, ms_r0_15, ms_r0_16, ms_r0_17, ms_r0_18, ms_r0_23, ms_r0_24, ms_r0_25, ms_r0_26, ms_r0_30, ms_r0_31, ms_r0_32, ms_r0_35, ms_r0_36, ms_r0_39, ms_r0_40, ms_r0_41, ms_r0_42, ms_r0_43, ms_r0_47, H, e1, e2, e3, g0, zz, L1, ab, dv, st, nI_1]
      · have zz : (nI (mnN S b 8) ≤ 0) = False := eq_false (nI_nle z (by omega))
        have ab : -(Int64.ofInt (shZ S b k)) = lN (shZ S b k).natAbs := by
          rw [l_neg sb, of_lN (by omega)]
          congr 1
          have := sg2 z k hk
          omega
        simp only [F_X3_isLot_L152, chk_true, bnd_some, ob_some, oc_some, oc_none, hl_eq, jn_eq, ix_0, ix_1, if_true, if_false, inb0_2, inb1_2, not_true_eq_false, not_false_eq_true, ite_true, ite_false, true_or, or_true, or_self, zero_eq_one_I, one_eq_zero_I, kind_ovL, len_ovL, R_ovL, ms_k0, ms_k1, ms_n1, ms_k2, ms_n2, ms_k3, ms_n3, ms_k4, ms_n4, ms_k5, ms_n5, ms_k6, ms_n6, ms_k7, ms_n7, ms_k8, ms_n8, ms_k9, ms_n9, ms_k10, ms_n10, ms_k11, ms_n11, ms_k12, ms_n12, ms_k13, ms_n13, ms_k14, ms_n14, ms_k15, ms_n15, ms_k16, ms_n16, ms_k17, ms_n17, ms_k18, ms_n18, ms_k19, ms_n19, ms_k20, ms_n20, ms_k21, ms_n21, ms_k22, ms_n22, ms_k23, ms_n23, ms_k24, ms_n24, ms_k25, ms_n25, ms_k26, ms_n26, ms_k27, ms_n27, ms_k28, ms_n28, ms_k29, ms_n29, ms_k30, ms_n30, ms_k31, ms_n31, ms_k32, ms_n32, ms_k33, ms_n33, ms_k34, ms_n34, ms_k35, ms_n35, ms_k36, ms_n36, ms_k37, ms_n37, ms_k38, ms_n38, ms_k39, ms_n39, ms_k40, ms_n40, ms_k41, ms_n41, ms_k50, ms_n50, ms_k51, ms_n51, ms_k52, ms_n52, ms_k53, ms_n53, ms_r0_0, ms_r0_6, ms_r2_0, ms_r2_1, ms_r0_7, ms_r5_0, ms_r5_1, ms_r0_8, ms_r8_0, ms_r8_1, ms_r0_9, ms_r11_0, ms_r11_1, ms_r0_10, ms_r14_0, ms_r14_1, ms_r0_11, ms_r17_0, ms_r17_1, ms_r0_12, ms_r20_0, ms_r20_1, ms_r0_13, ms_r23_0, ms_r23_1, ms_r0_14, ms_r0_15, ms_r0_16, ms_r0_17, ms_r0_18, ms_r0_23, ms_r0_24, ms_r0_25, ms_r0_26, ms_r0_30, ms_r0_31, ms_r0_32, ms_r0_35, ms_r0_36, ms_r0_39, ms_r0_40, ms_r0_41, ms_r0_42, ms_r0_43, ms_r0_47, H, e1, e2, e3, g0, zz, L1, ab, dv, st, nI_1])
    (by
      intro f s hs
      have e3 : ((8 : Int32) ≤ nI 8) = True := eq_true (by decide)
      subst hs
      simp only [F_X3_isLot_L152, chk_true, bnd_some, ob_some, oc_some, oc_none, hl_eq, jn_eq, ix_0, ix_1, if_true, if_false, inb0_2, inb1_2, not_true_eq_false, not_false_eq_true, ite_true, ite_false, true_or, or_true, or_self, zero_eq_one_I, one_eq_zero_I, e3]
      rw [ovL_congr (fun j hj => if_pos hj)])
  have e0 : g.ovL (m + 50) 8 (fun j => Int64.ofInt (shZ S b j)) = g.ovL (m + 50) 8 (fun j => if j < 0 then fnS S b j else Int64.ofInt (shZ S b j)) := ovL_congr (fun j _ => (if_neg (by omega)).symm)
  rw [e0]
  exact key 8 0 _ n (by omega) (by omega) rfl
theorem m_isLot {n : Nat} {K : Nat → Nat} {m : Nat} {g : AH} {S : St} (hn : 20000 < n) (B : Bd S) (G : GA m g S) {b : Nat} (hb : b < 2 ^ ncS S) (b0 : 0 < b) (f0 : Nat → Int64) : ∃ f, F_X3_isLot n K m (nI b) (g.ovL (m + 50) 8 f0) = some (bI (lotB S b), g.ovL (m + 50) 8 f) ∧ (lotB S b = true → f = fnS S b) := by
  have c8 := nc8 S
  have p8 := pow8 c8
  have hb2 : b < 256 := by omega
  have bc := bc_pop b (by omega)
  have pl := pop_le b (by omega) 8 (by omega) (by omega)
  have pm := cn_le b (fun j => decide (shZ S b j < 0)) 8
  have pp := cn_le b (fun j => decide (0 < shZ S b j)) 8
  have q1 : (nI (psN S b 8) = nI (popN b)) = (psN S b 8 = popN b) := propext (nI_eq (by show cnN b _ 8 < _; omega) (by omega))
  have q2 : (nI (mnN S b 8) = nI (popN b)) = (mnN S b 8 = popN b) := propext (nI_eq (by show cnN b _ 8 < _; omega) (by omega))
  have GF := GA_ov G (fnS S b)
  have H := GF.1.1
  have k0 := ms_k0 H
  have ch := m_chosen (n := n) (K := K) hn GF.1
  have hs : F_X3_isLot n K m (nI b) (g.ovL (m + 50) 8 f0) = if okB S b = true then F_X3_isLot_L200 n K m n 0 (g.ovL (m + 50) 8 (fnS S b)) else some (0, g.ovL (m + 50) 8 (fun j => Int64.ofInt (shZ S b j))) := by
    unfold F_X3_isLot
    rw [m_is13 hn B G hb]
    simp only [bnd_some, bc_eq, bc, jn_eq, q1, q2]
    by_cases c : okB S b = true
    · rw [if_pos c, m_is152 hn B G hb c (ok_gc hb2 b0 c)]
      unfold okB at c
      rw [Bool.or_eq_true, decide_eq_true_iff, decide_eq_true_iff] at c
      by_cases c1 : psN S b 8 = popN b
      · rw [if_pos c1]
      · rw [if_neg c1, if_pos (c.resolve_left c1)]
    · rw [if_neg c]
      unfold okB at c
      rw [Bool.or_eq_true, decide_eq_true_iff, decide_eq_true_iff] at c
      rw [if_neg (fun z => c (Or.inl z)), if_neg (fun z => c (Or.inr z))]
  unfold lotB
  cases hok : okB S b
  · refine ⟨fun j => Int64.ofInt (shZ S b j), ?_, fun z => absurd z (by simp)⟩
    rw [hok] at hs
    rw [hs]; rfl
  · refine ⟨fnS S b, ?_, fun _ => rfl⟩
    rw [hok] at hs
    rw [hs, if_pos rfl, Bool.true_and]
    have inner : ∀ i, i < ncS S → ∀ k, F_X3_isLot_L215 n K (nI i) m n 0 0 (g.ovL (m + 50) 8 (fnS S b)) k = k (lsS S b i) (g.ovL (m + 50) 8 (fnS S b)) := by
      intro i hi k
      obtain ⟨r1, r2, r3⟩ := ms_row H (i := i) (by omega)
      have e1 : ix (nI i) = i := ix_nI (by omega)
      have e2 : inb (nI i) 8 = True := eq_true ((inb_nI (by omega)).2 (by omega))
      exact loopF (fun f j (a : Int64) => F_X3_isLot_L215 n K (nI i) m f j a (g.ovL (m + 50) 8 (fnS S b)) k) (ncS S) (fun j a => a + fnS S b j * Int64.ofInt (gnZ S i j)) (fun a => k a (g.ovL (m + 50) 8 (fnS S b))) 0
        (by
          intro f j a hj
          have e3 : (nI (ncS S) ≤ nI j) = False := eq_false (nI_ge hj (by omega))
          have e4 : ix (nI j) = j := ix_nI (by omega)
          have e5 : inb (nI j) 8 = True := eq_true ((inb_nI (by omega)).2 (by omega))
          have L1 : (g.ovL (m + 50) 8 (fnS S b)).L (m + 50) j = fnS S b j := L_ov_eq (by omega) ..
          have gv := GF.2.2 i j hi hj
          simp only [F_X3_isLot_L215, chk_true, bnd_some, ob_some, oc_some, oc_none, hl_eq, jn_eq, ix_0, ix_1, if_true, if_false, inb0_2, inb1_2, not_true_eq_false, not_false_eq_true, ite_true, ite_false, true_or, or_true, or_self, zero_eq_one_I, one_eq_zero_I, ms_k0, ms_k1, ms_n1, ms_k2, ms_n2, ms_k3, ms_n3, ms_k4, ms_n4, ms_k5, ms_n5, ms_k6, ms_n6, ms_k7, ms_n7, ms_k8, ms_n8, ms_k9, ms_n9, ms_k10, ms_n10, ms_k11, ms_n11, ms_k12, ms_n12, ms_k13, ms_n13, ms_k14, ms_n14, ms_k15, ms_n15, ms_k16, ms_n16, ms_k17, ms_n17, ms_k18, ms_n18, ms_k19, ms_n19, ms_k20, ms_n20, ms_k21, ms_n21, ms_k22, ms_n22, ms_k23, ms_n23, ms_k24, ms_n24, ms_k25, ms_n25, ms_k26, ms_n26, ms_k27, ms_n27, ms_k28, ms_n28, ms_k29, ms_n29, ms_k30, ms_n30, ms_k31, ms_n31, ms_k32, ms_n32, ms_k33, ms_n33, ms_k34, ms_n34, ms_k35, ms_n35, ms_k36, ms_n36, ms_k37, ms_n37, ms_k38, ms_n38, ms_k39, ms_n39, ms_k40, ms_n40, ms_k41, ms_n41, ms_k50, ms_n50, ms_k51, ms_n51, ms_k52, ms_n52, ms_k53, ms_n53, ms_r0_0, ms_r0_6, ms_r2_0, ms_r2_1, ms_r0_7, ms_r5_0, ms_r5_1, ms_r0_8, ms_r8_0, ms_r8_1, ms_r0_9, ms_r11_0, ms_r11_1, ms_r0_10, ms_r14_0, ms_r14_1, ms_r0_11, ms_r17_0, ms_r17_1, ms_r0_12, ms_r20_0, ms_r20_1, ms_r0_13, ms_r23_0, ms_r23_1, ms_r0_14, ms_r0_15, ms_r0_16, ms_r0_17, ms_r0_18, ms_r0_23, ms_r0_24, ms_r0_25, ms_r0_26, ms_r0_30, ms_r0_31, ms_r0_32, ms_r0_35, ms_r0_36, ms_r0_39, ms_r0_40, ms_r0_41, ms_r0_42, ms_r0_43, ms_r0_47, H, k0, ch, e1, e2, e3, e4, e5, r1, r2, r3, L1, gv, nI_1, Int64.mul_comm (Int64.ofInt (gnZ S i j))])
        (by
          intro f a
          have e3 : (nI (ncS S) ≤ nI (ncS S)) = True := eq_true (nI_le (Nat.le_refl _) (by omega))
          simp only [F_X3_isLot_L215, chk_true, bnd_some, ob_some, oc_some, oc_none, hl_eq, jn_eq, ix_0, ix_1, if_true, if_false, inb0_2, inb1_2, not_true_eq_false, not_false_eq_true, ite_true, ite_false, true_or, or_true, or_self, zero_eq_one_I, one_eq_zero_I, k0, ch, e3]) n (by omega)
    have key := loopG (fun f i => F_X3_isLot_L200 n K m f i (g.ovL (m + 50) 8 (fnS S b))) (ncS S) (fun i => decide (0 < lsS S b i)) (fun _ => some (0, g.ovL (m + 50) 8 (fnS S b))) (some (1, g.ovL (m + 50) 8 (fnS S b)))
      (by
        intro f i hi
        have e3 : (nI (ncS S) ≤ nI i) = False := eq_false (nI_ge hi (by omega))
        have cl : (lg_cmp (lsS S b i) 0 ≤ 0) = ¬ (0 < lsS S b i) := by
          rw [c_le, Int64.lt_iff_toInt_lt]
        simp only [F_X3_isLot_L200, chk_true, bnd_some, ob_some, oc_some, oc_none, hl_eq, jn_eq, ix_0, ix_1, if_true, if_false, inb0_2, inb1_2, not_true_eq_false, not_false_eq_true, ite_true, ite_false, true_or, or_true, or_self, zero_eq_one_I, one_eq_zero_I, k0, ch, e3, inner i hi, cl, nI_1]
        by_cases c : 0 < lsS S b i
        · simp [c]
        · simp [c])
      (by
        intro f
        have e3 : (nI (ncS S) ≤ nI (ncS S)) = True := eq_true (nI_le (Nat.le_refl _) (by omega))
        simp only [F_X3_isLot_L200, chk_true, bnd_some, ob_some, oc_some, oc_none, hl_eq, jn_eq, ix_0, ix_1, if_true, if_false, inb0_2, inb1_2, not_true_eq_false, not_false_eq_true, ite_true, ite_false, true_or, or_true, or_self, zero_eq_one_I, one_eq_zero_I, k0, ch, e3]) n (by omega)
    refine key.trans ?_
    cases findS (fun i => decide (0 < lsS S b i)) (ncS S) 0 <;> rfl
theorem m_fl59 {n : Nat} {K : Nat → Nat} {m : Nat} {g : AH} {S : St} (hn : 20000 < n) (B : Bd S) (G : GA m g S) {many : Nat} (hm : many < 100) (f0 : Nat → Int64) (k : AH → Option (Int32 × AH)) : ∃ f, F_X3_findsLots_L59 n K (nI many) m n 1 (g.ovL (m + 50) 8 f0) k = selS (loI S many) (fun b => some (1, g.ovL (m + 50) 8 (fnS S b))) (k (g.ovL (m + 50) 8 f)) := by
  have c8 := nc8 S
  have p8 := pow8 c8
  have p1 : 0 < 2 ^ ncS S := Nat.pow_pos (by omega)
  have sh := shl_all (ncS S) (by omega)
  have ch : ∀ f, F_X3_chosen n K m (g.ovL (m + 50) 8 f) = some (nI (ncS S), g.ovL (m + 50) 8 f) := fun f => m_chosen hn (GA_ov G f).1
  have k0 := ms_k0 G.1.1
  refine loopU (fun q i (f : Nat → Int64) => F_X3_findsLots_L59 n K (nI many) m q i (g.ovL (m + 50) 8 f) k) (2 ^ ncS S) (fun b _ => 1 ≤ b ∧ ∀ q, 1 ≤ q → q < b → (decide (popN q = many) && lotB S q) = false) (fun o => ∃ f, o = selS (loI S many) (fun b => some (1, g.ovL (m + 50) 8 (fnS S b))) (k (g.ovL (m + 50) 8 f))) ?_ ?_ (2 ^ ncS S - 1) 1 f0 n (by omega) (by omega) ⟨Nat.le_refl _, fun q h1 h2 => by omega⟩
  · rintro q b f hb ⟨hb1, hn1⟩
    have e3 : (nI (2 ^ ncS S) ≤ nI b) = False := eq_false (nI_ge hb (by omega))
    have bc1 := bc_pop b (by omega)
    have pl1 := pop_le b (by omega) 9 (by omega) (by omega)
    by_cases cp : popN b = many
    · have e5 : (nI (popN b) = nI many) = True := eq_true (by rw [cp])
      obtain ⟨f', q1, q2⟩ := m_isLot (K := K) hn B G hb (by omega) f
      cases hu : lotB S b
      · right
        refine ⟨f', ⟨by omega, fun i h1 h2 => ?_⟩, ?_⟩
        · rcases Nat.lt_or_ge i b with z | z
          · exact hn1 i h1 z
          · rw [show i = b by omega, hu, Bool.and_false]
        · show F_X3_findsLots_L59 n K (nI many) m (q + 1) (nI b) (g.ovL (m + 50) 8 f) k = _
          rw [hu] at q1
          rw [F_X3_findsLots_L59]
          simp only [chk_true, bnd_some, ob_some, oc_some, oc_none, hl_eq, jn_eq, ix_0, ix_1, if_true, if_false, inb0_2, inb1_2, not_true_eq_false, not_false_eq_true, ite_true, ite_false, true_or, or_true, or_self, zero_eq_one_I, one_eq_zero_I, ch, sh, e3, bc_eq, bc1, e5, kind_ovL, k0, q1, bI_0, nI_1]
      · left
        refine ⟨f', ?_⟩
        have fi : loI S many = some b := findS_is hb1 (by omega) (by rw [hu, decide_eq_true cp]; rfl) (fun i h1 h2 => hn1 i h1 h2)
        rw [fi]
        show F_X3_findsLots_L59 n K (nI many) m (q + 1) (nI b) (g.ovL (m + 50) 8 f) k = some (1, g.ovL (m + 50) 8 (fnS S b))
        rw [hu, q2 hu] at q1
        rw [F_X3_findsLots_L59]
        simp only [chk_true, bnd_some, ob_some, oc_some, oc_none, hl_eq, jn_eq, ix_0, ix_1, if_true, if_false, inb0_2, inb1_2, not_true_eq_false, not_false_eq_true, ite_true, ite_false, true_or, or_true, or_self, zero_eq_one_I, one_eq_zero_I, ch, sh, e3, bc_eq, bc1, e5, kind_ovL, k0, q1, bI_0, Bool.true_eq_false]
    · have e5 : (nI (popN b) = nI many) = False := eq_false (fun z => cp ((nI_eq (by omega) (by omega)).1 z))
      right
      refine ⟨f, ⟨by omega, fun i h1 h2 => ?_⟩, ?_⟩
      · rcases Nat.lt_or_ge i b with z | z
        · exact hn1 i h1 z
        · rw [show i = b by omega, decide_eq_false cp, Bool.false_and]
      · show F_X3_findsLots_L59 n K (nI many) m (q + 1) (nI b) (g.ovL (m + 50) 8 f) k = _
        rw [F_X3_findsLots_L59]
        simp only [chk_true, bnd_some, ob_some, oc_some, oc_none, hl_eq, jn_eq, ix_0, ix_1, if_true, if_false, inb0_2, inb1_2, not_true_eq_false, not_false_eq_true, ite_true, ite_false, true_or, or_true, or_self, zero_eq_one_I, one_eq_zero_I, ch, sh, e3, bc_eq, bc1, e5, kind_ovL, k0, nI_1]
  · rintro q f ⟨hb1, hn1⟩
    have e3 : (nI (2 ^ ncS S) ≤ nI (2 ^ ncS S)) = True := eq_true (nI_le (Nat.le_refl _) (by omega))
    refine ⟨f, ?_⟩
    have fi : loI S many = none := findS_no (fun i h1 h2 => hn1 i h1 (by omega))
    rw [fi]
    show F_X3_findsLots_L59 n K (nI many) m (q + 1) (nI (2 ^ ncS S)) (g.ovL (m + 50) 8 f) k = k (g.ovL (m + 50) 8 f)
    rw [F_X3_findsLots_L59]
    simp only [chk_true, bnd_some, ob_some, oc_some, oc_none, hl_eq, jn_eq, ix_0, ix_1, if_true, if_false, inb0_2, inb1_2, not_true_eq_false, not_false_eq_true, ite_true, ite_false, true_or, or_true, or_self, zero_eq_one_I, one_eq_zero_I, ch, sh, e3, kind_ovL, k0]
theorem m_fl49 {n : Nat} {K : Nat → Nat} {m : Nat} {g : AH} {S : St} (hn : 20000 < n) (B : Bd S) (G : GA m g S) (f0 : Nat → Int64) : ∃ f, F_X3_findsLots_L49 n K m n 1 (g.ovL (m + 50) 8 f0) = selS (loS S) (fun b => some (1, g.ovL (m + 50) 8 (fnS S b))) (some (0, g.ovL (m + 50) 8 f)) := by
  have c8 := nc8 S
  have ch : ∀ f, F_X3_chosen n K m (g.ovL (m + 50) 8 f) = some (nI (ncS S), g.ovL (m + 50) 8 f) := fun f => m_chosen hn (GA_ov G f).1
  have k0 := ms_k0 G.1.1
  refine loopU (fun q i (f : Nat → Int64) => F_X3_findsLots_L49 n K m q (i + i + 1) (g.ovL (m + 50) 8 f)) ((ncS S + 1) / 2) (fun t _ => ∀ q, q < t → (loI S (2 * q + 1)).isSome = false) (fun o => ∃ f, o = selS (loS S) (fun b => some (1, g.ovL (m + 50) 8 (fnS S b))) (some (0, g.ovL (m + 50) 8 f))) ?_ ?_ ((ncS S + 1) / 2) 0 f0 n (by omega) (by omega) (fun q hq => absurd hq (Nat.not_lt_zero q))
  · intro q t f ht hn1
    have e3 : (nI (ncS S) < nI (2 * t + 1)) = False := eq_false (nI_nlt (by omega) (by omega))
    obtain ⟨f', q1⟩ := m_fl59 (K := K) hn B G (many := 2 * t + 1) (by omega) f (fun h51 => F_X3_findsLots_L49 n K m q (nI (2 * (t + 1) + 1)) h51)
    have st : F_X3_findsLots_L49 n K m (q + 1) (nI (2 * t + 1)) (g.ovL (m + 50) 8 f) = selS (loI S (2 * t + 1)) (fun b => some (1, g.ovL (m + 50) 8 (fnS S b))) (F_X3_findsLots_L49 n K m q (nI (2 * (t + 1) + 1)) (g.ovL (m + 50) 8 f')) := by
      rw [← q1, F_X3_findsLots_L49]
      simp only [chk_true, bnd_some, ob_some, oc_some, oc_none, hl_eq, jn_eq, ix_0, ix_1, if_true, if_false, inb0_2, inb1_2, not_true_eq_false, not_false_eq_true, ite_true, ite_false, true_or, or_true, or_self, zero_eq_one_I, one_eq_zero_I, ch, kind_ovL, k0, e3, dbl2]
    cases hl : loI S (2 * t + 1) with
    | none =>
      right
      refine ⟨f', fun i hi => ?_, ?_⟩
      · rcases Nat.lt_or_ge i t with z | z
        · exact hn1 i z
        · rw [show i = t by omega, hl]; rfl
      · show F_X3_findsLots_L49 n K m (q + 1) (nI t + nI t + 1) (g.ovL (m + 50) 8 f) = F_X3_findsLots_L49 n K m q (nI (t + 1) + nI (t + 1) + 1) (g.ovL (m + 50) 8 f')
        rw [dbl, dbl, st, hl]; rfl
    | some b =>
      left
      refine ⟨f', ?_⟩
      have fi : loT S = some t := findS_is (by omega) (by omega) (by rw [hl]; rfl) (fun i _ hi => hn1 i hi)
      have fs : loS S = some b := by
        unfold loS; rw [fi]; exact hl
      rw [fs]
      show F_X3_findsLots_L49 n K m (q + 1) (nI t + nI t + 1) (g.ovL (m + 50) 8 f) = some (1, g.ovL (m + 50) 8 (fnS S b))
      rw [dbl, st, hl]; rfl
  · intro q f hn1
    have e3 : (nI (ncS S) < nI (2 * ((ncS S + 1) / 2) + 1)) = True := eq_true (nI_lt (by omega) (by omega))
    refine ⟨f, ?_⟩
    have fi : loT S = none := findS_no (fun i _ hi => hn1 i (by omega))
    have fs : loS S = none := by unfold loS; rw [fi]; rfl
    rw [fs]
    show F_X3_findsLots_L49 n K m (q + 1) (nI ((ncS S + 1) / 2) + nI ((ncS S + 1) / 2) + 1) (g.ovL (m + 50) 8 f) = some (0, g.ovL (m + 50) 8 f)
    rw [dbl, F_X3_findsLots_L49]
    simp only [chk_true, bnd_some, ob_some, oc_some, oc_none, hl_eq, jn_eq, ix_0, ix_1, if_true, if_false, inb0_2, inb1_2, not_true_eq_false, not_false_eq_true, ite_true, ite_false, true_or, or_true, or_self, zero_eq_one_I, one_eq_zero_I, ch, kind_ovL, k0, e3]
