/-! PURE PART QU: the model's move -/
set_option maxRecDepth 100000
theorem ixl2 : ix (2 : Int32) = 2 := by decide
theorem ixl3 : ix (3 : Int32) = 3 := by decide
theorem ixl4 : ix (4 : Int32) = 4 := by decide
theorem ixl5 : ix (5 : Int32) = 5 := by decide
theorem ixl6 : ix (6 : Int32) = 6 := by decide
theorem ixl7 : ix (7 : Int32) = 7 := by decide
theorem ixl8 : ix (8 : Int32) = 8 := by decide
theorem ib90 : inb (0 : Int32) 9 = True := eq_true (by decide)
theorem ib91 : inb (1 : Int32) 9 = True := eq_true (by decide)
theorem ib92 : inb (2 : Int32) 9 = True := eq_true (by decide)
theorem ib93 : inb (3 : Int32) 9 = True := eq_true (by decide)
theorem ib94 : inb (4 : Int32) 9 = True := eq_true (by decide)
theorem ib95 : inb (5 : Int32) 9 = True := eq_true (by decide)
theorem ib96 : inb (6 : Int32) 9 = True := eq_true (by decide)
theorem ib97 : inb (7 : Int32) 9 = True := eq_true (by decide)
theorem ib98 : inb (8 : Int32) 9 = True := eq_true (by decide)
def row7 (f : Nat → Int32) (v a0 b0 p q u w : Int32) : Nat → Int32 := up1 (up1 (up1 (up1 (up1 (up1 (up1 f 0 v) 1 a0) 2 b0) 3 p) 4 q) 5 u) 7 w
theorem m_moveF {n : Nat} {K : Nat → Nat} {m : Nat} {h : AH} {S : St} (hn : 20000 < n) (M : MA m h S) {k : Nat} (hk : k < S.nv) {p q : Int32} (hpt : ptS p q = true) {nm : Nat} (h40 : nm < 40) (h48 : h.I m 48 = nI nm) {S' : St} {hp : AH} (hhp : (h.setI (m + 3) k p).setI (m + 6) k q = hp) (MP' : MA m hp S') (c3 : ¬ (S.V k 0 = p ∧ S.V k 1 = q)) : F_X3_move n K m (nI k) p q h = some (nI (nm + 1), ((hp.setI m 48 (nI (nm + 1))).setI m 29 0).ovI (m + 54 + nm) 9 (up1 (up1 (row7 (h.I (m + 54 + nm)) (nI k) (S.V k 0) (S.V k 1) p q (pairS S) (peaceS S)) 6 (pairS S')) 8 (peaceS S'))) := by
  have h15 := mnv hn M
  obtain ⟨g0, g1, g2, g3, g4, g5⟩ := M.2.1.2.2 k hk
  have e1 : ix (nI k) = k := ix_nI (by omega)
  have e2 : inb (nI k) 15 = True := eq_true ((inb_nI (by omega)).2 (by omega))
  have e3 : ix (nI nm) = nm := ix_nI (by omega)
  have e4 : inb (nI nm) 40 = True := eq_true ((inb_nI (by omega)).2 (by omega))
  have e40 : (nI nm = 40) = False := eq_false (fun z => by have := (nI_eq (b := 40) (by omega) (by omega)).1 z; omega)
  have hin : inS (nI k) 0 (nI S.nv - 1) = true := (inS_nI (by omega)).2 ⟨k, hk, rfl⟩
  obtain ⟨r1, r2, r3⟩ := ms_kept M.1 h40
  have tf : (true = false) = False := eq_false (by decide)
  have s0 : h.setI (m + 54 + nm) 0 (nI k) = h.ovI (m + 54 + nm) 9 (up1 (h.I (m + 54 + nm)) 0 (nI k)) := by
    rw [← ov_set (show 0 < 9 by omega), ov_self]
  have i3 : ∀ f, (h.ovI (m + 54 + nm) 9 f).I (m + 3) k = S.V k 0 := fun f => by rw [I_ov_ne (by omega)]; exact g0
  have i6 : ∀ f, (h.ovI (m + 54 + nm) 9 f).I (m + 6) k = S.V k 1 := fun f => by rw [I_ov_ne (by omega)]; exact g1
  have Ma := fun f => MA_ov M (a := m + 54 + nm) (by omega) 9 f
  have Mb := fun f => MA_ov MP' (a := m + 54 + nm) (by omega) 9 f
  have p48 : ∀ f, (hp.ovI (m + 54 + nm) 9 f).I m 48 = nI nm := fun f => by
    rw [I_ov_ne (by omega), ← hhp, AH.I_setI, if_neg (by omega), AH.I_setI, if_neg (by omega)]; exact h48
  have q48 : ∀ f, (((hp.setI m 48 (nI (nm + 1))).setI m 29 0).ovI (m + 54 + nm) 9 f).I m 48 = nI (nm + 1) := fun f => by
    rw [I_ov_ne (by omega), AH.I_setI, if_neg (by omega), AH.I_setI, if_pos ⟨rfl, rfl⟩]
  have k53 := ms_k53 M.1
  have n53 := ms_n53 M.1
  have MS' := MP'.1
  have r2' : hp.kind (m + 54 + nm) = 32 := (ms_kept MS' h40).2.1
  have r3' : hp.len (m + 54 + nm) = 9 := (ms_kept MS' h40).2.2
  have main : F_X3_move n K m (nI k) p q h = (if ¬ S.V k 0 = p then some (nI (nm + 1), ((hp.setI m 48 (nI (nm + 1))).setI m 29 0).ovI (m + 54 + nm) 9 (up1 (up1 (row7 (h.I (m + 54 + nm)) (nI k) (S.V k 0) (S.V k 1) p q (pairS S) (peaceS S)) 6 (pairS S')) 8 (peaceS S'))) else if S.V k 1 = q then some (-1, h) else some (nI (nm + 1), ((hp.setI m 48 (nI (nm + 1))).setI m 29 0).ovI (m + 54 + nm) 9 (up1 (up1 (row7 (h.I (m + 54 + nm)) (nI k) (S.V k 0) (S.V k 1) p q (pairS S) (peaceS S)) 6 (pairS S')) 8 (peaceS S')))) := by
    simp only [F_X3_move, chk_true, bnd_some, ob_some, oc_some, oc_none, hl_eq, jn_eq, ix_0, ix_1, if_true, if_false, inb0_2, inb1_2, not_true_eq_false, not_false_eq_true, ite_true, ite_false, true_or, or_true, or_self, zero_eq_one_I, one_eq_zero_I, AH.kind_ovI, AH.len_ovI, AH.R_ovI, AH.L_ovI, AH.n_ovI, AH.sl_ovI, XSh_ov, MSh_ov, AH.n_setI, AH.n_setL, AH.n_setR, AH.sl_setI, AH.sl_setL, AH.sl_setR, AH.kind_setI, AH.kind_setL, AH.kind_setR, AH.len_setI, AH.len_setL, AH.len_setR, AH.I_setL, AH.I_setR, AH.L_setI, AH.L_setR, AH.R_setI, AH.R_setL, ms_k0, ms_k1, ms_n1, ms_k2, ms_n2, ms_k3, ms_n3, ms_k4, ms_n4, ms_k5, ms_n5, ms_k6, ms_n6, ms_k7, ms_n7, ms_k8, ms_n8, ms_k9, ms_n9, ms_k10, ms_n10, ms_k11, ms_n11, ms_k12, ms_n12, ms_k13, ms_n13, ms_k14, ms_n14, ms_k15, ms_n15, ms_k16, ms_n16, ms_k17, ms_n17, ms_k18, ms_n18, ms_k19, ms_n19, ms_k20, ms_n20, ms_k21, ms_n21, ms_k22, ms_n22, ms_k23, ms_n23, ms_k24, ms_n24, ms_k25, ms_n25, ms_k26, ms_n26, ms_k27, ms_n27, ms_k28, ms_n28, ms_k29, ms_n29, ms_k30, ms_n30, ms_k31, ms_n31, ms_k32, ms_n32, ms_k33, ms_n33, ms_k34, ms_n34, ms_k35, ms_n35, ms_k36, ms_n36, ms_k37, ms_n37, ms_k38, ms_n38, ms_k39, ms_n39, ms_k40, ms_n40, ms_k41, ms_n41, ms_k50, ms_n50, ms_k51, ms_n51, ms_k52, ms_n52, ms_k53, ms_n53, ms_r0_0, ms_r0_6, ms_r2_0, ms_r2_1, ms_r0_7, ms_r5_0, ms_r5_1, ms_r0_8, ms_r8_0, ms_r8_1, ms_r0_9, ms_r11_0, ms_r11_1, ms_r0_10, ms_r14_0, ms_r14_1, ms_r0_11, ms_r17_0, ms_r17_1, ms_r0_12, ms_r20_0, ms_r20_1, ms_r0_13, ms_r23_0, ms_r23_1, ms_r0_14, ms_r0_15, ms_r0_16, ms_r0_17, ms_r0_18, ms_r0_23, ms_r0_24, ms_r0_25, ms_r0_26, ms_r0_30, ms_r0_31, ms_r0_32, ms_r0_35, ms_r0_36, ms_r0_39, ms_r0_40, ms_r0_41, ms_r0_42, ms_r0_43, ms_r0_47, M.1, m_isVoter M.1 M.2.1, hin, m_isPoint, hpt, bI_0, tf, e1, e2, e3, e4, e40, g0, g1, h48, k53, n53, r1, r2, r3, ixl2, ixl3, ixl4, ixl5, ixl6, ixl7, ixl8, ib90, ib91, ib92, ib93, ib94, ib95, ib96, ib97, ib98, s0, i3, i6, ov_set (show 1 < 9 by omega), ov_set (show 2 < 9 by omega), ov_set (show 3 < 9 by omega), ov_set (show 4 < 9 by omega), ov_set (show 5 < 9 by omega), ov_set (show 6 < 9 by omega), ov_set (show 7 < 9 by omega), ov_set (show 8 < 9 by omega), m_pairs hn (Ma _), m_peace hn (Ma _), set_ov (show m + 3 ≠ m + 54 + nm by omega), set_ov (show m + 6 ≠ m + 54 + nm by omega), set_ov (show m ≠ m + 54 + nm by omega), hhp, m_pairs hn (Mb _), m_peace hn (Mb _), p48, q48, nI_1, row7, r2', r3', MS']
  rw [main]
  by_cases z1 : S.V k 0 = p
  · by_cases z2 : S.V k 1 = q
    · exact absurd ⟨z1, z2⟩ c3
    · rw [if_neg (fun z => z z1), if_neg z2]
  · rw [if_pos z1]
