/-! PURE PART RS: whether a spot is a middle, the sheet's -/
set_option maxRecDepth 100000
theorem XA_ar {K : Nat → Nat} {x : Nat} {h : AH} {ev ep b : Nat} {Ev Ep : Nat → Nat} {S : St} (X : XA K x h ev Ev ep Ep b S) (w : Nat → Int32) : XA K x (h.ovI (x + 12) 4 w) ev Ev ep Ep b S := by
  have k12 := xs_k12 X.1
  refine XA_of X rfl rfl rfl (fun a h1 h2 _ => ?_) ?_
  · exact I_ov_ne (by intro z; rw [z] at h1 h2; omega)
  · rw [I_ov_ne (by omega)]
theorem x_isMid91 {n : Nat} {K : Nat → Nat} {x : Nat} {h : AH} (hn : 20000 < n) (H : XSh x h) (y1 y2 : Int64) (y3 : Int32) (y4 : Option Nat) (k : AH → Option (Int32 × AH)) : F_X0_isMiddle_L91 n K (some (x + 12)) y1 y2 y3 x y4 n 0 h k = k (h.ovI (x + 12) 4 (fun _ => 0)) := by
  have k12 := xs_k12 H
  have n12 := xs_n12 H
  have key := loopU (fun f i (s : AH) => F_X0_isMiddle_L91 n K (some (x + 12)) y1 y2 y3 x y4 f i s k) 4 (fun q s => s = h.ovI (x + 12) 4 (fun j => if j < q then 0 else h.I (x + 12) j)) (fun o => o = k (h.ovI (x + 12) 4 (fun _ => 0)))
    (by
      intro f q s hq hs
      right
      refine ⟨s.setI (x + 12) q 0, ?_, ?_⟩
      · subst hs
        rw [ov_set hq]
        refine ov_congr (fun j hj => ?_)
        unfold up1
        by_cases c : j = q
        · rw [if_pos c, if_pos (by omega)]
        · rw [if_neg c]
          show (if j < q then (0 : Int32) else h.I (x + 12) j) = _
          by_cases c2 : j < q
          · rw [if_pos c2, if_pos (by omega)]
          · rw [if_neg c2, if_neg (by omega)]
      · have e1 : ix (nI q) = q := ix_nI (by omega)
        have e2 : inb (nI q) 4 = True := eq_true ((inb_nI (by omega)).2 (by omega))
        have e3 : ((4 : Int32) ≤ nI q) = False := eq_false (nI_ge (b := 4) hq (by omega))
        subst hs
        simp only [F_X0_isMiddle_L91, chk_true, bnd_some, ob_some, oc_some, oc_none, hl_eq, jn_eq, ix_0, ix_1, if_true, if_false, inb0_2, inb1_2, not_true_eq_false, not_false_eq_true, ite_true, ite_false, true_or, or_true, or_self, zero_eq_one_I, one_eq_zero_I, AH.kind_ovI, AH.len_ovI, AH.R_ovI, AH.L_ovI, AH.n_ovI, AH.sl_ovI, XSh_ov, MSh_ov, k12, n12, e1, e2, e3, nI_1])
    (by
      intro f s hs
      have e3 : ((4 : Int32) ≤ nI 4) = True := eq_true (by decide)
      subst hs
      simp only [F_X0_isMiddle_L91, chk_true, bnd_some, ob_some, oc_some, oc_none, hl_eq, jn_eq, ix_0, ix_1, if_true, if_false, inb0_2, inb1_2, not_true_eq_false, not_false_eq_true, ite_true, ite_false, true_or, or_true, or_self, zero_eq_one_I, one_eq_zero_I, e3]
      congr 1
      exact ov_congr (fun j hj => if_pos hj))
  refine key 4 0 h n (by omega) (by omega) ?_
  rw [show (fun j => if j < 0 then (0 : Int32) else h.I (x + 12) j) = h.I (x + 12) from funext fun j => if_neg (by omega), ov_self]
theorem x_isMid112 {n : Nat} {K : Nat → Nat} {x : Nat} {h : AH} {ev ep b : Nat} {Ev Ep : Nat → Nat} {S : St} (hn : 20000 < n) (X : XA K x h ev Ev ep Ep b S) (B : Bd S) {t : T3} (bt : SB t) {d : Nat} (hd : h.kind d = 13) (d0 : h.L d 0 = Int64.ofInt t.1) (d1 : h.L d 1 = Int64.ofInt t.2.1) (d2 : h.L d 2 = Int64.ofInt t.2.2) {k : Nat} (hk : k < S.nv) (y3 : Int32) (kk : AH → Option (Int32 × AH)) : F_X0_isMiddle_L112 n K (some (x + 12)) (Int64.ofInt (dY S t k)) (Int64.ofInt (dX S t k)) y3 x (some d) n 0 (h.ovI (x + 12) 4 (fun _ => 0)) kk = kk (h.ovI (x + 12) 4 (fun j => arW S t k j S.nv)) := by
  have h15 := xnv hn X
  have k12 := xs_k12 X.1
  have n12 := xs_n12 X.1
  have key := loopU (fun f i (s : AH) => F_X0_isMiddle_L112 n K (some (x + 12)) (Int64.ofInt (dY S t k)) (Int64.ofInt (dX S t k)) y3 x (some d) f i s kk) S.nv (fun u s => s = h.ovI (x + 12) 4 (fun j => arW S t k j u)) (fun o => o = kk (h.ovI (x + 12) 4 (fun j => arW S t k j S.nv)))
    (by
      intro f u s hu hs
      have XO := XA_ar X (fun j => arW S t k j u)
      have HO := XO.1
      have e3 : (nI S.nv ≤ nI u) = False := eq_false (nI_ge hu (by omega))
      obtain ⟨gk, g3, g0, g1, g2, g4, g5⟩ := XO.2.1.2.2 u hu
      have gk' : (7 ≤ h.kind (Ev u) ∧ h.kind (Ev u) ≤ 10) = True := eq_true gk
      have x1 : (S.V u 0).toInt64 * Int64.ofInt t.2.2 - Int64.ofInt t.1 = Int64.ofInt (dX S t u) := by
        rw [V_l, l_pp, l_mm]; rfl
      have x2 : (S.V u 1).toInt64 * Int64.ofInt t.2.2 - Int64.ofInt t.2.1 = Int64.ofInt (dY S t u) := by
        rw [V_l, l_pp, l_mm]; rfl
      have x3 : Int64.ofInt (dX S t k) * Int64.ofInt (dY S t u) - Int64.ofInt (dY S t k) * Int64.ofInt (dX S t u) = Int64.ofInt (sdS S t k u) := by
        rw [l_pp, l_pp, l_mm]; rfl
      have x4 : Int64.ofInt (dX S t k) * Int64.ofInt (dX S t u) + Int64.ofInt (dY S t k) * Int64.ofInt (dY S t u) = Int64.ofInt (ryS S t k u) := by
        rw [l_pp, l_pp, l_aa]; rfl
      obtain ⟨s1, s2⟩ := sd_of B bt hk hu
      have i2 : inb (2 : Int32) 4 = True := eq_true (by decide)
      have i3 : inb (3 : Int32) 4 = True := eq_true (by decide)
      have i0 : inb (0 : Int32) 4 = True := eq_true (by decide)
      have i1 : inb (1 : Int32) 4 = True := eq_true (by decide)
      have j2 : ix (2 : Int32) = 2 := by decide
      have j3 : ix (3 : Int32) = 3 := by decide
      have set1 : ∀ q, q < 4 → (h.ovI (x + 12) 4 (fun j => arW S t k j u)).setI (x + 12) q ((h.ovI (x + 12) 4 (fun j => arW S t k j u)).I (x + 12) q + S.V u 2) = h.ovI (x + 12) 4 (up1 (fun j => arW S t k j u) q (arW S t k q u + S.V u 2)) := by
        intro q hq
        rw [I_ov_eq hq, ov_set hq]
      right
      subst hs
      rcases Int.lt_trichotomy (sdS S t k u) 0 with z | z | z
      · have z1 : ¬ (0 < sdS S t k u) := by omega
        have z2 : ¬ (sdS S t k u = 0) := by omega
        refine ⟨h.ovI (x + 12) 4 (up1 (fun j => arW S t k j u) 0 (arW S t k 0 u + S.V u 2)), ov_congr (fun j hj => ?_), ?_⟩
        · unfold up1
          have : j = 0 ∨ j = 1 ∨ j = 2 ∨ j = 3 := by omega
          rcases this with rfl | rfl | rfl | rfl <;> simp [arW_s, z, z1, z2]
        · simp only [F_X0_isMiddle_L112, chk_true, bnd_some, ob_some, oc_some, oc_none, hl_eq, jn_eq, ix_0, ix_1, if_true, if_false, inb0_2, inb1_2, not_true_eq_false, not_false_eq_true, ite_true, ite_false, true_or, or_true, or_self, zero_eq_one_I, one_eq_zero_I, AH.kind_ovI, AH.len_ovI, AH.R_ovI, AH.L_ovI, AH.n_ovI, AH.sl_ovI, XSh_ov, MSh_ov, xs_k0, xs_k1, xs_n1, xs_k2, xs_k3, xs_k4, xs_k5, xs_k6, xs_k7, xs_k8, xs_k9, xs_k10, xs_k11, xs_n11, xs_k12, xs_n12, xs_k13, xs_n13, xs_k14, xs_n14, xs_k15, xs_n15, xs_k16, xs_n16, xs_k17, xs_n17, xs_k18, xs_n18, xs_k27, xs_n27, xs_k28, xs_n28, xs_r0_0, xs_r0_1, xs_r2_8, xs_r2_9, xs_r0_2, xs_r0_3, xs_r0_4, xs_r0_8, xs_r0_9, xs_r0_10, xs_r0_18, xs_r0_19, xs_r0_20, xs_r0_21, xs_r0_22, xs_r0_25, xs_r0_26, xs_r0_27, xs_r0_28, HO, X.1, x_vsize hn XO, e3, x_vget hn XO hu, gk', hd, d0, d1, d2, g0, g1, g2, x1, x2, x3, x4, c_eq0, c_ge0, s1, s2, z, z1, z2, k12, n12, i0, i1, i2, i3, j2, j3, set1 0 (by omega), nI_1]
      · have z0 : (sdS S t k u = 0) = True := eq_true z
        rcases Int.lt_trichotomy (ryS S t k u) 0 with y | y | y
        · have y1 : ¬ (0 < ryS S t k u) := by omega
          have y2 : ¬ (ryS S t k u = 0) := by omega
          refine ⟨h.ovI (x + 12) 4 (up1 (fun j => arW S t k j u) 2 (arW S t k 2 u + S.V u 2)), ov_congr (fun j hj => ?_), ?_⟩
          · unfold up1
            have : j = 0 ∨ j = 1 ∨ j = 2 ∨ j = 3 := by omega
            rcases this with rfl | rfl | rfl | rfl <;> simp [arW_s, z, y, y1, y2]
          · simp only [F_X0_isMiddle_L112, chk_true, bnd_some, ob_some, oc_some, oc_none, hl_eq, jn_eq, ix_0, ix_1, if_true, if_false, inb0_2, inb1_2, not_true_eq_false, not_false_eq_true, ite_true, ite_false, true_or, or_true, or_self, zero_eq_one_I, one_eq_zero_I, AH.kind_ovI, AH.len_ovI, AH.R_ovI, AH.L_ovI, AH.n_ovI, AH.sl_ovI, XSh_ov, MSh_ov, xs_k0, xs_k1, xs_n1, xs_k2, xs_k3, xs_k4, xs_k5, xs_k6, xs_k7, xs_k8, xs_k9, xs_k10, xs_k11, xs_n11, xs_k12, xs_n12, xs_k13, xs_n13, xs_k14, xs_n14, xs_k15, xs_n15, xs_k16, xs_n16, xs_k17, xs_n17, xs_k18, xs_n18, xs_k27, xs_n27, xs_k28, xs_n28, xs_r0_0, xs_r0_1, xs_r2_8, xs_r2_9, xs_r0_2, xs_r0_3, xs_r0_4, xs_r0_8, xs_r0_9, xs_r0_10, xs_r0_18, xs_r0_19, xs_r0_20, xs_r0_21, xs_r0_22, xs_r0_25, xs_r0_26, xs_r0_27, xs_r0_28, HO, X.1, x_vsize hn XO, e3, x_vget hn XO hu, gk', hd, d0, d1, d2, g0, g1, g2, x1, x2, x3, x4, c_eq0, c_ge0, s1, s2, z0, y, y1, y2, k12, n12, i0, i1, i2, i3, j2, j3, set1 2 (by omega), nI_1]
        · refine ⟨h.ovI (x + 12) 4 (fun j => arW S t k j u), ov_congr (fun j hj => ?_), ?_⟩
          · have : j = 0 ∨ j = 1 ∨ j = 2 ∨ j = 3 := by omega
            rcases this with rfl | rfl | rfl | rfl <;> simp [arW_s, z, y]
          · simp only [F_X0_isMiddle_L112, chk_true, bnd_some, ob_some, oc_some, oc_none, hl_eq, jn_eq, ix_0, ix_1, if_true, if_false, inb0_2, inb1_2, not_true_eq_false, not_false_eq_true, ite_true, ite_false, true_or, or_true, or_self, zero_eq_one_I, one_eq_zero_I, AH.kind_ovI, AH.len_ovI, AH.R_ovI, AH.L_ovI, AH.n_ovI, AH.sl_ovI, XSh_ov, MSh_ov, xs_k0, xs_k1, xs_n1, xs_k2, xs_k3, xs_k4, xs_k5, xs_k6, xs_k7, xs_k8, xs_k9, xs_k10, xs_k11, xs_n11, xs_k12, xs_n12, xs_k13, xs_n13, xs_k14, xs_n14, xs_k15, xs_n15, xs_k16, xs_n16, xs_k17, xs_n17, xs_k18, xs_n18, xs_k27, xs_n27, xs_k28, xs_n28, xs_r0_0, xs_r0_1, xs_r2_8, xs_r2_9, xs_r0_2, xs_r0_3, xs_r0_4, xs_r0_8, xs_r0_9, xs_r0_10, xs_r0_18, xs_r0_19, xs_r0_20, xs_r0_21, xs_r0_22, xs_r0_25, xs_r0_26, xs_r0_27, xs_r0_28, HO, X.1, x_vsize hn XO, e3, x_vget hn XO hu, gk', hd, d0, d1, d2, g0, g1, g2, x1, x2, x3, x4, c_eq0, c_ge0, s1, s2, z0, eq_true y, nI_1]
        · have y1 : ¬ (ryS S t k u < 0) := by omega
          have y2 : ¬ (ryS S t k u = 0) := by omega
          refine ⟨h.ovI (x + 12) 4 (up1 (fun j => arW S t k j u) 3 (arW S t k 3 u + S.V u 2)), ov_congr (fun j hj => ?_), ?_⟩
          · unfold up1
            have : j = 0 ∨ j = 1 ∨ j = 2 ∨ j = 3 := by omega
            rcases this with rfl | rfl | rfl | rfl <;> simp [arW_s, z, y, y1, y2]
          · simp only [F_X0_isMiddle_L112, chk_true, bnd_some, ob_some, oc_some, oc_none, hl_eq, jn_eq, ix_0, ix_1, if_true, if_false, inb0_2, inb1_2, not_true_eq_false, not_false_eq_true, ite_true, ite_false, true_or, or_true, or_self, zero_eq_one_I, one_eq_zero_I, AH.kind_ovI, AH.len_ovI, AH.R_ovI, AH.L_ovI, AH.n_ovI, AH.sl_ovI, XSh_ov, MSh_ov, xs_k0, xs_k1, xs_n1, xs_k2, xs_k3, xs_k4, xs_k5, xs_k6, xs_k7, xs_k8, xs_k9, xs_k10, xs_k11, xs_n11, xs_k12, xs_n12, xs_k13, xs_n13, xs_k14, xs_n14, xs_k15, xs_n15, xs_k16, xs_n16, xs_k17, xs_n17, xs_k18, xs_n18, xs_k27, xs_n27, xs_k28, xs_n28, xs_r0_0, xs_r0_1, xs_r2_8, xs_r2_9, xs_r0_2, xs_r0_3, xs_r0_4, xs_r0_8, xs_r0_9, xs_r0_10, xs_r0_18, xs_r0_19, xs_r0_20, xs_r0_21, xs_r0_22, xs_r0_25, xs_r0_26, xs_r0_27, xs_r0_28, HO, X.1, x_vsize hn XO, e3, x_vget hn XO hu, gk', hd, d0, d1, d2, g0, g1, g2, x1, x2, x3, x4, c_eq0, c_ge0, s1, s2, z0, y1, y2, k12, n12, i0, i1, i2, i3, j2, j3, set1 3 (by omega), nI_1]
      · have z1 : ¬ (sdS S t k u < 0) := by omega
        have z2 : ¬ (sdS S t k u = 0) := by omega
        refine ⟨h.ovI (x + 12) 4 (up1 (fun j => arW S t k j u) 1 (arW S t k 1 u + S.V u 2)), ov_congr (fun j hj => ?_), ?_⟩
        · unfold up1
          have : j = 0 ∨ j = 1 ∨ j = 2 ∨ j = 3 := by omega
          rcases this with rfl | rfl | rfl | rfl <;> simp [arW_s, z, z1, z2]
        · simp only [F_X0_isMiddle_L112, chk_true, bnd_some, ob_some, oc_some, oc_none, hl_eq, jn_eq, ix_0, ix_1, if_true, if_false, inb0_2, inb1_2, not_true_eq_false, not_false_eq_true, ite_true, ite_false, true_or, or_true, or_self, zero_eq_one_I, one_eq_zero_I, AH.kind_ovI, AH.len_ovI, AH.R_ovI, AH.L_ovI, AH.n_ovI, AH.sl_ovI, XSh_ov, MSh_ov, xs_k0, xs_k1, xs_n1, xs_k2, xs_k3, xs_k4, xs_k5, xs_k6, xs_k7, xs_k8, xs_k9, xs_k10, xs_k11, xs_n11, xs_k12, xs_n12, xs_k13, xs_n13, xs_k14, xs_n14, xs_k15, xs_n15, xs_k16, xs_n16, xs_k17, xs_n17, xs_k18, xs_n18, xs_k27, xs_n27, xs_k28, xs_n28, xs_r0_0, xs_r0_1, xs_r2_8, xs_r2_9, xs_r0_2, xs_r0_3, xs_r0_4, xs_r0_8, xs_r0_9, xs_r0_10, xs_r0_18, xs_r0_19, xs_r0_20, xs_r0_21, xs_r0_22, xs_r0_25, xs_r0_26, xs_r0_27, xs_r0_28, HO, X.1, x_vsize hn XO, e3, x_vget hn XO hu, gk', hd, d0, d1, d2, g0, g1, g2, x1, x2, x3, x4, c_eq0, c_ge0, s1, s2, z1, z2, k12, n12, i0, i1, i2, i3, j2, j3, set1 1 (by omega), nI_1])
    (by
      intro f s hs
      have XO := XA_ar X (fun j => arW S t k j S.nv)
      have HO := XO.1
      have e3 : (nI S.nv ≤ nI S.nv) = True := eq_true (nI_le (Nat.le_refl _) (by omega))
      subst hs
      simp only [F_X0_isMiddle_L112, chk_true, bnd_some, ob_some, oc_some, oc_none, hl_eq, jn_eq, ix_0, ix_1, if_true, if_false, inb0_2, inb1_2, not_true_eq_false, not_false_eq_true, ite_true, ite_false, true_or, or_true, or_self, zero_eq_one_I, one_eq_zero_I, AH.kind_ovI, AH.len_ovI, AH.R_ovI, AH.L_ovI, AH.n_ovI, AH.sl_ovI, XSh_ov, MSh_ov, xs_k0, xs_k1, xs_n1, xs_k2, xs_k3, xs_k4, xs_k5, xs_k6, xs_k7, xs_k8, xs_k9, xs_k10, xs_k11, xs_n11, xs_k12, xs_n12, xs_k13, xs_n13, xs_k14, xs_n14, xs_k15, xs_n15, xs_k16, xs_n16, xs_k17, xs_n17, xs_k18, xs_n18, xs_k27, xs_n27, xs_k28, xs_n28, xs_r0_0, xs_r0_1, xs_r2_8, xs_r2_9, xs_r0_2, xs_r0_3, xs_r0_4, xs_r0_8, xs_r0_9, xs_r0_10, xs_r0_18, xs_r0_19, xs_r0_20, xs_r0_21, xs_r0_22, xs_r0_25, xs_r0_26, xs_r0_27, xs_r0_28, HO, X.1, x_vsize hn XO, e3])
  exact key S.nv 0 _ n (by omega) (by omega) rfl
theorem x_isMiddle {n : Nat} {K : Nat → Nat} {x : Nat} {h : AH} {ev ep b : Nat} {Ev Ep : Nat → Nat} {S : St} (hn : 20000 < n) (X : XA K x h ev Ev ep Ep b S) (B : Bd S) {t : T3} (bt : SB t) {d : Nat} (hd : h.kind d = 13) (d0 : h.L d 0 = Int64.ofInt t.1) (d1 : h.L d 1 = Int64.ofInt t.2.1) (d2 : h.L d 2 = Int64.ofInt t.2.2) : ∃ w, F_X0_isMiddle n K x (some d) h = some (bI (midS S t), h.ovI (x + 12) 4 w) := by
  have h15 := xnv hn X
  have k12 := xs_k12 X.1
  have n12 := xs_n12 X.1
  have key := loopU (fun f i (s : AH) => F_X0_isMiddle_L2 n K x (some d) f i s) S.nv (fun k s => (∃ w, s = h.ovI (x + 12) 4 w) ∧ ∀ i, i < k → midP S t i = false) (fun o => ∃ w, o = some (bI (midS S t), h.ovI (x + 12) 4 w))
    (by
      rintro f k s hk ⟨⟨w, rfl⟩, hs⟩
      have XO := XA_ar X w
      have HO := XO.1
      have e3 : (nI S.nv ≤ nI k) = False := eq_false (nI_ge hk (by omega))
      obtain ⟨gk, g3, g0, g1, g2, g4, g5⟩ := XO.2.1.2.2 k hk
      have gk' : (7 ≤ h.kind (Ev k) ∧ h.kind (Ev k) ≤ 10) = True := eq_true gk
      have x1 : (S.V k 0).toInt64 * Int64.ofInt t.2.2 - Int64.ofInt t.1 = Int64.ofInt (dX S t k) := by
        rw [V_l, l_pp, l_mm]; rfl
      have x2 : (S.V k 1).toInt64 * Int64.ofInt t.2.2 - Int64.ofInt t.2.1 = Int64.ofInt (dY S t k) := by
        rw [V_l, l_pp, l_mm]; rfl
      obtain ⟨b1, b2⟩ := d_of B bt hk
      have m91 := fun kk => x_isMid91 (K := K) hn HO (Int64.ofInt (dY S t k)) (Int64.ofInt (dX S t k)) (nI k) (some d) kk
      simp only [ov_ov] at m91
      have m112 := fun kk => x_isMid112 hn X B bt hd d0 d1 d2 hk (nI k) kk
      have XF := XA_ar X (fun j => arW S t k j S.nv)
      have HF := XF.1
      have all := XF.2.2.2.2.2.2.2.2
      have i2 : inb (2 : Int32) 4 = True := eq_true (by decide)
      have i3 : inb (3 : Int32) 4 = True := eq_true (by decide)
      have i0 : inb (0 : Int32) 4 = True := eq_true (by decide)
      have i1 : inb (1 : Int32) 4 = True := eq_true (by decide)
      have j2 : ix (2 : Int32) = 2 := by decide
      have j3 : ix (3 : Int32) = 3 := by decide
      have r0 : (h.ovI (x + 12) 4 (fun j => arW S t k j S.nv)).I (x + 12) 0 = arW S t k 0 S.nv := I_ov_eq (by omega) ..
      have r1 : (h.ovI (x + 12) 4 (fun j => arW S t k j S.nv)).I (x + 12) 1 = arW S t k 1 S.nv := I_ov_eq (by omega) ..
      have r2 : (h.ovI (x + 12) 4 (fun j => arW S t k j S.nv)).I (x + 12) 2 = arW S t k 2 S.nv := I_ov_eq (by omega) ..
      have r3 : (h.ovI (x + 12) 4 (fun j => arW S t k j S.nv)).I (x + 12) 3 = arW S t k 3 S.nv := I_ov_eq (by omega) ..
      by_cases c : dX S t k = 0 ∧ dY S t k = 0
      · right
        refine ⟨_, ⟨⟨w, rfl⟩, fun i hi => ?_⟩, ?_⟩
        · rcases Nat.lt_or_ge i k with z | z
          · exact hs i z
          · rw [show i = k by omega]
            unfold midP
            rw [show vX S k * t.2.2 - t.1 = dX S t k from rfl, show vY S k * t.2.2 - t.2.1 = dY S t k from rfl]
            simp [c.1, c.2]
        · simp only [F_X0_isMiddle_L2, chk_true, bnd_some, ob_some, oc_some, oc_none, hl_eq, ix_0, ix_1, if_true, if_false, inb0_2, inb1_2, not_true_eq_false, not_false_eq_true, ite_true, ite_false, true_or, or_true, or_self, zero_eq_one_I, one_eq_zero_I, AH.kind_ovI, AH.len_ovI, AH.R_ovI, AH.L_ovI, AH.n_ovI, AH.sl_ovI, XSh_ov, MSh_ov, xs_k0, xs_k1, xs_n1, xs_k2, xs_k3, xs_k4, xs_k5, xs_k6, xs_k7, xs_k8, xs_k9, xs_k10, xs_k11, xs_n11, xs_k12, xs_n12, xs_k13, xs_n13, xs_k14, xs_n14, xs_k15, xs_n15, xs_k16, xs_n16, xs_k17, xs_n17, xs_k18, xs_n18, xs_k27, xs_n27, xs_k28, xs_n28, xs_r0_0, xs_r0_1, xs_r2_8, xs_r2_9, xs_r0_2, xs_r0_3, xs_r0_4, xs_r0_8, xs_r0_9, xs_r0_10, xs_r0_18, xs_r0_19, xs_r0_20, xs_r0_21, xs_r0_22, xs_r0_25, xs_r0_26, xs_r0_27, xs_r0_28, HO, X.1, x_vsize hn XO, e3, x_vget hn XO hk, gk', hd, d0, d1, d2, g0, g1, x1, x2]
          rw [jn_and]
          simp only [c_eq0, b1, b2]
          rw [if_pos c, nI_1]
      · have mp : midP S t k = decide (totS S.V S.nv < 2 * (maxS (arW S t k 0 S.nv) (arW S t k 1 S.nv) + maxS (arW S t k 2 S.nv) (arW S t k 3 S.nv))) := by
          unfold midP
          rw [show vX S k * t.2.2 - t.1 = dX S t k from rfl, show vY S k * t.2.2 - t.2.1 = dY S t k from rfl]
          have c2 : (!(decide (dX S t k = 0) && decide (dY S t k = 0))) = true := by
            rw [← Bool.decide_and, decide_eq_false c]; rfl
          rw [c2, Bool.true_and]
        have st : F_X0_isMiddle_L2 n K x (some d) (f + 1) (nI k) (h.ovI (x + 12) 4 w) = if midP S t k = true then some (0, h.ovI (x + 12) 4 (fun j => arW S t k j S.nv)) else F_X0_isMiddle_L2 n K x (some d) f (nI (k + 1)) (h.ovI (x + 12) 4 (fun j => arW S t k j S.nv)) := by
          simp only [F_X0_isMiddle_L2, chk_true, bnd_some, ob_some, oc_some, oc_none, hl_eq, ix_0, ix_1, if_true, if_false, inb0_2, inb1_2, not_true_eq_false, not_false_eq_true, ite_true, ite_false, true_or, or_true, or_self, zero_eq_one_I, one_eq_zero_I, AH.kind_ovI, AH.len_ovI, AH.R_ovI, AH.L_ovI, AH.n_ovI, AH.sl_ovI, XSh_ov, MSh_ov, xs_k0, xs_k1, xs_n1, xs_k2, xs_k3, xs_k4, xs_k5, xs_k6, xs_k7, xs_k8, xs_k9, xs_k10, xs_k11, xs_n11, xs_k12, xs_n12, xs_k13, xs_n13, xs_k14, xs_n14, xs_k15, xs_n15, xs_k16, xs_n16, xs_k17, xs_n17, xs_k18, xs_n18, xs_k27, xs_n27, xs_k28, xs_n28, xs_r0_0, xs_r0_1, xs_r2_8, xs_r2_9, xs_r0_2, xs_r0_3, xs_r0_4, xs_r0_8, xs_r0_9, xs_r0_10, xs_r0_18, xs_r0_19, xs_r0_20, xs_r0_21, xs_r0_22, xs_r0_25, xs_r0_26, xs_r0_27, xs_r0_28, HO, X.1, x_vsize hn XO, e3, x_vget hn XO hk, gk', hd, d0, d1, d2, g0, g1, x1, x2]
          rw [jn_and]
          simp only [c_eq0, b1, b2]
          rw [if_neg c]
          simp only [chk_true, bnd_some, ob_some, oc_some, oc_none, hl_eq, ix_0, ix_1, if_true, if_false, inb0_2, inb1_2, not_true_eq_false, not_false_eq_true, ite_true, ite_false, true_or, or_true, or_self, zero_eq_one_I, one_eq_zero_I, AH.kind_ovI, AH.len_ovI, AH.R_ovI, AH.L_ovI, AH.n_ovI, AH.sl_ovI, XSh_ov, MSh_ov, m91, m112, k12, n12, i0, i1, i2, i3, j2, j3, r0, r1, r2, r3, all, xs_k0, xs_k1, xs_n1, xs_k2, xs_k3, xs_k4, xs_k5, xs_k6, xs_k7, xs_k8, xs_k9, xs_k10, xs_k11, xs_n11, xs_k12, xs_n12, xs_k13, xs_n13, xs_k14, xs_n14, xs_k15, xs_n15, xs_k16, xs_n16, xs_k17, xs_n17, xs_k18, xs_n18, xs_k27, xs_n27, xs_k28, xs_n28, xs_r0_0, xs_r0_1, xs_r2_8, xs_r2_9, xs_r0_2, xs_r0_3, xs_r0_4, xs_r0_8, xs_r0_9, xs_r0_10, xs_r0_18, xs_r0_19, xs_r0_20, xs_r0_21, xs_r0_22, xs_r0_25, xs_r0_26, xs_r0_27, xs_r0_28, HF, X.1, nI_1, mp, i_le, maxS, decide_eq_true_eq]
          by_cases c3 : totS S.V S.nv < 2 * ((if arW S t k 0 S.nv < arW S t k 1 S.nv then arW S t k 1 S.nv else arW S t k 0 S.nv) + (if arW S t k 2 S.nv < arW S t k 3 S.nv then arW S t k 3 S.nv else arW S t k 2 S.nv))
          · simp [c3]
          · simp [c3]
        cases hp : midP S t k
        · right
          refine ⟨h.ovI (x + 12) 4 (fun j => arW S t k j S.nv), ⟨⟨_, rfl⟩, fun i hi => ?_⟩, by rw [st, hp]; rfl⟩
          · rcases Nat.lt_or_ge i k with z | z
            · exact hs i z
            · rw [show i = k by omega]; exact hp
        · left
          exact ⟨_, by rw [st, hp, mid_no hk hp]; rfl⟩)
    (by
      rintro f s ⟨⟨w, rfl⟩, hs⟩
      have XO := XA_ar X w
      have HO := XO.1
      have e3 : (nI S.nv ≤ nI S.nv) = True := eq_true (nI_le (Nat.le_refl _) (by omega))
      refine ⟨w, ?_⟩
      simp only [F_X0_isMiddle_L2, chk_true, bnd_some, ob_some, oc_some, oc_none, hl_eq, jn_eq, ix_0, ix_1, if_true, if_false, inb0_2, inb1_2, not_true_eq_false, not_false_eq_true, ite_true, ite_false, true_or, or_true, or_self, zero_eq_one_I, one_eq_zero_I, AH.kind_ovI, AH.len_ovI, AH.R_ovI, AH.L_ovI, AH.n_ovI, AH.sl_ovI, XSh_ov, MSh_ov, xs_k0, xs_k1, xs_n1, xs_k2, xs_k3, xs_k4, xs_k5, xs_k6, xs_k7, xs_k8, xs_k9, xs_k10, xs_k11, xs_n11, xs_k12, xs_n12, xs_k13, xs_n13, xs_k14, xs_n14, xs_k15, xs_n15, xs_k16, xs_n16, xs_k17, xs_n17, xs_k18, xs_n18, xs_k27, xs_n27, xs_k28, xs_n28, xs_r0_0, xs_r0_1, xs_r2_8, xs_r2_9, xs_r0_2, xs_r0_3, xs_r0_4, xs_r0_8, xs_r0_9, xs_r0_10, xs_r0_18, xs_r0_19, xs_r0_20, xs_r0_21, xs_r0_22, xs_r0_25, xs_r0_26, xs_r0_27, xs_r0_28, HO, X.1, x_vsize hn XO, e3, mid_fin hs, bI])
  exact key S.nv 0 h n (by omega) (by omega) ⟨⟨h.I (x + 12), (ov_self h (x + 12) 4).symm⟩, fun i hi => absurd hi (Nat.not_lt_zero i)⟩
