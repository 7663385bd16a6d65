/-! PURE PART QE: pieces, the model's; both answers -/
set_option maxRecDepth 100000
theorem m_body {n : Nat} {K : Nat → Nat} {m : Nat} {h : AH} {S : St} (hn : 20000 < n) (M : MA m h S) {pc : Int32} (hpc : pc ≠ -2) {t : TT} (ok : okT pc t) (pm wm a b : Int32) (kn : Int32 → AH → Option (Unit × AH)) : (bnd (F_X3_isPoint n K a b (h.pcM m t.1 t.2.1 pm wm)) fun r38 h39 =>
          if r38 = 0 then (
            kn (nI t.2.2) h39
          ) else (
            chk (h39.kind m = 5) <|
            ob (h39.R m 35) fun a42 =>
            chk (h39.kind a42 = 32) <|
            chk (inb (((100 : Int32) * a) + b) (h39.len a42)) <|
            if (h39.I a42 (ix (((100 : Int32) * a) + b))) = (-2 : Int32) then (
              ob (h39.R m 35) fun a46 =>
              chk (h39.kind a46 = 32) <|
              chk (inb (((100 : Int32) * a) + b) (h39.len a46)) <|
              hl (h39.setI a46 (ix (((100 : Int32) * a) + b)) pc) fun h49 =>
              ob (h49.R m 36) fun a51 =>
              chk (h49.kind a51 = 32) <|
              chk (inb (nI t.2.2) (h49.len a51)) <|
              hl (h49.setI a51 (ix (nI t.2.2)) (((100 : Int32) * a) + b)) fun h54 =>
              kn (nI t.2.2 + (1 : Int32)) h54
            ) else (
              kn (nI t.2.2) h39
            )
          )) = kn (nI (sprS pc a b t).2.2) (h.pcM m (sprS pc a b t).1 (sprS pc a b t).2.1 pm wm) := by
  obtain ⟨po, pi, c⟩ := t
  unfold sprS
  by_cases cp : ptS a b = true
  · obtain ⟨q, hq, e1, e2⟩ := pt_ix cp
    have e3 : ix (nI q) = q := ix_nI (by omega)
    have e4 : inb (nI q) 10000 = True := eq_true ((inb_nI (by omega)).2 hq)
    by_cases c2 : po q = -2
    · have hc : c < 10000 := by
        have h1 := ok_spr (a := a) (b := b) hpc ok
        unfold sprS at h1
        rw [e2] at h1
        rw [if_pos ⟨cp, c2⟩] at h1
        have h2 := cnt_le (up1 po q pc) pc 10000
        have h3 : cntS (up1 po q pc) pc 10000 = c + 1 := h1
        omega
      have e5 : ix (nI c) = c := ix_nI (by omega)
      have e6 : inb (nI c) 10000 = True := eq_true ((inb_nI (by omega)).2 hc)
      simp only [m_isPoint, cp, bI_0, Bool.true_eq_false, chk_true, bnd_some, ob_some, oc_some, oc_none, hl_eq, jn_eq, ix_0, ix_1, if_true, if_false, inb0_2, inb1_2, not_true_eq_false, not_false_eq_true, ite_true, ite_false, true_or, or_true, or_self, zero_eq_one_I, one_eq_zero_I, pcM_kind, pcM_len, pcM_R, ms_k0, ms_k1, ms_n1, ms_k2, ms_n2, ms_k3, ms_n3, ms_k4, ms_n4, ms_k5, ms_n5, ms_k6, ms_n6, ms_k7, ms_n7, ms_k8, ms_n8, ms_k9, ms_n9, ms_k10, ms_n10, ms_k11, ms_n11, ms_k12, ms_n12, ms_k13, ms_n13, ms_k14, ms_n14, ms_k15, ms_n15, ms_k16, ms_n16, ms_k17, ms_n17, ms_k18, ms_n18, ms_k19, ms_n19, ms_k20, ms_n20, ms_k21, ms_n21, ms_k22, ms_n22, ms_k23, ms_n23, ms_k24, ms_n24, ms_k25, ms_n25, ms_k26, ms_n26, ms_k27, ms_n27, ms_k28, ms_n28, ms_k29, ms_n29, ms_k30, ms_n30, ms_k31, ms_n31, ms_k32, ms_n32, ms_k33, ms_n33, ms_k34, ms_n34, ms_k35, ms_n35, ms_k36, ms_n36, ms_k37, ms_n37, ms_k38, ms_n38, ms_k39, ms_n39, ms_k40, ms_n40, ms_k41, ms_n41, ms_k50, ms_n50, ms_k51, ms_n51, ms_k52, ms_n52, ms_k53, ms_n53, ms_r0_0, ms_r0_6, ms_r2_0, ms_r2_1, ms_r0_7, ms_r5_0, ms_r5_1, ms_r0_8, ms_r8_0, ms_r8_1, ms_r0_9, ms_r11_0, ms_r11_1, ms_r0_10, ms_r14_0, ms_r14_1, ms_r0_11, ms_r17_0, ms_r17_1, ms_r0_12, ms_r20_0, ms_r20_1, ms_r0_13, ms_r23_0, ms_r23_1, ms_r0_14, ms_r0_15, ms_r0_16, ms_r0_17, ms_r0_18, ms_r0_23, ms_r0_24, ms_r0_25, ms_r0_26, ms_r0_30, ms_r0_31, ms_r0_32, ms_r0_35, ms_r0_36, ms_r0_39, ms_r0_40, ms_r0_41, ms_r0_42, ms_r0_43, ms_r0_47, M.1, e1, e2, e3, e4, e5, e6, pcM_po hq, c2, and_self, pcM_spo hq, pcM_spi hc, nI_1]
    · simp only [m_isPoint, cp, bI_0, Bool.true_eq_false, chk_true, bnd_some, ob_some, oc_some, oc_none, hl_eq, jn_eq, ix_0, ix_1, if_true, if_false, inb0_2, inb1_2, not_true_eq_false, not_false_eq_true, ite_true, ite_false, true_or, or_true, or_self, zero_eq_one_I, one_eq_zero_I, pcM_kind, pcM_len, pcM_R, ms_k0, ms_k1, ms_n1, ms_k2, ms_n2, ms_k3, ms_n3, ms_k4, ms_n4, ms_k5, ms_n5, ms_k6, ms_n6, ms_k7, ms_n7, ms_k8, ms_n8, ms_k9, ms_n9, ms_k10, ms_n10, ms_k11, ms_n11, ms_k12, ms_n12, ms_k13, ms_n13, ms_k14, ms_n14, ms_k15, ms_n15, ms_k16, ms_n16, ms_k17, ms_n17, ms_k18, ms_n18, ms_k19, ms_n19, ms_k20, ms_n20, ms_k21, ms_n21, ms_k22, ms_n22, ms_k23, ms_n23, ms_k24, ms_n24, ms_k25, ms_n25, ms_k26, ms_n26, ms_k27, ms_n27, ms_k28, ms_n28, ms_k29, ms_n29, ms_k30, ms_n30, ms_k31, ms_n31, ms_k32, ms_n32, ms_k33, ms_n33, ms_k34, ms_n34, ms_k35, ms_n35, ms_k36, ms_n36, ms_k37, ms_n37, ms_k38, ms_n38, ms_k39, ms_n39, ms_k40, ms_n40, ms_k41, ms_n41, ms_k50, ms_n50, ms_k51, ms_n51, ms_k52, ms_n52, ms_k53, ms_n53, ms_r0_0, ms_r0_6, ms_r2_0, ms_r2_1, ms_r0_7, ms_r5_0, ms_r5_1, ms_r0_8, ms_r8_0, ms_r8_1, ms_r0_9, ms_r11_0, ms_r11_1, ms_r0_10, ms_r14_0, ms_r14_1, ms_r0_11, ms_r17_0, ms_r17_1, ms_r0_12, ms_r20_0, ms_r20_1, ms_r0_13, ms_r23_0, ms_r23_1, ms_r0_14, ms_r0_15, ms_r0_16, ms_r0_17, ms_r0_18, ms_r0_23, ms_r0_24, ms_r0_25, ms_r0_26, ms_r0_30, ms_r0_31, ms_r0_32, ms_r0_35, ms_r0_36, ms_r0_39, ms_r0_40, ms_r0_41, ms_r0_42, ms_r0_43, ms_r0_47, M.1, e1, e2, e3, e4, pcM_po hq, c2, and_false]
  · have cp' : ptS a b = false := by simpa using cp
    simp only [m_isPoint, cp', bI_0, chk_true, bnd_some, ob_some, oc_some, oc_none, hl_eq, jn_eq, ix_0, ix_1, if_true, if_false, inb0_2, inb1_2, not_true_eq_false, not_false_eq_true, ite_true, ite_false, true_or, or_true, or_self, zero_eq_one_I, one_eq_zero_I, Bool.false_eq_true, false_and]
theorem m_L52 {n : Nat} {K : Nat → Nat} {m : Nat} {h : AH} {S : St} (hn : 20000 < n) (M : MA m h S) {pc : Int32} (hpc : pc ≠ -2) {t : TT} (ok : okT pc t) (pm wm q y29 : Int32) (kk : Int32 → AH → Option (Unit × AH)) : F_X3_floods_L52 n K (q - q / 100 * 100) (q / 100) y29 m pc n 0 (nI t.2.2) (h.pcM m t.1 t.2.1 pm wm) kk = kk (nI (spr4 pc q t).2.2) (h.pcM m (spr4 pc q t).1 (spr4 pc q t).2.1 pm wm) := by
  generalize hy : q - q / 100 * 100 = yy
  generalize hx : q / 100 = yx
  have c0 : ((4 : Int32) ≤ 0) = False := eq_false (by decide)
  have c1 : ((4 : Int32) ≤ 1) = False := eq_false (by decide)
  have c2 : ((4 : Int32) ≤ 2) = False := eq_false (by decide)
  have c3 : ((4 : Int32) ≤ 3) = False := eq_false (by decide)
  have c4 : ((4 : Int32) ≤ 4) = True := eq_true (by decide)
  have d02 : ((0 : Int32) = 2) = False := eq_false (by decide)
  have d03 : ((0 : Int32) = 3) = False := eq_false (by decide)
  have d12 : ((1 : Int32) = 2) = False := eq_false (by decide)
  have d13 : ((1 : Int32) = 3) = False := eq_false (by decide)
  have d20 : ((2 : Int32) = 0) = False := eq_false (by decide)
  have d21 : ((2 : Int32) = 1) = False := eq_false (by decide)
  have d30 : ((3 : Int32) = 0) = False := eq_false (by decide)
  have d31 : ((3 : Int32) = 1) = False := eq_false (by decide)
  have d32 : ((3 : Int32) = 2) = False := eq_false (by decide)
  have s0 : ∀ f (t : TT), okT pc t → F_X3_floods_L52 n K yy yx y29 m pc (f + 1) 0 (nI t.2.2) (h.pcM m t.1 t.2.1 pm wm) kk = F_X3_floods_L52 n K yy yx y29 m pc f 1 (nI (sprS pc (yx - 1) yy t).2.2) (h.pcM m (sprS pc (yx - 1) yy t).1 (sprS pc (yx - 1) yy t).2.1 pm wm) kk := by
    intro f t ok
    rw [F_X3_floods_L52]
    simp only [jn_eq, c0, d02, d03, zero_eq_one_I, not_true_eq_false, not_false_eq_true, if_true, if_false]
    exact m_body hn M hpc ok pm wm (yx - 1) yy (fun c' h' => F_X3_floods_L52 n K yy yx y29 m pc f (0 + 1) c' h' kk)
  have s1 : ∀ f (t : TT), okT pc t → F_X3_floods_L52 n K yy yx y29 m pc (f + 1) 1 (nI t.2.2) (h.pcM m t.1 t.2.1 pm wm) kk = F_X3_floods_L52 n K yy yx y29 m pc f 2 (nI (sprS pc (yx + 1) yy t).2.2) (h.pcM m (sprS pc (yx + 1) yy t).1 (sprS pc (yx + 1) yy t).2.1 pm wm) kk := by
    intro f t ok
    rw [F_X3_floods_L52]
    simp only [jn_eq, c1, d12, d13, one_eq_zero_I, not_true_eq_false, not_false_eq_true, if_true, if_false]
    exact m_body hn M hpc ok pm wm (yx + 1) yy (fun c' h' => F_X3_floods_L52 n K yy yx y29 m pc f (1 + 1) c' h' kk)
  have s2 : ∀ f (t : TT), okT pc t → F_X3_floods_L52 n K yy yx y29 m pc (f + 1) 2 (nI t.2.2) (h.pcM m t.1 t.2.1 pm wm) kk = F_X3_floods_L52 n K yy yx y29 m pc f 3 (nI (sprS pc yx (yy - 1) t).2.2) (h.pcM m (sprS pc yx (yy - 1) t).1 (sprS pc yx (yy - 1) t).2.1 pm wm) kk := by
    intro f t ok
    rw [F_X3_floods_L52]
    simp only [jn_eq, c2, d20, d21, not_true_eq_false, not_false_eq_true, if_true, if_false]
    exact m_body hn M hpc ok pm wm yx (yy - 1) (fun c' h' => F_X3_floods_L52 n K yy yx y29 m pc f (2 + 1) c' h' kk)
  have s3 : ∀ f (t : TT), okT pc t → F_X3_floods_L52 n K yy yx y29 m pc (f + 1) 3 (nI t.2.2) (h.pcM m t.1 t.2.1 pm wm) kk = F_X3_floods_L52 n K yy yx y29 m pc f 4 (nI (sprS pc yx (yy + 1) t).2.2) (h.pcM m (sprS pc yx (yy + 1) t).1 (sprS pc yx (yy + 1) t).2.1 pm wm) kk := by
    intro f t ok
    rw [F_X3_floods_L52]
    simp only [jn_eq, c3, d30, d31, d32, not_true_eq_false, not_false_eq_true, if_true, if_false]
    exact m_body hn M hpc ok pm wm yx (yy + 1) (fun c' h' => F_X3_floods_L52 n K yy yx y29 m pc f (3 + 1) c' h' kk)
  obtain ⟨f, hf⟩ : ∃ f, n = f + 5 := ⟨n - 5, by omega⟩
  have k1 := ok_spr (a := yx - 1) (b := yy) hpc ok
  have k2 := ok_spr (a := yx + 1) (b := yy) hpc k1
  have k3 := ok_spr (a := yx) (b := yy - 1) hpc k2
  have e : ∀ nn, nn = f + 5 → F_X3_floods_L52 n K yy yx y29 m pc nn 0 (nI t.2.2) (h.pcM m t.1 t.2.1 pm wm) kk = F_X3_floods_L52 n K yy yx y29 m pc (f + 1) 4 (nI (spr4 pc q t).2.2) (h.pcM m (spr4 pc q t).1 (spr4 pc q t).2.1 pm wm) kk := by
    intro nn hnn
    rw [hnn, s0 (f + 4) t ok, s1 (f + 3) _ k1, s2 (f + 2) _ k2, s3 (f + 1) _ k3]
    unfold spr4
    rw [hy, hx]
  rw [e n hf, F_X3_floods_L52]
  simp only [c4, if_true]
theorem m_floodsL {n : Nat} {K : Nat → Nat} {m : Nat} {h : AH} {S : St} (hn : 20000 < n) (M : MA m h S) {pc : Nat} (hpc : pc < 10000) (pm wm : Int32) : ∀ r k (t : TT) fuel, k + r = 10001 → r < fuel → okT (nI pc) t → F_X3_floods_L19 n K m (nI pc) fuel (nI k) (nI t.2.2) (h.pcM m t.1 t.2.1 pm wm) = some ((), h.pcM m (flS (nI pc) r k t).1 (flS (nI pc) r k t).2.1 pm wm) := by
  have hp2 : nI pc ≠ -2 := nI_m2 (by omega)
  have stop : ∀ (k : Nat) (t : TT) (f : Nat), t.2.2 ≤ k → k ≤ 10001 → F_X3_floods_L19 n K m (nI pc) (f + 1) (nI k) (nI t.2.2) (h.pcM m t.1 t.2.1 pm wm) = some ((), h.pcM m t.1 t.2.1 pm wm) := by
    intro k t f h1 h2
    have e3 : (nI t.2.2 ≤ nI k) = True := eq_true (nI_le h1 (by omega))
    simp only [F_X3_floods_L19, chk_true, bnd_some, ob_some, oc_some, oc_none, hl_eq, jn_eq, ix_0, ix_1, if_true, if_false, inb0_2, inb1_2, not_true_eq_false, not_false_eq_true, ite_true, ite_false, true_or, or_true, or_self, zero_eq_one_I, one_eq_zero_I, e3]
  intro r
  induction r with
  | zero =>
    intro k t fuel hk hf ok
    obtain ⟨f, rfl⟩ : ∃ f, fuel = f + 1 := ⟨fuel - 1, by omega⟩
    have := cnt_le t.1 (nI pc) 10000
    have ok' : cntS t.1 (nI pc) 10000 = t.2.2 := ok
    rw [stop k t f (by omega) (by omega)]
    rfl
  | succ r ih =>
    intro k t fuel hk hf ok
    obtain ⟨f, rfl⟩ : ∃ f, fuel = f + 1 := ⟨fuel - 1, by omega⟩
    have hc := cnt_le t.1 (nI pc) 10000
    have ok' : cntS t.1 (nI pc) 10000 = t.2.2 := ok
    rw [flS]
    by_cases c : t.2.2 ≤ k
    · rw [if_pos c, stop k t f c (by omega)]
    · rw [if_neg c]
      have e3 : (nI t.2.2 ≤ nI k) = False := eq_false (nI_ge (by omega) (by omega))
      have e1 : ix (nI k) = k := ix_nI (by omega)
      have e2 : inb (nI k) 10000 = True := eq_true ((inb_nI (by omega)).2 (by omega))
      have k4 : okT (nI pc) (spr4 (nI pc) (t.2.1 k) t) := ok_spr hp2 (ok_spr hp2 (ok_spr hp2 (ok_spr hp2 ok)))
      rw [F_X3_floods_L19]
      simp only [chk_true, bnd_some, ob_some, oc_some, oc_none, hl_eq, jn_eq, ix_0, ix_1, if_true, if_false, inb0_2, inb1_2, not_true_eq_false, not_false_eq_true, ite_true, ite_false, true_or, or_true, or_self, zero_eq_one_I, one_eq_zero_I, pcM_kind, pcM_len, pcM_R, ms_k0, ms_k1, ms_n1, ms_k2, ms_n2, ms_k3, ms_n3, ms_k4, ms_n4, ms_k5, ms_n5, ms_k6, ms_n6, ms_k7, ms_n7, ms_k8, ms_n8, ms_k9, ms_n9, ms_k10, ms_n10, ms_k11, ms_n11, ms_k12, ms_n12, ms_k13, ms_n13, ms_k14, ms_n14, ms_k15, ms_n15, ms_k16, ms_n16, ms_k17, ms_n17, ms_k18, ms_n18, ms_k19, ms_n19, ms_k20, ms_n20, ms_k21, ms_n21, ms_k22, ms_n22, ms_k23, ms_n23, ms_k24, ms_n24, ms_k25, ms_n25, ms_k26, ms_n26, ms_k27, ms_n27, ms_k28, ms_n28, ms_k29, ms_n29, ms_k30, ms_n30, ms_k31, ms_n31, ms_k32, ms_n32, ms_k33, ms_n33, ms_k34, ms_n34, ms_k35, ms_n35, ms_k36, ms_n36, ms_k37, ms_n37, ms_k38, ms_n38, ms_k39, ms_n39, ms_k40, ms_n40, ms_k41, ms_n41, ms_k50, ms_n50, ms_k51, ms_n51, ms_k52, ms_n52, ms_k53, ms_n53, ms_r0_0, ms_r0_6, ms_r2_0, ms_r2_1, ms_r0_7, ms_r5_0, ms_r5_1, ms_r0_8, ms_r8_0, ms_r8_1, ms_r0_9, ms_r11_0, ms_r11_1, ms_r0_10, ms_r14_0, ms_r14_1, ms_r0_11, ms_r17_0, ms_r17_1, ms_r0_12, ms_r20_0, ms_r20_1, ms_r0_13, ms_r23_0, ms_r23_1, ms_r0_14, ms_r0_15, ms_r0_16, ms_r0_17, ms_r0_18, ms_r0_23, ms_r0_24, ms_r0_25, ms_r0_26, ms_r0_30, ms_r0_31, ms_r0_32, ms_r0_35, ms_r0_36, ms_r0_39, ms_r0_40, ms_r0_41, ms_r0_42, ms_r0_43, ms_r0_47, M.1, e3, e1, e2, pcM_pi (show k < 10000 by omega), m_L52 hn M hp2 ok, nI_1]
      exact ih (k + 1) _ f (by omega) (by omega) k4
theorem m_floods {n : Nat} {K : Nat → Nat} {m : Nat} {h : AH} {S : St} (hn : 20000 < n) (M : MA m h S) {u : UU} {p : Nat} (hp : p < 10000) (ok : okU p u) (h2 : u.1 p = -2) (wm : Int32) : F_X3_floods n K m (nI p) (nI u.2.2.2.2) (h.pcM m u.1 u.2.1 (nI u.2.2.2.2) wm) = some ((), h.pcM m (ptStep p u).1 (ptStep p u).2.1 (nI u.2.2.2.2) wm) := by
  have hc : u.2.2.2.2 < 10000 := by have := ok.1; omega
  have e1 : ix (nI p) = p := ix_nI (by omega)
  have e2 : inb (nI p) 10000 = True := eq_true ((inb_nI (by omega)).2 hp)
  have e5 : inb (0 : Int32) 10000 = True := eq_true ((inb_nI (k := 0) (by omega)).2 (by omega))
  have key := m_floodsL (K := K) hn M hc (nI u.2.2.2.2) wm 10001 0 (up1 u.1 p (nI u.2.2.2.2), up1 u.2.1 0 (nI p), 1) n (by omega) (by omega) (ok_fill0 hp ok h2)
  simp only [F_X3_floods, chk_true, bnd_some, ob_some, oc_some, oc_none, hl_eq, jn_eq, ix_0, ix_1, if_true, if_false, inb0_2, inb1_2, not_true_eq_false, not_false_eq_true, ite_true, ite_false, true_or, or_true, or_self, zero_eq_one_I, one_eq_zero_I, pcM_kind, pcM_len, pcM_R, ms_k0, ms_k1, ms_n1, ms_k2, ms_n2, ms_k3, ms_n3, ms_k4, ms_n4, ms_k5, ms_n5, ms_k6, ms_n6, ms_k7, ms_n7, ms_k8, ms_n8, ms_k9, ms_n9, ms_k10, ms_n10, ms_k11, ms_n11, ms_k12, ms_n12, ms_k13, ms_n13, ms_k14, ms_n14, ms_k15, ms_n15, ms_k16, ms_n16, ms_k17, ms_n17, ms_k18, ms_n18, ms_k19, ms_n19, ms_k20, ms_n20, ms_k21, ms_n21, ms_k22, ms_n22, ms_k23, ms_n23, ms_k24, ms_n24, ms_k25, ms_n25, ms_k26, ms_n26, ms_k27, ms_n27, ms_k28, ms_n28, ms_k29, ms_n29, ms_k30, ms_n30, ms_k31, ms_n31, ms_k32, ms_n32, ms_k33, ms_n33, ms_k34, ms_n34, ms_k35, ms_n35, ms_k36, ms_n36, ms_k37, ms_n37, ms_k38, ms_n38, ms_k39, ms_n39, ms_k40, ms_n40, ms_k41, ms_n41, ms_k50, ms_n50, ms_k51, ms_n51, ms_k52, ms_n52, ms_k53, ms_n53, ms_r0_0, ms_r0_6, ms_r2_0, ms_r2_1, ms_r0_7, ms_r5_0, ms_r5_1, ms_r0_8, ms_r8_0, ms_r8_1, ms_r0_9, ms_r11_0, ms_r11_1, ms_r0_10, ms_r14_0, ms_r14_1, ms_r0_11, ms_r17_0, ms_r17_1, ms_r0_12, ms_r20_0, ms_r20_1, ms_r0_13, ms_r23_0, ms_r23_1, ms_r0_14, ms_r0_15, ms_r0_16, ms_r0_17, ms_r0_18, ms_r0_23, ms_r0_24, ms_r0_25, ms_r0_26, ms_r0_30, ms_r0_31, ms_r0_32, ms_r0_35, ms_r0_36, ms_r0_39, ms_r0_40, ms_r0_41, ms_r0_42, ms_r0_43, ms_r0_47, M.1, e1, e2, e5, pcM_spi (show 0 < 10000 by omega), pcM_spo hp]
  rw [show ptStep p u = _ from if_pos h2]
  exact key
def uM (S : St) (qx qy : Int32) (pi : Nat → Int32) : UU := foldS ptStep (u0S S qx qy pi (fun _ => 0) (fun _ => 0)) 10000
def uX (S : St) (qx qy : Int32) (pi pf ps : Nat → Int32) : UU := foldS ptStep (u0S S qx qy pi pf ps) 10000
theorem m_finds {n : Nat} {K : Nat → Nat} {m : Nat} {h : AH} {S : St} (hn : 20000 < n) (M : MA m h S) (qx qy : Int32) : F_X3_finds n K m qx qy h = some ((), h.pcM m (uM S qx qy (h.I (m + 39))).1 (uM S qx qy (h.I (m + 39))).2.1 (nI (uM S qx qy (h.I (m + 39))).2.2.2.2) (wonM S qx qy 10000)) := by
  have key1 := fun kk => loopF (fun f i (s : (Nat → Int32) × Int32) => F_X3_finds_L12 n K m qx qy f i (h.pcM m s.1 (h.I (m + 39)) 0 s.2) kk) 10000 (stG S qx qy) (fun s => kk (h.pcM m s.1 (h.I (m + 39)) 0 s.2)) (h.I (m + 38), 0)
    (by
      intro f k s hk
      have M' := MA_pc M s.1 (h.I (m + 39)) 0 s.2
      have e1 : ix (nI k) = k := ix_nI (by omega)
      have e2 : inb (nI k) 10000 = True := eq_true ((inb_nI (by omega)).2 hk)
      have e3 : ((10000 : Int32) ≤ nI k) = False := eq_false (by rw [e10000]; exact nI_ge hk (by omega))
      simp only [F_X3_finds_L12, chk_true, bnd_some, ob_some, oc_some, oc_none, hl_eq, jn_eq, ix_0, ix_1, if_true, if_false, inb0_2, inb1_2, not_true_eq_false, not_false_eq_true, ite_true, ite_false, true_or, or_true, or_self, zero_eq_one_I, one_eq_zero_I, pcM_kind, pcM_len, pcM_R, ms_k0, ms_k1, ms_n1, ms_k2, ms_n2, ms_k3, ms_n3, ms_k4, ms_n4, ms_k5, ms_n5, ms_k6, ms_n6, ms_k7, ms_n7, ms_k8, ms_n8, ms_k9, ms_n9, ms_k10, ms_n10, ms_k11, ms_n11, ms_k12, ms_n12, ms_k13, ms_n13, ms_k14, ms_n14, ms_k15, ms_n15, ms_k16, ms_n16, ms_k17, ms_n17, ms_k18, ms_n18, ms_k19, ms_n19, ms_k20, ms_n20, ms_k21, ms_n21, ms_k22, ms_n22, ms_k23, ms_n23, ms_k24, ms_n24, ms_k25, ms_n25, ms_k26, ms_n26, ms_k27, ms_n27, ms_k28, ms_n28, ms_k29, ms_n29, ms_k30, ms_n30, ms_k31, ms_n31, ms_k32, ms_n32, ms_k33, ms_n33, ms_k34, ms_n34, ms_k35, ms_n35, ms_k36, ms_n36, ms_k37, ms_n37, ms_k38, ms_n38, ms_k39, ms_n39, ms_k40, ms_n40, ms_k41, ms_n41, ms_k50, ms_n50, ms_k51, ms_n51, ms_k52, ms_n52, ms_k53, ms_n53, ms_r0_0, ms_r0_6, ms_r2_0, ms_r2_1, ms_r0_7, ms_r5_0, ms_r5_1, ms_r0_8, ms_r8_0, ms_r8_1, ms_r0_9, ms_r11_0, ms_r11_1, ms_r0_10, ms_r14_0, ms_r14_1, ms_r0_11, ms_r17_0, ms_r17_1, ms_r0_12, ms_r20_0, ms_r20_1, ms_r0_13, ms_r23_0, ms_r23_1, ms_r0_14, ms_r0_15, ms_r0_16, ms_r0_17, ms_r0_18, ms_r0_23, ms_r0_24, ms_r0_25, ms_r0_26, ms_r0_30, ms_r0_31, ms_r0_32, ms_r0_35, ms_r0_36, ms_r0_39, ms_r0_40, ms_r0_41, ms_r0_42, ms_r0_43, ms_r0_47, M.1, e1, e2, e3, m_beatsAtA hn M', bI_0, pcM_spo hk, pcM_wm, pcM_swm, nI_1, stG, po0, beS, pxS, pyS]
      rcases Bool.eq_false_or_eq_true (btS S (nI k / 100) (nI k - nI k / 100 * 100) qx qy) with c1 | c1 <;> simp [c1])
    (by
      intro f s
      have e3 : ((10000 : Int32) ≤ nI 10000) = True := eq_true (by rw [e10000]; exact nI_le (Nat.le_refl _) (by omega))
      simp only [F_X3_finds_L12, chk_true, bnd_some, ob_some, oc_some, oc_none, hl_eq, jn_eq, ix_0, ix_1, if_true, if_false, inb0_2, inb1_2, not_true_eq_false, not_false_eq_true, ite_true, ite_false, true_or, or_true, or_self, zero_eq_one_I, one_eq_zero_I, e3]) n (by omega)
  have key2 := loopU (fun f i (u : UU) => F_X3_finds_L79 n K m f i (h.pcM m u.1 u.2.1 (nI u.2.2.2.2) (wonM S qx qy 10000))) 10000 (fun p u => u = foldS ptStep (u0S S qx qy (h.I (m + 39)) (fun _ => 0) (fun _ => 0)) p) (fun o => o = some ((), h.pcM m (uM S qx qy (h.I (m + 39))).1 (uM S qx qy (h.I (m + 39))).2.1 (nI (uM S qx qy (h.I (m + 39))).2.2.2.2) (wonM S qx qy 10000)))
    (by
      intro f p u hp hu
      right
      refine ⟨_, rfl, ?_⟩
      have ok := ok_fold S qx qy (h.I (m + 39)) (fun _ => 0) (fun _ => 0) p (by omega)
      rw [← hu] at ok
      have ef : foldS ptStep (u0S S qx qy (h.I (m + 39)) (fun _ => 0) (fun _ => 0)) (p + 1) = ptStep p u := by rw [foldS, ← hu]
      rw [ef]
      have e1 : ix (nI p) = p := ix_nI (by omega)
      have e2 : inb (nI p) 10000 = True := eq_true ((inb_nI (by omega)).2 hp)
      have e3 : ((10000 : Int32) ≤ nI p) = False := eq_false (by rw [e10000]; exact nI_ge hp (by omega))
      by_cases c : u.1 p = -2
      · have ec : (ptStep p u).2.2.2.2 = u.2.2.2.2 + 1 := by rw [show ptStep p u = _ from if_pos c]
        simp only [F_X3_finds_L79, chk_true, bnd_some, ob_some, oc_some, oc_none, hl_eq, jn_eq, ix_0, ix_1, if_true, if_false, inb0_2, inb1_2, not_true_eq_false, not_false_eq_true, ite_true, ite_false, true_or, or_true, or_self, zero_eq_one_I, one_eq_zero_I, pcM_kind, pcM_len, pcM_R, ms_k0, ms_k1, ms_n1, ms_k2, ms_n2, ms_k3, ms_n3, ms_k4, ms_n4, ms_k5, ms_n5, ms_k6, ms_n6, ms_k7, ms_n7, ms_k8, ms_n8, ms_k9, ms_n9, ms_k10, ms_n10, ms_k11, ms_n11, ms_k12, ms_n12, ms_k13, ms_n13, ms_k14, ms_n14, ms_k15, ms_n15, ms_k16, ms_n16, ms_k17, ms_n17, ms_k18, ms_n18, ms_k19, ms_n19, ms_k20, ms_n20, ms_k21, ms_n21, ms_k22, ms_n22, ms_k23, ms_n23, ms_k24, ms_n24, ms_k25, ms_n25, ms_k26, ms_n26, ms_k27, ms_n27, ms_k28, ms_n28, ms_k29, ms_n29, ms_k30, ms_n30, ms_k31, ms_n31, ms_k32, ms_n32, ms_k33, ms_n33, ms_k34, ms_n34, ms_k35, ms_n35, ms_k36, ms_n36, ms_k37, ms_n37, ms_k38, ms_n38, ms_k39, ms_n39, ms_k40, ms_n40, ms_k41, ms_n41, ms_k50, ms_n50, ms_k51, ms_n51, ms_k52, ms_n52, ms_k53, ms_n53, ms_r0_0, ms_r0_6, ms_r2_0, ms_r2_1, ms_r0_7, ms_r5_0, ms_r5_1, ms_r0_8, ms_r8_0, ms_r8_1, ms_r0_9, ms_r11_0, ms_r11_1, ms_r0_10, ms_r14_0, ms_r14_1, ms_r0_11, ms_r17_0, ms_r17_1, ms_r0_12, ms_r20_0, ms_r20_1, ms_r0_13, ms_r23_0, ms_r23_1, ms_r0_14, ms_r0_15, ms_r0_16, ms_r0_17, ms_r0_18, ms_r0_23, ms_r0_24, ms_r0_25, ms_r0_26, ms_r0_30, ms_r0_31, ms_r0_32, ms_r0_35, ms_r0_36, ms_r0_39, ms_r0_40, ms_r0_41, ms_r0_42, ms_r0_43, ms_r0_47, M.1, e1, e2, e3, pcM_po hp, c, pcM_pm, m_floods hn M hp ok c, pcM_spm, nI_1, ec]
      · have : ptStep p u = u := if_neg c
        rw [this]
        simp only [F_X3_finds_L79, chk_true, bnd_some, ob_some, oc_some, oc_none, hl_eq, jn_eq, ix_0, ix_1, if_true, if_false, inb0_2, inb1_2, not_true_eq_false, not_false_eq_true, ite_true, ite_false, true_or, or_true, or_self, zero_eq_one_I, one_eq_zero_I, pcM_kind, pcM_len, pcM_R, ms_k0, ms_k1, ms_n1, ms_k2, ms_n2, ms_k3, ms_n3, ms_k4, ms_n4, ms_k5, ms_n5, ms_k6, ms_n6, ms_k7, ms_n7, ms_k8, ms_n8, ms_k9, ms_n9, ms_k10, ms_n10, ms_k11, ms_n11, ms_k12, ms_n12, ms_k13, ms_n13, ms_k14, ms_n14, ms_k15, ms_n15, ms_k16, ms_n16, ms_k17, ms_n17, ms_k18, ms_n18, ms_k19, ms_n19, ms_k20, ms_n20, ms_k21, ms_n21, ms_k22, ms_n22, ms_k23, ms_n23, ms_k24, ms_n24, ms_k25, ms_n25, ms_k26, ms_n26, ms_k27, ms_n27, ms_k28, ms_n28, ms_k29, ms_n29, ms_k30, ms_n30, ms_k31, ms_n31, ms_k32, ms_n32, ms_k33, ms_n33, ms_k34, ms_n34, ms_k35, ms_n35, ms_k36, ms_n36, ms_k37, ms_n37, ms_k38, ms_n38, ms_k39, ms_n39, ms_k40, ms_n40, ms_k41, ms_n41, ms_k50, ms_n50, ms_k51, ms_n51, ms_k52, ms_n52, ms_k53, ms_n53, ms_r0_0, ms_r0_6, ms_r2_0, ms_r2_1, ms_r0_7, ms_r5_0, ms_r5_1, ms_r0_8, ms_r8_0, ms_r8_1, ms_r0_9, ms_r11_0, ms_r11_1, ms_r0_10, ms_r14_0, ms_r14_1, ms_r0_11, ms_r17_0, ms_r17_1, ms_r0_12, ms_r20_0, ms_r20_1, ms_r0_13, ms_r23_0, ms_r23_1, ms_r0_14, ms_r0_15, ms_r0_16, ms_r0_17, ms_r0_18, ms_r0_23, ms_r0_24, ms_r0_25, ms_r0_26, ms_r0_30, ms_r0_31, ms_r0_32, ms_r0_35, ms_r0_36, ms_r0_39, ms_r0_40, ms_r0_41, ms_r0_42, ms_r0_43, ms_r0_47, M.1, e1, e2, e3, pcM_po hp, c, nI_1])
    (by
      intro f u hu
      rw [hu]
      have e3 : ((10000 : Int32) ≤ nI 10000) = True := eq_true (by rw [e10000]; exact nI_le (Nat.le_refl _) (by omega))
      simp only [F_X3_finds_L79, chk_true, bnd_some, ob_some, oc_some, oc_none, hl_eq, jn_eq, ix_0, ix_1, if_true, if_false, inb0_2, inb1_2, not_true_eq_false, not_false_eq_true, ite_true, ite_false, true_or, or_true, or_self, zero_eq_one_I, one_eq_zero_I, e3, uM])
  have key3 := key2 10000 0 (u0S S qx qy (h.I (m + 39)) (fun _ => 0) (fun _ => 0)) n (by omega) (by omega) rfl
  have es : (h.setI m 38 0).setI m 37 0 = h.pcM m (h.I (m + 38)) (h.I (m + 39)) 0 0 := by
    have e2 := congrArg (fun g : AH => (g.setI m 38 0).setI m 37 0) (pcM_self h m)
    simp only [pcM_swm, pcM_spm] at e2
    exact e2.symm
  simp only [F_X3_finds, chk_true, bnd_some, ob_some, oc_some, oc_none, hl_eq, jn_eq, ix_0, ix_1, if_true, if_false, inb0_2, inb1_2, not_true_eq_false, not_false_eq_true, ite_true, ite_false, true_or, or_true, or_self, zero_eq_one_I, one_eq_zero_I, ms_k0, ms_k1, ms_n1, ms_k2, ms_n2, ms_k3, ms_n3, ms_k4, ms_n4, ms_k5, ms_n5, ms_k6, ms_n6, ms_k7, ms_n7, ms_k8, ms_n8, ms_k9, ms_n9, ms_k10, ms_n10, ms_k11, ms_n11, ms_k12, ms_n12, ms_k13, ms_n13, ms_k14, ms_n14, ms_k15, ms_n15, ms_k16, ms_n16, ms_k17, ms_n17, ms_k18, ms_n18, ms_k19, ms_n19, ms_k20, ms_n20, ms_k21, ms_n21, ms_k22, ms_n22, ms_k23, ms_n23, ms_k24, ms_n24, ms_k25, ms_n25, ms_k26, ms_n26, ms_k27, ms_n27, ms_k28, ms_n28, ms_k29, ms_n29, ms_k30, ms_n30, ms_k31, ms_n31, ms_k32, ms_n32, ms_k33, ms_n33, ms_k34, ms_n34, ms_k35, ms_n35, ms_k36, ms_n36, ms_k37, ms_n37, ms_k38, ms_n38, ms_k39, ms_n39, ms_k40, ms_n40, ms_k41, ms_n41, ms_k50, ms_n50, ms_k51, ms_n51, ms_k52, ms_n52, ms_k53, ms_n53, ms_r0_0, ms_r0_6, ms_r2_0, ms_r2_1, ms_r0_7, ms_r5_0, ms_r5_1, ms_r0_8, ms_r8_0, ms_r8_1, ms_r0_9, ms_r11_0, ms_r11_1, ms_r0_10, ms_r14_0, ms_r14_1, ms_r0_11, ms_r17_0, ms_r17_1, ms_r0_12, ms_r20_0, ms_r20_1, ms_r0_13, ms_r23_0, ms_r23_1, ms_r0_14, ms_r0_15, ms_r0_16, ms_r0_17, ms_r0_18, ms_r0_23, ms_r0_24, ms_r0_25, ms_r0_26, ms_r0_30, ms_r0_31, ms_r0_32, ms_r0_35, ms_r0_36, ms_r0_39, ms_r0_40, ms_r0_41, ms_r0_42, ms_r0_43, ms_r0_47, M.1, es, key1, stG_2]
  rw [pcM_congr (po' := po0 S qx qy) (fun j hj => by rw [stG_1, if_pos hj])]
  exact key3
/-! the answers -/
def pcN (S : St) (qx qy : Int32) : Nat := (uM S qx qy (fun _ => 0)).2.2.2.2
def pcO (S : St) (qx qy : Int32) : Nat → Int32 := (uM S qx qy (fun _ => 0)).1
theorem uM_eq (S : St) (qx qy : Int32) (pi : Nat → Int32) : (uM S qx qy pi).1 = pcO S qx qy ∧ (uM S qx qy pi).2.2.2.2 = pcN S qx qy := by
  unfold pcO pcN uM
  generalize 10000 = N
  exact eq_fold (u := u0S S qx qy pi (fun _ => 0) (fun _ => 0)) (u' := u0S S qx qy (fun _ => 0) (fun _ => 0) (fun _ => 0)) ⟨rfl, rfl⟩ N
theorem uX_eq (S : St) (qx qy : Int32) (pi pf ps : Nat → Int32) : (uX S qx qy pi pf ps).1 = pcO S qx qy ∧ (uX S qx qy pi pf ps).2.2.2.2 = pcN S qx qy := by
  unfold pcO pcN uM uX
  generalize 10000 = N
  exact eq_fold (u := u0S S qx qy pi pf ps) (u' := u0S S qx qy (fun _ => 0) (fun _ => 0) (fun _ => 0)) ⟨rfl, rfl⟩ N
theorem okU_le {p : Nat} {u : UU} (h : okU p u) : u.2.2.2.2 ≤ p := h.1
theorem okU_pc {p : Nat} {u : UU} (h : okU p u) : ∀ k, k < u.2.2.2.2 → ∃ f, f < 10000 ∧ u.2.2.1 k = nI f ∧ u.1 f = nI k ∧ (∀ j, j < f → u.1 j ≠ nI k) ∧ u.2.2.2.1 k = nI (cntS u.1 (nI k) 10000) := h.2.2.2
theorem pcN_le (S : St) (qx qy : Int32) : pcN S qx qy ≤ 10000 := by
  unfold pcN uM
  exact okU_le (ok_fold S qx qy (fun _ => 0) (fun _ => 0) (fun _ => 0) 10000 (Nat.le_refl _))
def winSetS (S : St) (qx qy w : Int32) : Int32 := if S.nv = 0 then -1 else if ptS qx qy = true then (if inS w 0 1 = true then (if w = 0 then wonM S qx qy 10000 else nI (pcN S qx qy)) else -1) else -1
theorem x_winSet {n : Nat} {K : Nat → Nat} {x : Nat} {h : AH} {ev ep b : Nat} {Ev Ep : Nat → Nat} {S : St} (hn : 20000 < n) (X : XA K x h ev Ev ep Ep b S) (qx qy w : Int32) : ∃ po pi pf ps pm wm, F_X0_winSet n K x qx qy w h = some (winSetS S qx qy w, h.pcX x po pi pf ps pm wm) := by
  obtain ⟨po, pi, pf, ps, pm, hpm, key⟩ : ∃ po pi pf ps pm, pm = nI (pcN S qx qy) ∧ F_X0_findPieces n K x qx qy h = some ((), h.pcX x po pi pf ps pm (wonM S qx qy 10000)) := by
    refine ⟨_, _, _, _, _, ?_, x_findPieces hn X qx qy⟩
    have e := (uX_eq S qx qy (h.I (x + 14)) (h.I (x + 15)) (h.I (x + 16))).2
    unfold uX at e
    rw [e]
  simp only [F_X0_winSet, winSetS, chk_true, bnd_some, ob_some, oc_some, oc_none, hl_eq, jn_eq, ix_0, ix_1, if_true, if_false, inb0_2, inb1_2, not_true_eq_false, not_false_eq_true, ite_true, ite_false, true_or, or_true, or_self, zero_eq_one_I, one_eq_zero_I, xs_k0, xs_k1, xs_n1, xs_k2, xs_k3, xs_k4, xs_k5, xs_k6, xs_k7, xs_k8, xs_k9, xs_k10, xs_k11, xs_n11, xs_k12, xs_n12, xs_k13, xs_n13, xs_k14, xs_n14, xs_k15, xs_n15, xs_k16, xs_n16, xs_k17, xs_n17, xs_k18, xs_n18, xs_k27, xs_n27, xs_k28, xs_n28, xs_r0_0, xs_r0_1, xs_r2_8, xs_r2_9, xs_r0_2, xs_r0_3, xs_r0_4, xs_r0_8, xs_r0_9, xs_r0_10, xs_r0_18, xs_r0_19, xs_r0_20, xs_r0_21, xs_r0_22, xs_r0_25, xs_r0_26, xs_r0_27, xs_r0_28, X.1, x_vempty hn X, bI_0, x_isPoint, x_in]
  by_cases c : S.nv = 0
  · refine ⟨h.I (x + 13), h.I (x + 14), h.I (x + 15), h.I (x + 16), h.I x 23, h.I x 24, ?_⟩
    simp [c, pcX_self]
  · cases hpt : ptS qx qy
    · refine ⟨h.I (x + 13), h.I (x + 14), h.I (x + 15), h.I (x + 16), h.I x 23, h.I x 24, ?_⟩
      simp [c, pcX_self]
    · cases hw : inS w 0 1
      · refine ⟨h.I (x + 13), h.I (x + 14), h.I (x + 15), h.I (x + 16), h.I x 23, h.I x 24, ?_⟩
        simp [c, pcX_self]
      · refine ⟨po, pi, pf, ps, pm, wonM S qx qy 10000, ?_⟩
        simp only [c, decide_false, Bool.true_eq_false, chk_true, bnd_some, ob_some, oc_some, oc_none, hl_eq, jn_eq, ix_0, ix_1, if_true, if_false, inb0_2, inb1_2, not_true_eq_false, not_false_eq_true, ite_true, ite_false, true_or, or_true, or_self, zero_eq_one_I, one_eq_zero_I, key, pcX_kind, xs_k0, xs_k1, xs_n1, xs_k2, xs_k3, xs_k4, xs_k5, xs_k6, xs_k7, xs_k8, xs_k9, xs_k10, xs_k11, xs_n11, xs_k12, xs_n12, xs_k13, xs_n13, xs_k14, xs_n14, xs_k15, xs_n15, xs_k16, xs_n16, xs_k17, xs_n17, xs_k18, xs_n18, xs_k27, xs_n27, xs_k28, xs_n28, xs_r0_0, xs_r0_1, xs_r2_8, xs_r2_9, xs_r0_2, xs_r0_3, xs_r0_4, xs_r0_8, xs_r0_9, xs_r0_10, xs_r0_18, xs_r0_19, xs_r0_20, xs_r0_21, xs_r0_22, xs_r0_25, xs_r0_26, xs_r0_27, xs_r0_28, X.1, pcX_pm, pcX_wm, hpm]
        by_cases cw : w = 0 <;> simp [cw]
theorem m_winSet {n : Nat} {K : Nat → Nat} {m : Nat} {h : AH} {S : St} (hn : 20000 < n) (M : MA m h S) (qx qy w : Int32) : ∃ po pi pm wm, F_X3_winSet n K m qx qy w h = some (winSetS S qx qy w, h.pcM m po pi pm wm) := by
  obtain ⟨po, pi, pm, hpm, key⟩ : ∃ po pi pm, pm = nI (pcN S qx qy) ∧ F_X3_finds n K m qx qy h = some ((), h.pcM m po pi pm (wonM S qx qy 10000)) := by
    refine ⟨_, _, _, ?_, m_finds hn M qx qy⟩
    rw [(uM_eq S qx qy (h.I (m + 39))).2]
  simp only [F_X3_winSet, winSetS, chk_true, bnd_some, ob_some, oc_some, oc_none, hl_eq, jn_eq, ix_0, ix_1, if_true, if_false, inb0_2, inb1_2, not_true_eq_false, not_false_eq_true, ite_true, ite_false, true_or, or_true, or_self, zero_eq_one_I, one_eq_zero_I, ms_k0, ms_k1, ms_n1, ms_k2, ms_n2, ms_k3, ms_n3, ms_k4, ms_n4, ms_k5, ms_n5, ms_k6, ms_n6, ms_k7, ms_n7, ms_k8, ms_n8, ms_k9, ms_n9, ms_k10, ms_n10, ms_k11, ms_n11, ms_k12, ms_n12, ms_k13, ms_n13, ms_k14, ms_n14, ms_k15, ms_n15, ms_k16, ms_n16, ms_k17, ms_n17, ms_k18, ms_n18, ms_k19, ms_n19, ms_k20, ms_n20, ms_k21, ms_n21, ms_k22, ms_n22, ms_k23, ms_n23, ms_k24, ms_n24, ms_k25, ms_n25, ms_k26, ms_n26, ms_k27, ms_n27, ms_k28, ms_n28, ms_k29, ms_n29, ms_k30, ms_n30, ms_k31, ms_n31, ms_k32, ms_n32, ms_k33, ms_n33, ms_k34, ms_n34, ms_k35, ms_n35, ms_k36, ms_n36, ms_k37, ms_n37, ms_k38, ms_n38, ms_k39, ms_n39, ms_k40, ms_n40, ms_k41, ms_n41, ms_k50, ms_n50, ms_k51, ms_n51, ms_k52, ms_n52, ms_k53, ms_n53, ms_r0_0, ms_r0_6, ms_r2_0, ms_r2_1, ms_r0_7, ms_r5_0, ms_r5_1, ms_r0_8, ms_r8_0, ms_r8_1, ms_r0_9, ms_r11_0, ms_r11_1, ms_r0_10, ms_r14_0, ms_r14_1, ms_r0_11, ms_r17_0, ms_r17_1, ms_r0_12, ms_r20_0, ms_r20_1, ms_r0_13, ms_r23_0, ms_r23_1, ms_r0_14, ms_r0_15, ms_r0_16, ms_r0_17, ms_r0_18, ms_r0_23, ms_r0_24, ms_r0_25, ms_r0_26, ms_r0_30, ms_r0_31, ms_r0_32, ms_r0_35, ms_r0_36, ms_r0_39, ms_r0_40, ms_r0_41, ms_r0_42, ms_r0_43, ms_r0_47, M.1, m_votersA hn M, m_nv0 hn M, bI_0, m_isPoint, m_inC w 1 (C := 1) (by decide)]
  by_cases c : S.nv = 0
  · refine ⟨h.I (m + 38), h.I (m + 39), h.I m 37, h.I m 38, ?_⟩
    simp [c, pcM_self]
  · cases hpt : ptS qx qy
    · refine ⟨h.I (m + 38), h.I (m + 39), h.I m 37, h.I m 38, ?_⟩
      simp [c, pcM_self]
    · cases hw : inS w 0 1
      · refine ⟨h.I (m + 38), h.I (m + 39), h.I m 37, h.I m 38, ?_⟩
        simp [c, pcM_self]
      · refine ⟨po, pi, pm, wonM S qx qy 10000, ?_⟩
        simp only [c, Bool.true_eq_false, chk_true, bnd_some, ob_some, oc_some, oc_none, hl_eq, jn_eq, ix_0, ix_1, if_true, if_false, inb0_2, inb1_2, not_true_eq_false, not_false_eq_true, ite_true, ite_false, true_or, or_true, or_self, zero_eq_one_I, one_eq_zero_I, key, pcM_kind, ms_k0, ms_k1, ms_n1, ms_k2, ms_n2, ms_k3, ms_n3, ms_k4, ms_n4, ms_k5, ms_n5, ms_k6, ms_n6, ms_k7, ms_n7, ms_k8, ms_n8, ms_k9, ms_n9, ms_k10, ms_n10, ms_k11, ms_n11, ms_k12, ms_n12, ms_k13, ms_n13, ms_k14, ms_n14, ms_k15, ms_n15, ms_k16, ms_n16, ms_k17, ms_n17, ms_k18, ms_n18, ms_k19, ms_n19, ms_k20, ms_n20, ms_k21, ms_n21, ms_k22, ms_n22, ms_k23, ms_n23, ms_k24, ms_n24, ms_k25, ms_n25, ms_k26, ms_n26, ms_k27, ms_n27, ms_k28, ms_n28, ms_k29, ms_n29, ms_k30, ms_n30, ms_k31, ms_n31, ms_k32, ms_n32, ms_k33, ms_n33, ms_k34, ms_n34, ms_k35, ms_n35, ms_k36, ms_n36, ms_k37, ms_n37, ms_k38, ms_n38, ms_k39, ms_n39, ms_k40, ms_n40, ms_k41, ms_n41, ms_k50, ms_n50, ms_k51, ms_n51, ms_k52, ms_n52, ms_k53, ms_n53, ms_r0_0, ms_r0_6, ms_r2_0, ms_r2_1, ms_r0_7, ms_r5_0, ms_r5_1, ms_r0_8, ms_r8_0, ms_r8_1, ms_r0_9, ms_r11_0, ms_r11_1, ms_r0_10, ms_r14_0, ms_r14_1, ms_r0_11, ms_r17_0, ms_r17_1, ms_r0_12, ms_r20_0, ms_r20_1, ms_r0_13, ms_r23_0, ms_r23_1, ms_r0_14, ms_r0_15, ms_r0_16, ms_r0_17, ms_r0_18, ms_r0_23, ms_r0_24, ms_r0_25, ms_r0_26, ms_r0_30, ms_r0_31, ms_r0_32, ms_r0_35, ms_r0_36, ms_r0_39, ms_r0_40, ms_r0_41, ms_r0_42, ms_r0_43, ms_r0_47, M.1, pcM_pm, pcM_wm, hpm]
        by_cases cw : w = 0 <;> simp [cw]
