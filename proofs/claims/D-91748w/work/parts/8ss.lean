/-! PURE PART SS: the model's reading: place, win, the whole -/
set_option maxRecDepth 100000
theorem QRm_pushP {m : Nat} {h : AH} {P : PSt} {a b : Int32} (Q : QRm m h.I P) (hp : P.1.np < 20) (ha : h.I (m + 22) P.1.np = a) (hb : h.I (m + 25) P.1.np = b) : QRm m (h.setI (m + 27) 1 (nI (P.1.np + 1))).I (P.1.pushP a b, P.2) := by
  obtain ⟨q1, q2, ⟨c1, c2, c3⟩, d⟩ := Q
  have o : ∀ e j, ¬ (e = m + 27 ∧ j = 1) → (h.setI (m + 27) 1 (nI (P.1.np + 1))).I e j = h.I e j := fun e j z => setI_O z
  have r : ∀ i, i ≠ 27 → (h.setI (m + 27) 1 (nI (P.1.np + 1))).I (m + i) = h.I (m + i) := fun i hi => funext fun j => o _ _ (by omega)
  refine ⟨?_, ?_, ⟨setI_I _ _ _ _, by show P.1.np + 1 ≤ 20; omega, fun p hp' => ?_⟩, ?_⟩
  · rw [o _ _ (by omega), o _ _ (by omega), o _ _ (by omega), o _ _ (by omega)]; exact q1
  · rw [r 26 (by omega), r 4 (by omega), r 7 (by omega), r 10 (by omega), r 13 (by omega), r 16 (by omega), r 19 (by omega)]; exact q2
  · rw [o _ _ (by omega), o _ _ (by omega)]
    have e : ∀ j, St.P (P.1.pushP a b) p j = if p = P.1.np then (if j = 0 then a else b) else P.1.P p j := fun j => rfl
    show h.I (m + 22) p = St.P (P.1.pushP a b) p 0 ∧ h.I (m + 25) p = St.P (P.1.pushP a b) p 1
    rw [e, e]
    by_cases z : p = P.1.np
    · rw [if_pos z, if_pos z, z]
      exact ⟨ha, hb⟩
    · rw [if_neg z, if_neg z]
      have hv2 : p < P.1.np + 1 := hp'
      exact c3 p (by omega)
  · rw [o _ _ (by omega), o _ _ (by omega), o _ _ (by omega)]; exact d
theorem i20 {k : Nat} (h : k < 20) : ix (nI k) = k ∧ inb (nI k) 20 = True := ⟨ix_nI (by omega), eq_true ((inb_nI (by omega)).2 h)⟩
theorem m_placeRead {n : Nat} {K : Nat → Nat} {m : Nat} {Z : Zt} {h0 h : AH} {t : Tk} {P : PSt} (hn : 20000 < n) (hv : P.1.np < 20) (R : RM K m Z h0 P t h) : MO (F_X3_placeRead n K m h) (plaP false Z.T Z.tm P t) (FM K m Z h0) (fun P' u h' => RM K m Z h0 P' u h') := by
  have S0 := (BM_rd R.1.1).1
  have c0 : h.I (m + 27) 1 = nI P.1.np := R.2.2.2.1.1
  obtain ⟨ex, eb⟩ := i20 hv
  unfold plaP
  simp only [F_X3_placeRead, chk_true, bnd_some, ob_some, oc_some, oc_none, hl_eq, ix_0, ix_1, if_true, if_false, inb0_2, inb1_2, not_true_eq_false, not_false_eq_true, ite_true, ite_false, true_or, or_true, or_self, zero_eq_one_I, one_eq_zero_I, ms_k0, ms_k1, ms_n1, ms_k2, ms_n2, ms_k3, ms_n3, ms_k4, ms_n4, ms_k5, ms_n5, ms_k6, ms_n6, ms_k7, ms_n7, ms_k8, ms_n8, ms_k9, ms_n9, ms_k10, ms_n10, ms_k11, ms_n11, ms_k12, ms_n12, ms_k13, ms_n13, ms_k14, ms_n14, ms_k15, ms_n15, ms_k16, ms_n16, ms_k17, ms_n17, ms_k18, ms_n18, ms_k19, ms_n19, ms_k20, ms_n20, ms_k21, ms_n21, ms_k22, ms_n22, ms_k23, ms_n23, ms_k24, ms_n24, ms_k25, ms_n25, ms_k26, ms_n26, ms_k27, ms_n27, ms_k28, ms_n28, ms_k29, ms_n29, ms_k30, ms_n30, ms_k31, ms_n31, ms_k32, ms_n32, ms_k33, ms_n33, ms_k34, ms_n34, ms_k35, ms_n35, ms_k36, ms_n36, ms_k37, ms_n37, ms_k38, ms_n38, ms_k39, ms_n39, ms_k40, ms_n40, ms_k41, ms_n41, ms_k50, ms_n50, ms_k51, ms_n51, ms_k52, ms_n52, ms_k53, ms_n53, ms_r0_0, ms_r0_6, ms_r2_0, ms_r2_1, ms_r0_7, ms_r5_0, ms_r5_1, ms_r0_8, ms_r8_0, ms_r8_1, ms_r0_9, ms_r11_0, ms_r11_1, ms_r0_10, ms_r14_0, ms_r14_1, ms_r0_11, ms_r17_0, ms_r17_1, ms_r0_12, ms_r20_0, ms_r20_1, ms_r0_13, ms_r23_0, ms_r23_1, ms_r0_14, ms_r0_15, ms_r0_16, ms_r0_17, ms_r0_18, ms_r0_23, ms_r0_24, ms_r0_25, ms_r0_26, ms_r0_30, ms_r0_31, ms_r0_32, ms_r0_35, ms_r0_36, ms_r0_39, ms_r0_40, ms_r0_41, ms_r0_42, ms_r0_43, ms_r0_47, S0, c0]
  refine MO_bnd (m_num hn R.1 (by decide)) (fun p h' q => ⟨h', by simp only [chk_true, bnd_some, ob_some, oc_some, oc_none, hl_eq, ix_0, ix_1, if_true, if_false, inb0_2, inb1_2, not_true_eq_false, not_false_eq_true, ite_true, ite_false, true_or, or_true, or_self, zero_eq_one_I, one_eq_zero_I], q⟩) (fun a u1 h1 q1 => ?_)
  obtain ⟨R1, p1, v1⟩ := q1
  have S1 := (BM_rd R1.1).1
  simp only [chk_true, bnd_some, ob_some, oc_some, oc_none, hl_eq, ix_0, ix_1, if_true, if_false, inb0_2, inb1_2, not_true_eq_false, not_false_eq_true, ite_true, ite_false, true_or, or_true, or_self, zero_eq_one_I, one_eq_zero_I, ms_k0, ms_k1, ms_n1, ms_k2, ms_n2, ms_k3, ms_n3, ms_k4, ms_n4, ms_k5, ms_n5, ms_k6, ms_n6, ms_k7, ms_n7, ms_k8, ms_n8, ms_k9, ms_n9, ms_k10, ms_n10, ms_k11, ms_n11, ms_k12, ms_n12, ms_k13, ms_n13, ms_k14, ms_n14, ms_k15, ms_n15, ms_k16, ms_n16, ms_k17, ms_n17, ms_k18, ms_n18, ms_k19, ms_n19, ms_k20, ms_n20, ms_k21, ms_n21, ms_k22, ms_n22, ms_k23, ms_n23, ms_k24, ms_n24, ms_k25, ms_n25, ms_k26, ms_n26, ms_k27, ms_n27, ms_k28, ms_n28, ms_k29, ms_n29, ms_k30, ms_n30, ms_k31, ms_n31, ms_k32, ms_n32, ms_k33, ms_n33, ms_k34, ms_n34, ms_k35, ms_n35, ms_k36, ms_n36, ms_k37, ms_n37, ms_k38, ms_n38, ms_k39, ms_n39, ms_k40, ms_n40, ms_k41, ms_n41, ms_k50, ms_n50, ms_k51, ms_n51, ms_k52, ms_n52, ms_k53, ms_n53, ms_r0_0, ms_r0_6, ms_r2_0, ms_r2_1, ms_r0_7, ms_r5_0, ms_r5_1, ms_r0_8, ms_r8_0, ms_r8_1, ms_r0_9, ms_r11_0, ms_r11_1, ms_r0_10, ms_r14_0, ms_r14_1, ms_r0_11, ms_r17_0, ms_r17_1, ms_r0_12, ms_r20_0, ms_r20_1, ms_r0_13, ms_r23_0, ms_r23_1, ms_r0_14, ms_r0_15, ms_r0_16, ms_r0_17, ms_r0_18, ms_r0_23, ms_r0_24, ms_r0_25, ms_r0_26, ms_r0_30, ms_r0_31, ms_r0_32, ms_r0_35, ms_r0_36, ms_r0_39, ms_r0_40, ms_r0_41, ms_r0_42, ms_r0_43, ms_r0_47, S1, v1, ex, eb]
  have R1' : TM K m Z h0 (h1.setI (m + 22) P.1.np a) u1 := TM_set R1 _ (Or.inr (Or.inl (by omega))) (by omega)
  refine MO_bnd (m_num hn R1' (by decide)) (fun p h' q => ⟨h', by simp only [chk_true, bnd_some, ob_some, oc_some, oc_none, hl_eq, ix_0, ix_1, if_true, if_false, inb0_2, inb1_2, not_true_eq_false, not_false_eq_true, ite_true, ite_false, true_or, or_true, or_self, zero_eq_one_I, one_eq_zero_I], q⟩) (fun b u2 h2 q2 => ?_)
  obtain ⟨R2, p2, v2⟩ := q2
  have S2 := (BM_rd R2.1).1
  have Q1 := QRm_kp R.2 p1
  have Q1' : QRm m (h1.setI (m + 22) P.1.np a).I P := QRm_of Q1 (fun j _ _ => setI_O (by omega)) (fun i _ _ v hv => setI_O (by omega)) (fun i _ _ v hv => setI_O (by omega)) (fun i _ _ => setI_O (by omega))
  have Q2 := QRm_kp Q1' p2
  have x4 : h2.I (m + 22) P.1.np = a := by rw [p2 _ _ (by omega)]; exact setI_I _ _ _ _
  have c2 : (h2.setI (m + 25) P.1.np b).I (m + 27) 1 = nI P.1.np := by rw [setI_O (by omega)]; exact Q2.2.2.1.1
  have R3 : TM K m Z h0 (h2.setI (m + 25) P.1.np b) u2 := TM_set R2 _ (Or.inr (Or.inl (by omega))) (by omega)
  have Q3 : QRm m (h2.setI (m + 25) P.1.np b).I P := QRm_of Q2 (fun j _ _ => setI_O (by omega)) (fun i _ _ v hv => setI_O (by omega)) (fun i _ _ v hv => setI_O (by omega)) (fun i _ _ => setI_O (by omega))
  have R4 : TM K m Z h0 ((h2.setI (m + 25) P.1.np b).setI (m + 27) 1 (nI (P.1.np + 1))) u2 := TM_set R3 _ (Or.inr (Or.inr ⟨by omega, rfl⟩)) (by omega)
  have Q4 := QRm_pushP (a := a) (b := b) Q3 hv (by rw [setI_O (by omega)]; exact x4) (setI_I _ _ _ _)
  simp only [chk_true, bnd_some, ob_some, oc_some, oc_none, hl_eq, ix_0, ix_1, if_true, if_false, inb0_2, inb1_2, not_true_eq_false, not_false_eq_true, ite_true, ite_false, true_or, or_true, or_self, zero_eq_one_I, one_eq_zero_I, AH.n_setI, AH.n_setL, AH.n_setR, AH.sl_setI, AH.sl_setL, AH.sl_setR, AH.kind_setI, AH.kind_setL, AH.kind_setR, AH.len_setI, AH.len_setL, AH.len_setR, AH.I_setL, AH.I_setR, AH.L_setI, AH.L_setR, AH.R_setI, AH.R_setL, ms_k0, ms_k1, ms_n1, ms_k2, ms_n2, ms_k3, ms_n3, ms_k4, ms_n4, ms_k5, ms_n5, ms_k6, ms_n6, ms_k7, ms_n7, ms_k8, ms_n8, ms_k9, ms_n9, ms_k10, ms_n10, ms_k11, ms_n11, ms_k12, ms_n12, ms_k13, ms_n13, ms_k14, ms_n14, ms_k15, ms_n15, ms_k16, ms_n16, ms_k17, ms_n17, ms_k18, ms_n18, ms_k19, ms_n19, ms_k20, ms_n20, ms_k21, ms_n21, ms_k22, ms_n22, ms_k23, ms_n23, ms_k24, ms_n24, ms_k25, ms_n25, ms_k26, ms_n26, ms_k27, ms_n27, ms_k28, ms_n28, ms_k29, ms_n29, ms_k30, ms_n30, ms_k31, ms_n31, ms_k32, ms_n32, ms_k33, ms_n33, ms_k34, ms_n34, ms_k35, ms_n35, ms_k36, ms_n36, ms_k37, ms_n37, ms_k38, ms_n38, ms_k39, ms_n39, ms_k40, ms_n40, ms_k41, ms_n41, ms_k50, ms_n50, ms_k51, ms_n51, ms_k52, ms_n52, ms_k53, ms_n53, ms_r0_0, ms_r0_6, ms_r2_0, ms_r2_1, ms_r0_7, ms_r5_0, ms_r5_1, ms_r0_8, ms_r8_0, ms_r8_1, ms_r0_9, ms_r11_0, ms_r11_1, ms_r0_10, ms_r14_0, ms_r14_1, ms_r0_11, ms_r17_0, ms_r17_1, ms_r0_12, ms_r20_0, ms_r20_1, ms_r0_13, ms_r23_0, ms_r23_1, ms_r0_14, ms_r0_15, ms_r0_16, ms_r0_17, ms_r0_18, ms_r0_23, ms_r0_24, ms_r0_25, ms_r0_26, ms_r0_30, ms_r0_31, ms_r0_32, ms_r0_35, ms_r0_36, ms_r0_39, ms_r0_40, ms_r0_41, ms_r0_42, ms_r0_43, ms_r0_47, S2, v2, ex, eb, c2, nI_1, m_isSign R4]
  exact MO_tail (m_semi hn ⟨R4, Q4⟩) (fun h' => by simp only [chk_true, bnd_some, ob_some, oc_some, oc_none, hl_eq, ix_0, ix_1, if_true, if_false, inb0_2, inb1_2, not_true_eq_false, not_false_eq_true, ite_true, ite_false, true_or, or_true, or_self, zero_eq_one_I, one_eq_zero_I]) (fun h' => by simp only [chk_true, bnd_some, ob_some, oc_some, oc_none, hl_eq, ix_0, ix_1, if_true, if_false, inb0_2, inb1_2, not_true_eq_false, not_false_eq_true, ite_true, ite_false, true_or, or_true, or_self, zero_eq_one_I, one_eq_zero_I])
theorem QRm_bar {m : Nat} {h : AH} {P : PSt} {k p w : Int32} (Q : QRm m h.I P) (h' : AH) (o : ∀ a j, ¬ ((m + 28 ≤ a ∧ a ≤ m + 30) ∧ j = 1) → ¬ (a = m ∧ 2 ≤ j ∧ j ≤ 5) → h'.I a j = h.I a j) (e : h'.I (m + 28) 1 = k ∧ h'.I (m + 29) 1 = p ∧ h'.I (m + 30) 1 = w) : QRm m h'.I (P.1.setB k p w, P.2) := by
  obtain ⟨q1, q2, q3, d⟩ := Q
  have r : ∀ i, 0 < i → i < 26 → h'.I (m + i) = h.I (m + i) := fun i hi0 hi => funext fun j => o _ _ (by omega) (by omega)
  refine ⟨?_, ?_, ?_, e⟩
  · rw [o _ _ (by omega) (by omega), o _ _ (by omega) (by omega), o _ _ (by omega) (by omega), o _ _ (by omega) (by omega)]; exact q1
  · rw [o _ _ (by omega) (by omega), r 4 (by omega) (by omega), r 7 (by omega) (by omega), r 10 (by omega) (by omega), r 13 (by omega) (by omega), r 16 (by omega) (by omega), r 19 (by omega) (by omega)]; exact q2
  · rw [o _ _ (by omega) (by omega), r 22 (by omega) (by omega), r 25 (by omega) (by omega)]; exact q3
theorem num_lo {c : Bool} {T : Nat → Int32} {tm : Nat} {lo hi v : Int32} {t u : Tk} (h : numP c T tm lo hi t = .inr (v, u)) : inS v lo hi = true := by
  unfold numP passP at h
  rcases Bool.eq_false_or_eq_true (digT T tm t && inS (nvX T t.1 (t.2 - t.1)) lo hi) with d | d
  · rw [if_pos d] at h
    unfold adv at h
    rw [Bool.and_eq_true] at d
    by_cases z : (c && badT T tm (tkS T tm t.2)) = true
    · rw [if_pos z] at h; cases h
    · rw [if_neg z] at h
      injection h with h
      injection h with h1 h2
      rw [← h1]
      exact d.2
  · rw [if_neg (by rw [d]; decide)] at h; cases h
theorem in_int {v lo hi : Int32} (h : inS v lo hi = true) : lo.toInt ≤ v.toInt ∧ v.toInt ≤ hi.toInt := by
  unfold inS at h
  rw [Bool.and_eq_true, Bool.not_eq_true', Bool.not_eq_true', decide_eq_false_iff_not, decide_eq_false_iff_not, Int32.lt_iff_toInt_lt, Int32.lt_iff_toInt_lt] at h
  omega
/-- a bind that may use what the first answer says -/
theorem MO_bnd2 {β γ : Type} {o : Option (Int32 × AH)} {sp : Rs β} {Fl Fl' : Nat → AH → Prop} {Ok : β → Tk → AH → Prop} {Ok' : γ → Tk → AH → Prop} {f : Int32 → AH → Option (Int32 × AH)} {g : β → Tk → Rs γ} (H : MO o sp Fl Ok) (h0 : ∀ p h', Fl p h' → ∃ h'', f 0 h' = some (0, h'') ∧ Fl' p h'') (h1 : ∀ b u h', sp = .inr (b, u) → Ok b u h' → MO (f 1 h') (g b u) Fl' Ok') : MO (bnd o f) (PB sp g) Fl' Ok' := by
  rcases sp with p | ⟨b, u⟩
  · obtain ⟨h', e, q⟩ := H
    rw [e]
    exact h0 p h' q
  · obtain ⟨h', e, q⟩ := H
    rw [e]
    exact h1 b u h' rfl q
theorem min_99 {v : Int32} : (if 2 * v < 99 then 2 * v else (99 : Int32)).toInt ≤ 99 := by
  have e : (99 : Int32).toInt = 99 := by decide
  by_cases c : 2 * v < 99
  · rw [if_pos c]; rw [Int32.lt_iff_toInt_lt, e] at c; omega
  · rw [if_neg c, e]; omega
theorem m_winRead {n : Nat} {K : Nat → Nat} {m : Nat} {Z : Zt} {h0 h : AH} {t : Tk} {P : PSt} (hn : 20000 < n) (hw : P.2.2.2.2 = true) (R : RM K m Z h0 (P.1, (P.2.1, P.2.2.1, P.2.2.2.1, false)) t h) : MO (F_X3_winRead n K m h) (winP false Z.T Z.tm P t) (FM K m Z h0) (fun P' u h' => RM K m Z h0 P' u h') := by
  have S0 := (BM_rd R.1.1).1
  have R1 : TM K m Z h0 (h.setI m 22 1) t := TM_set R.1 _ (Or.inl ⟨rfl, by omega⟩) (by omega)
  have Q1 : QRm m (h.setI m 22 1).I P := by
    have q := QRm_0 (q := P.2) R.2 (g' := (h.setI m 22 1).I) (fun b j z => setI_O (by omega)) ⟨by rw [setI_O (by omega)]; exact R.2.1.1, by rw [setI_O (by omega)]; exact R.2.1.2.1, by rw [setI_O (by omega)]; exact R.2.1.2.2.1, by rw [setI_I, hw]; rfl⟩
    exact q
  simp only [F_X3_winRead, hl_eq, ms_k0 S0, chk_true]
  generalize h.setI m 22 1 = h1 at R1 Q1 ⊢
  have S1 := (BM_rd R1.1).1
  have k1 := ms_k0 S1
  rw [m_word hn R1 (i := 14) (by omega), bnd_some]
  unfold winP
  rcases Bool.eq_false_or_eq_true (wdS Z.T Z.tm 14 t) with c | c
  · have t1 : (bI true = 0) = False := eq_false (by decide)
    simp only [chk_true, bnd_some, ob_some, oc_some, oc_none, hl_eq, jn_eq, ix_0, ix_1, if_true, if_false, inb0_2, inb1_2, not_true_eq_false, not_false_eq_true, ite_true, ite_false, true_or, or_true, or_self, zero_eq_one_I, one_eq_zero_I, k1, c, t1]
    refine MO_bnd (show MO (F_X3_passes n K m 1 h1) (adv false Z.T Z.tm P t) _ _ from m_pass1 hn ⟨R1, Q1⟩ true) (fun p h' q => ⟨h', by simp only [chk_true, bnd_some, ob_some, oc_some, oc_none, hl_eq, jn_eq, ix_0, ix_1, if_true, if_false, inb0_2, inb1_2, not_true_eq_false, not_false_eq_true, ite_true, ite_false, true_or, or_true, or_self, zero_eq_one_I, one_eq_zero_I], q⟩) (fun P' u h' q => ?_)
    have k2 := ms_k0 (BM_rd q.1.1).1
    simp only [chk_true, bnd_some, ob_some, oc_some, oc_none, hl_eq, jn_eq, ix_0, ix_1, if_true, if_false, inb0_2, inb1_2, not_true_eq_false, not_false_eq_true, ite_true, ite_false, true_or, or_true, or_self, zero_eq_one_I, one_eq_zero_I, k2, m_isSign q.1]
    exact MO_tail (m_semi hn q) (fun h' => by simp only [chk_true, bnd_some, ob_some, oc_some, oc_none, hl_eq, jn_eq, ix_0, ix_1, if_true, if_false, inb0_2, inb1_2, not_true_eq_false, not_false_eq_true, ite_true, ite_false, true_or, or_true, or_self, zero_eq_one_I, one_eq_zero_I]) (fun h' => by simp only [chk_true, bnd_some, ob_some, oc_some, oc_none, hl_eq, jn_eq, ix_0, ix_1, if_true, if_false, inb0_2, inb1_2, not_true_eq_false, not_false_eq_true, ite_true, ite_false, true_or, or_true, or_self, zero_eq_one_I, one_eq_zero_I])
  · have t1 : (bI false = 0) = True := eq_true (by decide)
    simp only [c, t1, if_true, Bool.false_eq_true, if_false, k1, chk_true, m_word hn R1 (i := 15) (show 15 < 17 by omega), bnd_some]
    refine MO_jn (fun k => ∀ kk : Int32, kk = (if wdS Z.T Z.tm 15 t = true then 1 else 2) → MO (k kk) (PB (passP false Z.T Z.tm (wdS Z.T Z.tm 15 t || wdS Z.T Z.tm 16 t) P t) (barP false Z.T Z.tm kk)) (FM K m Z h0) (fun P' u h' => RM K m Z h0 P' u h')) (fun kk ek => ?_) (fun k hk => ?_)
    · have R2 : TM K m Z h0 (h1.setI (m + 28) 1 kk) t := TM_set R1 _ (Or.inr (Or.inr ⟨by omega, rfl⟩)) (by omega)
      have w15 := m_word (n := n) hn R2 (i := 15) (by omega)
      have w16 := m_word (n := n) hn R2 (i := 16) (by omega)
      simp only [chk_true, bnd_some, ob_some, oc_some, oc_none, hl_eq, ix_0, ix_1, if_true, if_false, inb0_2, inb1_2, not_true_eq_false, not_false_eq_true, ite_true, ite_false, true_or, or_true, or_self, zero_eq_one_I, one_eq_zero_I, AH.n_setI, AH.n_setL, AH.n_setR, AH.sl_setI, AH.sl_setL, AH.sl_setR, AH.kind_setI, AH.kind_setL, AH.kind_setR, AH.len_setI, AH.len_setL, AH.len_setR, AH.I_setL, AH.I_setR, AH.L_setI, AH.L_setR, AH.R_setI, AH.R_setL, ms_k0, ms_k1, ms_n1, ms_k2, ms_n2, ms_k3, ms_n3, ms_k4, ms_n4, ms_k5, ms_n5, ms_k6, ms_n6, ms_k7, ms_n7, ms_k8, ms_n8, ms_k9, ms_n9, ms_k10, ms_n10, ms_k11, ms_n11, ms_k12, ms_n12, ms_k13, ms_n13, ms_k14, ms_n14, ms_k15, ms_n15, ms_k16, ms_n16, ms_k17, ms_n17, ms_k18, ms_n18, ms_k19, ms_n19, ms_k20, ms_n20, ms_k21, ms_n21, ms_k22, ms_n22, ms_k23, ms_n23, ms_k24, ms_n24, ms_k25, ms_n25, ms_k26, ms_n26, ms_k27, ms_n27, ms_k28, ms_n28, ms_k29, ms_n29, ms_k30, ms_n30, ms_k31, ms_n31, ms_k32, ms_n32, ms_k33, ms_n33, ms_k34, ms_n34, ms_k35, ms_n35, ms_k36, ms_n36, ms_k37, ms_n37, ms_k38, ms_n38, ms_k39, ms_n39, ms_k40, ms_n40, ms_k41, ms_n41, ms_k50, ms_n50, ms_k51, ms_n51, ms_k52, ms_n52, ms_k53, ms_n53, ms_r0_0, ms_r0_6, ms_r2_0, ms_r2_1, ms_r0_7, ms_r5_0, ms_r5_1, ms_r0_8, ms_r8_0, ms_r8_1, ms_r0_9, ms_r11_0, ms_r11_1, ms_r0_10, ms_r14_0, ms_r14_1, ms_r0_11, ms_r17_0, ms_r17_1, ms_r0_12, ms_r20_0, ms_r20_1, ms_r0_13, ms_r23_0, ms_r23_1, ms_r0_14, ms_r0_15, ms_r0_16, ms_r0_17, ms_r0_18, ms_r0_23, ms_r0_24, ms_r0_25, ms_r0_26, ms_r0_30, ms_r0_31, ms_r0_32, ms_r0_35, ms_r0_36, ms_r0_39, ms_r0_40, ms_r0_41, ms_r0_42, ms_r0_43, ms_r0_47, S1, w15]
      refine MO_jn (fun k => ∀ ok : Bool, ok = (wdS Z.T Z.tm 15 t || wdS Z.T Z.tm 16 t) → MO (k (bI ok) (h1.setI (m + 28) 1 kk)) (PB (passP false Z.T Z.tm (wdS Z.T Z.tm 15 t || wdS Z.T Z.tm 16 t) P t) (barP false Z.T Z.tm kk)) (FM K m Z h0) (fun P' u h' => RM K m Z h0 P' u h')) (fun ok eo => ?_) (fun k hk => ?_)
      · rw [← eo]
        have kk2 : (h1.setI (m + 28) 1 kk).kind m = 5 := k1
        simp only [chk_true, bnd_some, ob_some, oc_some, oc_none, hl_eq, ix_0, ix_1, if_true, if_false, inb0_2, inb1_2, not_true_eq_false, not_false_eq_true, ite_true, ite_false, true_or, or_true, or_self, zero_eq_one_I, one_eq_zero_I, kk2]
        refine MO_bnd (m_pass hn R2 ok P) (fun p h' q => ⟨h', by simp only [chk_true, bnd_some, ob_some, oc_some, oc_none, hl_eq, ix_0, ix_1, if_true, if_false, inb0_2, inb1_2, not_true_eq_false, not_false_eq_true, ite_true, ite_false, true_or, or_true, or_self, zero_eq_one_I, one_eq_zero_I], q⟩) (fun P' u3 h3 q3 => ?_)
        obtain ⟨eP, R3, p3, _⟩ := q3
        subst eP
        have S3 := (BM_rd R3.1).1
        simp only [chk_true, bnd_some, ob_some, oc_some, oc_none, hl_eq, ix_0, ix_1, if_true, if_false, inb0_2, inb1_2, not_true_eq_false, not_false_eq_true, ite_true, ite_false, true_or, or_true, or_self, zero_eq_one_I, one_eq_zero_I, ms_k0, ms_k1, ms_n1, ms_k2, ms_n2, ms_k3, ms_n3, ms_k4, ms_n4, ms_k5, ms_n5, ms_k6, ms_n6, ms_k7, ms_n7, ms_k8, ms_n8, ms_k9, ms_n9, ms_k10, ms_n10, ms_k11, ms_n11, ms_k12, ms_n12, ms_k13, ms_n13, ms_k14, ms_n14, ms_k15, ms_n15, ms_k16, ms_n16, ms_k17, ms_n17, ms_k18, ms_n18, ms_k19, ms_n19, ms_k20, ms_n20, ms_k21, ms_n21, ms_k22, ms_n22, ms_k23, ms_n23, ms_k24, ms_n24, ms_k25, ms_n25, ms_k26, ms_n26, ms_k27, ms_n27, ms_k28, ms_n28, ms_k29, ms_n29, ms_k30, ms_n30, ms_k31, ms_n31, ms_k32, ms_n32, ms_k33, ms_n33, ms_k34, ms_n34, ms_k35, ms_n35, ms_k36, ms_n36, ms_k37, ms_n37, ms_k38, ms_n38, ms_k39, ms_n39, ms_k40, ms_n40, ms_k41, ms_n41, ms_k50, ms_n50, ms_k51, ms_n51, ms_k52, ms_n52, ms_k53, ms_n53, ms_r0_0, ms_r0_6, ms_r2_0, ms_r2_1, ms_r0_7, ms_r5_0, ms_r5_1, ms_r0_8, ms_r8_0, ms_r8_1, ms_r0_9, ms_r11_0, ms_r11_1, ms_r0_10, ms_r14_0, ms_r14_1, ms_r0_11, ms_r17_0, ms_r17_1, ms_r0_12, ms_r20_0, ms_r20_1, ms_r0_13, ms_r23_0, ms_r23_1, ms_r0_14, ms_r0_15, ms_r0_16, ms_r0_17, ms_r0_18, ms_r0_23, ms_r0_24, ms_r0_25, ms_r0_26, ms_r0_30, ms_r0_31, ms_r0_32, ms_r0_35, ms_r0_36, ms_r0_39, ms_r0_40, ms_r0_41, ms_r0_42, ms_r0_43, ms_r0_47, S3]
        unfold barP
        refine MO_bnd2 (m_num hn R3 (by decide)) (fun p h' q => ⟨h', by simp only [chk_true, bnd_some, ob_some, oc_some, oc_none, hl_eq, ix_0, ix_1, if_true, if_false, inb0_2, inb1_2, not_true_eq_false, not_false_eq_true, ite_true, ite_false, true_or, or_true, or_self, zero_eq_one_I, one_eq_zero_I], q⟩) (fun v u4 h4 e4 q4 => ?_)
        obtain ⟨R4, p4, v4⟩ := q4
        have iv := in_int (num_lo e4)
        have S4 := (BM_rd R4.1).1
        have R4' : TM K m Z h0 (h4.setI (m + 29) 1 v) u4 := TM_set R4 _ (Or.inr (Or.inr ⟨by omega, rfl⟩)) (by omega)
        simp only [chk_true, bnd_some, ob_some, oc_some, oc_none, hl_eq, ix_0, ix_1, if_true, if_false, inb0_2, inb1_2, not_true_eq_false, not_false_eq_true, ite_true, ite_false, true_or, or_true, or_self, zero_eq_one_I, one_eq_zero_I, AH.n_setI, AH.n_setL, AH.n_setR, AH.sl_setI, AH.sl_setL, AH.sl_setR, AH.kind_setI, AH.kind_setL, AH.kind_setR, AH.len_setI, AH.len_setL, AH.len_setR, AH.I_setL, AH.I_setR, AH.L_setI, AH.L_setR, AH.R_setI, AH.R_setL, ms_k0, ms_k1, ms_n1, ms_k2, ms_n2, ms_k3, ms_n3, ms_k4, ms_n4, ms_k5, ms_n5, ms_k6, ms_n6, ms_k7, ms_n7, ms_k8, ms_n8, ms_k9, ms_n9, ms_k10, ms_n10, ms_k11, ms_n11, ms_k12, ms_n12, ms_k13, ms_n13, ms_k14, ms_n14, ms_k15, ms_n15, ms_k16, ms_n16, ms_k17, ms_n17, ms_k18, ms_n18, ms_k19, ms_n19, ms_k20, ms_n20, ms_k21, ms_n21, ms_k22, ms_n22, ms_k23, ms_n23, ms_k24, ms_n24, ms_k25, ms_n25, ms_k26, ms_n26, ms_k27, ms_n27, ms_k28, ms_n28, ms_k29, ms_n29, ms_k30, ms_n30, ms_k31, ms_n31, ms_k32, ms_n32, ms_k33, ms_n33, ms_k34, ms_n34, ms_k35, ms_n35, ms_k36, ms_n36, ms_k37, ms_n37, ms_k38, ms_n38, ms_k39, ms_n39, ms_k40, ms_n40, ms_k41, ms_n41, ms_k50, ms_n50, ms_k51, ms_n51, ms_k52, ms_n52, ms_k53, ms_n53, ms_r0_0, ms_r0_6, ms_r2_0, ms_r2_1, ms_r0_7, ms_r5_0, ms_r5_1, ms_r0_8, ms_r8_0, ms_r8_1, ms_r0_9, ms_r11_0, ms_r11_1, ms_r0_10, ms_r14_0, ms_r14_1, ms_r0_11, ms_r17_0, ms_r17_1, ms_r0_12, ms_r20_0, ms_r20_1, ms_r0_13, ms_r23_0, ms_r23_1, ms_r0_14, ms_r0_15, ms_r0_16, ms_r0_17, ms_r0_18, ms_r0_23, ms_r0_24, ms_r0_25, ms_r0_26, ms_r0_30, ms_r0_31, ms_r0_32, ms_r0_35, ms_r0_36, ms_r0_39, ms_r0_40, ms_r0_41, ms_r0_42, ms_r0_43, ms_r0_47, S4, v4, m_isSign R4']
        refine MO_bnd (m_pass hn R4' (sgT Z.T Z.tm 47 u4) ()) (fun p h' q => ⟨h', by simp only [chk_true, bnd_some, ob_some, oc_some, oc_none, hl_eq, ix_0, ix_1, if_true, if_false, inb0_2, inb1_2, not_true_eq_false, not_false_eq_true, ite_true, ite_false, true_or, or_true, or_self, zero_eq_one_I, one_eq_zero_I], q⟩) (fun _ u5 h5 q5 => ?_)
        obtain ⟨_, R5, p5, _⟩ := q5
        have S5 := (BM_rd R5.1).1
        have v5 : h5.I (m + 29) 1 = v := by rw [p5 _ _ (by omega)]; exact setI_I _ _ _ _
        have m1 : (if 1 < v then v else (1 : Int32)) = v := by
          by_cases z : 1 < v
          · rw [if_pos z]
          · rw [if_neg z]
            rw [Int32.lt_iff_toInt_lt] at z
            exact Int32.toInt_inj.1 (by have := iv.1; omega)
        simp only [chk_true, bnd_some, ob_some, oc_some, oc_none, hl_eq, ix_0, ix_1, if_true, if_false, inb0_2, inb1_2, not_true_eq_false, not_false_eq_true, ite_true, ite_false, true_or, or_true, or_self, zero_eq_one_I, one_eq_zero_I, AH.n_setI, AH.n_setL, AH.n_setR, AH.sl_setI, AH.sl_setL, AH.sl_setR, AH.kind_setI, AH.kind_setL, AH.kind_setR, AH.len_setI, AH.len_setL, AH.len_setR, AH.I_setL, AH.I_setR, AH.L_setI, AH.L_setR, AH.R_setI, AH.R_setL, ms_k0, ms_k1, ms_n1, ms_k2, ms_n2, ms_k3, ms_n3, ms_k4, ms_n4, ms_k5, ms_n5, ms_k6, ms_n6, ms_k7, ms_n7, ms_k8, ms_n8, ms_k9, ms_n9, ms_k10, ms_n10, ms_k11, ms_n11, ms_k12, ms_n12, ms_k13, ms_n13, ms_k14, ms_n14, ms_k15, ms_n15, ms_k16, ms_n16, ms_k17, ms_n17, ms_k18, ms_n18, ms_k19, ms_n19, ms_k20, ms_n20, ms_k21, ms_n21, ms_k22, ms_n22, ms_k23, ms_n23, ms_k24, ms_n24, ms_k25, ms_n25, ms_k26, ms_n26, ms_k27, ms_n27, ms_k28, ms_n28, ms_k29, ms_n29, ms_k30, ms_n30, ms_k31, ms_n31, ms_k32, ms_n32, ms_k33, ms_n33, ms_k34, ms_n34, ms_k35, ms_n35, ms_k36, ms_n36, ms_k37, ms_n37, ms_k38, ms_n38, ms_k39, ms_n39, ms_k40, ms_n40, ms_k41, ms_n41, ms_k50, ms_n50, ms_k51, ms_n51, ms_k52, ms_n52, ms_k53, ms_n53, ms_r0_0, ms_r0_6, ms_r2_0, ms_r2_1, ms_r0_7, ms_r5_0, ms_r5_1, ms_r0_8, ms_r8_0, ms_r8_1, ms_r0_9, ms_r11_0, ms_r11_1, ms_r0_10, ms_r14_0, ms_r14_1, ms_r0_11, ms_r17_0, ms_r17_1, ms_r0_12, ms_r20_0, ms_r20_1, ms_r0_13, ms_r23_0, ms_r23_1, ms_r0_14, ms_r0_15, ms_r0_16, ms_r0_17, ms_r0_18, ms_r0_23, ms_r0_24, ms_r0_25, ms_r0_26, ms_r0_30, ms_r0_31, ms_r0_32, ms_r0_35, ms_r0_36, ms_r0_39, ms_r0_40, ms_r0_41, ms_r0_42, ms_r0_43, ms_r0_47, S5, v5, m1]
        refine MO_bnd (m_num hn R5 min_99) (fun p h' q => ⟨h', by simp only [chk_true, bnd_some, ob_some, oc_some, oc_none, hl_eq, ix_0, ix_1, if_true, if_false, inb0_2, inb1_2, not_true_eq_false, not_false_eq_true, ite_true, ite_false, true_or, or_true, or_self, zero_eq_one_I, one_eq_zero_I], q⟩) (fun w u6 h6 q6 => ?_)
        obtain ⟨R6, p6, v6⟩ := q6
        have S6 := (BM_rd R6.1).1
        have R7 : TM K m Z h0 (h6.setI (m + 30) 1 w) u6 := TM_set R6 _ (Or.inr (Or.inr ⟨by omega, rfl⟩)) (by omega)
        simp only [chk_true, bnd_some, ob_some, oc_some, oc_none, hl_eq, ix_0, ix_1, if_true, if_false, inb0_2, inb1_2, not_true_eq_false, not_false_eq_true, ite_true, ite_false, true_or, or_true, or_self, zero_eq_one_I, one_eq_zero_I, AH.n_setI, AH.n_setL, AH.n_setR, AH.sl_setI, AH.sl_setL, AH.sl_setR, AH.kind_setI, AH.kind_setL, AH.kind_setR, AH.len_setI, AH.len_setL, AH.len_setR, AH.I_setL, AH.I_setR, AH.L_setI, AH.L_setR, AH.R_setI, AH.R_setL, ms_k0, ms_k1, ms_n1, ms_k2, ms_n2, ms_k3, ms_n3, ms_k4, ms_n4, ms_k5, ms_n5, ms_k6, ms_n6, ms_k7, ms_n7, ms_k8, ms_n8, ms_k9, ms_n9, ms_k10, ms_n10, ms_k11, ms_n11, ms_k12, ms_n12, ms_k13, ms_n13, ms_k14, ms_n14, ms_k15, ms_n15, ms_k16, ms_n16, ms_k17, ms_n17, ms_k18, ms_n18, ms_k19, ms_n19, ms_k20, ms_n20, ms_k21, ms_n21, ms_k22, ms_n22, ms_k23, ms_n23, ms_k24, ms_n24, ms_k25, ms_n25, ms_k26, ms_n26, ms_k27, ms_n27, ms_k28, ms_n28, ms_k29, ms_n29, ms_k30, ms_n30, ms_k31, ms_n31, ms_k32, ms_n32, ms_k33, ms_n33, ms_k34, ms_n34, ms_k35, ms_n35, ms_k36, ms_n36, ms_k37, ms_n37, ms_k38, ms_n38, ms_k39, ms_n39, ms_k40, ms_n40, ms_k41, ms_n41, ms_k50, ms_n50, ms_k51, ms_n51, ms_k52, ms_n52, ms_k53, ms_n53, ms_r0_0, ms_r0_6, ms_r2_0, ms_r2_1, ms_r0_7, ms_r5_0, ms_r5_1, ms_r0_8, ms_r8_0, ms_r8_1, ms_r0_9, ms_r11_0, ms_r11_1, ms_r0_10, ms_r14_0, ms_r14_1, ms_r0_11, ms_r17_0, ms_r17_1, ms_r0_12, ms_r20_0, ms_r20_1, ms_r0_13, ms_r23_0, ms_r23_1, ms_r0_14, ms_r0_15, ms_r0_16, ms_r0_17, ms_r0_18, ms_r0_23, ms_r0_24, ms_r0_25, ms_r0_26, ms_r0_30, ms_r0_31, ms_r0_32, ms_r0_35, ms_r0_36, ms_r0_39, ms_r0_40, ms_r0_41, ms_r0_42, ms_r0_43, ms_r0_47, S6, v6, m_isSign R7]
        have Q7 : QRm m (h6.setI (m + 30) 1 w).I (P'.1.setB kk v w, P'.2) := by
          refine QRm_bar Q1 _ (fun a j z y => ?_) ⟨?_, ?_, setI_I _ _ _ _⟩
          · rw [setI_O (by omega), p6 _ _ y, p5 _ _ y, setI_O (by omega), p4 _ _ y, p3 _ _ y, setI_O (by omega)]
          · rw [setI_O (by omega), p6 _ _ (by omega), p5 _ _ (by omega), setI_O (by omega), p4 _ _ (by omega), p3 _ _ (by omega)]; exact setI_I _ _ _ _
          · rw [setI_O (by omega), p6 _ _ (by omega)]; exact v5
        exact MO_tail (m_semi hn ⟨R7, Q7⟩) (fun h' => by simp only [chk_true, bnd_some, ob_some, oc_some, oc_none, hl_eq, ix_0, ix_1, if_true, if_false, inb0_2, inb1_2, not_true_eq_false, not_false_eq_true, ite_true, ite_false, true_or, or_true, or_self, zero_eq_one_I, one_eq_zero_I]) (fun h' => by simp only [chk_true, bnd_some, ob_some, oc_some, oc_none, hl_eq, ix_0, ix_1, if_true, if_false, inb0_2, inb1_2, not_true_eq_false, not_false_eq_true, ite_true, ite_false, true_or, or_true, or_self, zero_eq_one_I, one_eq_zero_I])
      · rcases Bool.eq_false_or_eq_true (wdS Z.T Z.tm 15 t) with d | d
        · have t2 : (bI true = 0) = False := eq_false (by decide)
          have hk1 := hk true (by rw [d]; rfl)
          simp only [chk_true, bnd_some, ob_some, oc_some, oc_none, hl_eq, ix_0, ix_1, if_true, if_false, inb0_2, inb1_2, not_true_eq_false, not_false_eq_true, ite_true, ite_false, true_or, or_true, or_self, zero_eq_one_I, one_eq_zero_I, d, t2]
          rw [d] at hk1
          exact hk1
        · have t2 : (bI false = 0) = True := eq_true (by decide)
          rcases Bool.eq_false_or_eq_true (wdS Z.T Z.tm 16 t) with e | e
          · have t3 : (bI true = 0) = False := eq_false (by decide)
            have hk1 := hk true (by rw [d, e]; rfl)
            simp only [chk_true, bnd_some, ob_some, oc_some, oc_none, hl_eq, ix_0, ix_1, if_true, if_false, inb0_2, inb1_2, not_true_eq_false, not_false_eq_true, ite_true, ite_false, true_or, or_true, or_self, zero_eq_one_I, one_eq_zero_I, AH.n_setI, AH.n_setL, AH.n_setR, AH.sl_setI, AH.sl_setL, AH.sl_setR, AH.kind_setI, AH.kind_setL, AH.kind_setR, AH.len_setI, AH.len_setL, AH.len_setR, AH.I_setL, AH.I_setR, AH.L_setI, AH.L_setR, AH.R_setI, AH.R_setL, ms_k0, ms_k1, ms_n1, ms_k2, ms_n2, ms_k3, ms_n3, ms_k4, ms_n4, ms_k5, ms_n5, ms_k6, ms_n6, ms_k7, ms_n7, ms_k8, ms_n8, ms_k9, ms_n9, ms_k10, ms_n10, ms_k11, ms_n11, ms_k12, ms_n12, ms_k13, ms_n13, ms_k14, ms_n14, ms_k15, ms_n15, ms_k16, ms_n16, ms_k17, ms_n17, ms_k18, ms_n18, ms_k19, ms_n19, ms_k20, ms_n20, ms_k21, ms_n21, ms_k22, ms_n22, ms_k23, ms_n23, ms_k24, ms_n24, ms_k25, ms_n25, ms_k26, ms_n26, ms_k27, ms_n27, ms_k28, ms_n28, ms_k29, ms_n29, ms_k30, ms_n30, ms_k31, ms_n31, ms_k32, ms_n32, ms_k33, ms_n33, ms_k34, ms_n34, ms_k35, ms_n35, ms_k36, ms_n36, ms_k37, ms_n37, ms_k38, ms_n38, ms_k39, ms_n39, ms_k40, ms_n40, ms_k41, ms_n41, ms_k50, ms_n50, ms_k51, ms_n51, ms_k52, ms_n52, ms_k53, ms_n53, ms_r0_0, ms_r0_6, ms_r2_0, ms_r2_1, ms_r0_7, ms_r5_0, ms_r5_1, ms_r0_8, ms_r8_0, ms_r8_1, ms_r0_9, ms_r11_0, ms_r11_1, ms_r0_10, ms_r14_0, ms_r14_1, ms_r0_11, ms_r17_0, ms_r17_1, ms_r0_12, ms_r20_0, ms_r20_1, ms_r0_13, ms_r23_0, ms_r23_1, ms_r0_14, ms_r0_15, ms_r0_16, ms_r0_17, ms_r0_18, ms_r0_23, ms_r0_24, ms_r0_25, ms_r0_26, ms_r0_30, ms_r0_31, ms_r0_32, ms_r0_35, ms_r0_36, ms_r0_39, ms_r0_40, ms_r0_41, ms_r0_42, ms_r0_43, ms_r0_47, S1, d, t2, w16, e, t3]
            rw [d, e] at hk1
            exact hk1
          · have hk1 := hk false (by rw [d, e]; rfl)
            simp only [chk_true, bnd_some, ob_some, oc_some, oc_none, hl_eq, ix_0, ix_1, if_true, if_false, inb0_2, inb1_2, not_true_eq_false, not_false_eq_true, ite_true, ite_false, true_or, or_true, or_self, zero_eq_one_I, one_eq_zero_I, AH.n_setI, AH.n_setL, AH.n_setR, AH.sl_setI, AH.sl_setL, AH.sl_setR, AH.kind_setI, AH.kind_setL, AH.kind_setR, AH.len_setI, AH.len_setL, AH.len_setR, AH.I_setL, AH.I_setR, AH.L_setI, AH.L_setR, AH.R_setI, AH.R_setL, ms_k0, ms_k1, ms_n1, ms_k2, ms_n2, ms_k3, ms_n3, ms_k4, ms_n4, ms_k5, ms_n5, ms_k6, ms_n6, ms_k7, ms_n7, ms_k8, ms_n8, ms_k9, ms_n9, ms_k10, ms_n10, ms_k11, ms_n11, ms_k12, ms_n12, ms_k13, ms_n13, ms_k14, ms_n14, ms_k15, ms_n15, ms_k16, ms_n16, ms_k17, ms_n17, ms_k18, ms_n18, ms_k19, ms_n19, ms_k20, ms_n20, ms_k21, ms_n21, ms_k22, ms_n22, ms_k23, ms_n23, ms_k24, ms_n24, ms_k25, ms_n25, ms_k26, ms_n26, ms_k27, ms_n27, ms_k28, ms_n28, ms_k29, ms_n29, ms_k30, ms_n30, ms_k31, ms_n31, ms_k32, ms_n32, ms_k33, ms_n33, ms_k34, ms_n34, ms_k35, ms_n35, ms_k36, ms_n36, ms_k37, ms_n37, ms_k38, ms_n38, ms_k39, ms_n39, ms_k40, ms_n40, ms_k41, ms_n41, ms_k50, ms_n50, ms_k51, ms_n51, ms_k52, ms_n52, ms_k53, ms_n53, ms_r0_0, ms_r0_6, ms_r2_0, ms_r2_1, ms_r0_7, ms_r5_0, ms_r5_1, ms_r0_8, ms_r8_0, ms_r8_1, ms_r0_9, ms_r11_0, ms_r11_1, ms_r0_10, ms_r14_0, ms_r14_1, ms_r0_11, ms_r17_0, ms_r17_1, ms_r0_12, ms_r20_0, ms_r20_1, ms_r0_13, ms_r23_0, ms_r23_1, ms_r0_14, ms_r0_15, ms_r0_16, ms_r0_17, ms_r0_18, ms_r0_23, ms_r0_24, ms_r0_25, ms_r0_26, ms_r0_30, ms_r0_31, ms_r0_32, ms_r0_35, ms_r0_36, ms_r0_39, ms_r0_40, ms_r0_41, ms_r0_42, ms_r0_43, ms_r0_47, S1, d, t2, w16, e]
            rw [d, e] at hk1
            exact hk1
    · rcases Bool.eq_false_or_eq_true (wdS Z.T Z.tm 15 t) with d | d
      · have t2 : (bI true = 0) = False := eq_false (by decide)
        simp only [chk_true, bnd_some, ob_some, oc_some, oc_none, hl_eq, ix_0, ix_1, if_true, if_false, inb0_2, inb1_2, not_true_eq_false, not_false_eq_true, ite_true, ite_false, true_or, or_true, or_self, zero_eq_one_I, one_eq_zero_I, d, t2]
        have := hk 1 (by rw [d]; rfl)
        rw [d] at this
        exact this
      · have t2 : (bI false = 0) = True := eq_true (by decide)
        simp only [chk_true, bnd_some, ob_some, oc_some, oc_none, hl_eq, ix_0, ix_1, if_true, if_false, inb0_2, inb1_2, not_true_eq_false, not_false_eq_true, ite_true, ite_false, true_or, or_true, or_self, zero_eq_one_I, one_eq_zero_I, d, t2, Bool.false_eq_true]
        have := hk 2 (by rw [d]; rfl)
        rw [d] at this
        exact this
theorem m_told {n : Nat} {K : Nat → Nat} {m : Nat} {Z : Zt} {h0 h : AH} {t : Tk} {P : PSt} (hn : 20000 < n) (R : RM K m Z h0 P t h) : MO (F_X3_told n K m h) (tellP false Z.T Z.tm P t) (FM K m Z h0) (fun P' u h' => RM K m Z h0 P' u h') := by
  have S0 := (BM_rd R.1.1).1
  have k0 := ms_k0 S0
  have T1 : (bI true = 0) = False := eq_false (by decide)
  have T0 : (bI false = 0) = True := eq_true (by decide)
  have w8 := m_word (n := n) hn R.1 (i := 8) (by omega)
  have w9 := m_word (n := n) hn R.1 (i := 9) (by omega)
  have w10 := m_word (n := n) hn R.1 (i := 10) (by omega)
  have w12 := m_word (n := n) hn R.1 (i := 12) (by omega)
  have w13 := m_word (n := n) hn R.1 (i := 13) (by omega)
  have tl : ∀ {β : Type} {o : Option (Int32 × AH)} {sp : Rs β} {Ok : β → Tk → AH → Prop}, MO o sp (FM K m Z h0) Ok → MO (bnd o fun r h' => if r = 0 then some (0, h') else some (1, h')) sp (FM K m Z h0) Ok := fun H => MO_tail H (fun h' => by simp only [chk_true, bnd_some, ob_some, oc_some, oc_none, hl_eq, jn_eq, ix_0, ix_1, if_true, if_false, inb0_2, inb1_2, not_true_eq_false, not_false_eq_true, ite_true, ite_false, true_or, or_true, or_self, zero_eq_one_I, one_eq_zero_I]) (fun h' => by simp only [chk_true, bnd_some, ob_some, oc_some, oc_none, hl_eq, jn_eq, ix_0, ix_1, if_true, if_false, inb0_2, inb1_2, not_true_eq_false, not_false_eq_true, ite_true, ite_false, true_or, or_true, or_self, zero_eq_one_I, one_eq_zero_I])
  unfold tellP
  rcases Bool.eq_false_or_eq_true (wdS Z.T Z.tm 8 t) with c8 | c8
  · simp only [F_X3_told, chk_true, bnd_some, ob_some, oc_some, oc_none, hl_eq, jn_eq, ix_0, ix_1, if_true, if_false, inb0_2, inb1_2, not_true_eq_false, not_false_eq_true, ite_true, ite_false, true_or, or_true, or_self, zero_eq_one_I, one_eq_zero_I, k0, w8, c8, T1]
    refine MO_bnd (show MO (F_X3_passes n K m 1 h) (adv false Z.T Z.tm P t) _ _ from m_pass1 hn R true) (fun p h' q => ⟨h', by simp only [chk_true, bnd_some, ob_some, oc_some, oc_none, hl_eq, jn_eq, ix_0, ix_1, if_true, if_false, inb0_2, inb1_2, not_true_eq_false, not_false_eq_true, ite_true, ite_false, true_or, or_true, or_self, zero_eq_one_I, one_eq_zero_I], q⟩) (fun P' u h' q => ?_)
    have k2 := ms_k0 (BM_rd q.1.1).1
    simp only [chk_true, bnd_some, ob_some, oc_some, oc_none, hl_eq, jn_eq, ix_0, ix_1, if_true, if_false, inb0_2, inb1_2, not_true_eq_false, not_false_eq_true, ite_true, ite_false, true_or, or_true, or_self, zero_eq_one_I, one_eq_zero_I, k2]
    exact tl (m_near hn q)
  · rcases Bool.eq_false_or_eq_true (wdS Z.T Z.tm 9 t) with c9 | c9
    · simp only [F_X3_told, chk_true, bnd_some, ob_some, oc_some, oc_none, hl_eq, jn_eq, ix_0, ix_1, if_true, if_false, inb0_2, inb1_2, not_true_eq_false, not_false_eq_true, ite_true, ite_false, true_or, or_true, or_self, zero_eq_one_I, one_eq_zero_I, k0, w8, c8, T0, w9, c9, T1, Bool.false_eq_true]
      refine MO_bnd (show MO (F_X3_passes n K m 1 h) (adv false Z.T Z.tm P t) _ _ from m_pass1 hn R true) (fun p h' q => ⟨h', by simp only [chk_true, bnd_some, ob_some, oc_some, oc_none, hl_eq, jn_eq, ix_0, ix_1, if_true, if_false, inb0_2, inb1_2, not_true_eq_false, not_false_eq_true, ite_true, ite_false, true_or, or_true, or_self, zero_eq_one_I, one_eq_zero_I], q⟩) (fun P' u h' q => ?_)
      have k2 := ms_k0 (BM_rd q.1.1).1
      simp only [chk_true, bnd_some, ob_some, oc_some, oc_none, hl_eq, jn_eq, ix_0, ix_1, if_true, if_false, inb0_2, inb1_2, not_true_eq_false, not_false_eq_true, ite_true, ite_false, true_or, or_true, or_self, zero_eq_one_I, one_eq_zero_I, k2]
      exact tl (m_stretch hn q)
    · rcases Bool.eq_false_or_eq_true (wdS Z.T Z.tm 10 t) with c10 | c10
      · have n15 := R.2.2.1.2.1
        have e : (15 : Int32) = nI 15 := rfl
        have fin : MO (bnd (F_X3_passes n K m (bI (decide (P.1.nv < 15))) h) fun r55 h56 => if r55 = 0 then some ((0 : Int32), h56) else chk (h56.kind m = 5) <| bnd (F_X3_voterRead n K m h56) fun r h' => if r = 0 then some (0, h') else some (1, h')) (PB (passP false Z.T Z.tm (decide (P.1.nv < 15)) P t) (votP false Z.T Z.tm)) (FM K m Z h0) (fun P' u h' => RM K m Z h0 P' u h') := by
          by_cases z : P.1.nv < 15
          · refine MO_bnd (Ok := fun P' u h' => P' = P ∧ RM K m Z h0 P' u h') (MO_imp (m_pass hn R.1 _ P) (fun _ _ q => q) (fun b u h' q => ⟨q.1, by rw [q.1]; exact ⟨q.2.1, QRm_kp R.2 q.2.2.1⟩⟩)) (fun p h' q => ⟨h', by simp only [chk_true, bnd_some, ob_some, oc_some, oc_none, hl_eq, jn_eq, ix_0, ix_1, if_true, if_false, inb0_2, inb1_2, not_true_eq_false, not_false_eq_true, ite_true, ite_false, true_or, or_true, or_self, zero_eq_one_I, one_eq_zero_I], q⟩) (fun P' u h' q => ?_)
            have k2 := ms_k0 (BM_rd q.2.1.1).1
            simp only [chk_true, bnd_some, ob_some, oc_some, oc_none, hl_eq, jn_eq, ix_0, ix_1, if_true, if_false, inb0_2, inb1_2, not_true_eq_false, not_false_eq_true, ite_true, ite_false, true_or, or_true, or_self, zero_eq_one_I, one_eq_zero_I, k2]
            exact tl (m_voterRead hn (by rw [q.1]; exact z) q.2)
          · rw [decide_eq_false z]
            obtain ⟨h', e, q⟩ := m_pass (n := n) hn R.1 false P
            exact ⟨h', by rw [e]; rfl, q⟩
        by_cases z : P.1.nv < 15
        · have e15 : (15 ≤ nI P.1.nv) = False := by rw [e]; exact eq_false (nI_ge z (by omega))
          rw [decide_eq_true z] at fin
          simp only [F_X3_told, chk_true, bnd_some, ob_some, oc_some, oc_none, hl_eq, jn_eq, ix_0, ix_1, if_true, if_false, inb0_2, inb1_2, not_true_eq_false, not_false_eq_true, ite_true, ite_false, true_or, or_true, or_self, zero_eq_one_I, one_eq_zero_I, ms_k0, ms_k1, ms_n1, ms_k2, ms_n2, ms_k3, ms_n3, ms_k4, ms_n4, ms_k5, ms_n5, ms_k6, ms_n6, ms_k7, ms_n7, ms_k8, ms_n8, ms_k9, ms_n9, ms_k10, ms_n10, ms_k11, ms_n11, ms_k12, ms_n12, ms_k13, ms_n13, ms_k14, ms_n14, ms_k15, ms_n15, ms_k16, ms_n16, ms_k17, ms_n17, ms_k18, ms_n18, ms_k19, ms_n19, ms_k20, ms_n20, ms_k21, ms_n21, ms_k22, ms_n22, ms_k23, ms_n23, ms_k24, ms_n24, ms_k25, ms_n25, ms_k26, ms_n26, ms_k27, ms_n27, ms_k28, ms_n28, ms_k29, ms_n29, ms_k30, ms_n30, ms_k31, ms_n31, ms_k32, ms_n32, ms_k33, ms_n33, ms_k34, ms_n34, ms_k35, ms_n35, ms_k36, ms_n36, ms_k37, ms_n37, ms_k38, ms_n38, ms_k39, ms_n39, ms_k40, ms_n40, ms_k41, ms_n41, ms_k50, ms_n50, ms_k51, ms_n51, ms_k52, ms_n52, ms_k53, ms_n53, ms_r0_0, ms_r0_6, ms_r2_0, ms_r2_1, ms_r0_7, ms_r5_0, ms_r5_1, ms_r0_8, ms_r8_0, ms_r8_1, ms_r0_9, ms_r11_0, ms_r11_1, ms_r0_10, ms_r14_0, ms_r14_1, ms_r0_11, ms_r17_0, ms_r17_1, ms_r0_12, ms_r20_0, ms_r20_1, ms_r0_13, ms_r23_0, ms_r23_1, ms_r0_14, ms_r0_15, ms_r0_16, ms_r0_17, ms_r0_18, ms_r0_23, ms_r0_24, ms_r0_25, ms_r0_26, ms_r0_30, ms_r0_31, ms_r0_32, ms_r0_35, ms_r0_36, ms_r0_39, ms_r0_40, ms_r0_41, ms_r0_42, ms_r0_43, ms_r0_47, S0, w8, c8, T0, w9, c9, w10, c10, T1, R.2.2.1.1, e15, Bool.false_eq_true, decide_eq_true z]
          exact fin
        · have e15 : (15 ≤ nI P.1.nv) = True := by rw [e]; exact eq_true (nI_le (by omega) (by omega))
          rw [decide_eq_false z] at fin
          simp only [F_X3_told, chk_true, bnd_some, ob_some, oc_some, oc_none, hl_eq, jn_eq, ix_0, ix_1, if_true, if_false, inb0_2, inb1_2, not_true_eq_false, not_false_eq_true, ite_true, ite_false, true_or, or_true, or_self, zero_eq_one_I, one_eq_zero_I, ms_k0, ms_k1, ms_n1, ms_k2, ms_n2, ms_k3, ms_n3, ms_k4, ms_n4, ms_k5, ms_n5, ms_k6, ms_n6, ms_k7, ms_n7, ms_k8, ms_n8, ms_k9, ms_n9, ms_k10, ms_n10, ms_k11, ms_n11, ms_k12, ms_n12, ms_k13, ms_n13, ms_k14, ms_n14, ms_k15, ms_n15, ms_k16, ms_n16, ms_k17, ms_n17, ms_k18, ms_n18, ms_k19, ms_n19, ms_k20, ms_n20, ms_k21, ms_n21, ms_k22, ms_n22, ms_k23, ms_n23, ms_k24, ms_n24, ms_k25, ms_n25, ms_k26, ms_n26, ms_k27, ms_n27, ms_k28, ms_n28, ms_k29, ms_n29, ms_k30, ms_n30, ms_k31, ms_n31, ms_k32, ms_n32, ms_k33, ms_n33, ms_k34, ms_n34, ms_k35, ms_n35, ms_k36, ms_n36, ms_k37, ms_n37, ms_k38, ms_n38, ms_k39, ms_n39, ms_k40, ms_n40, ms_k41, ms_n41, ms_k50, ms_n50, ms_k51, ms_n51, ms_k52, ms_n52, ms_k53, ms_n53, ms_r0_0, ms_r0_6, ms_r2_0, ms_r2_1, ms_r0_7, ms_r5_0, ms_r5_1, ms_r0_8, ms_r8_0, ms_r8_1, ms_r0_9, ms_r11_0, ms_r11_1, ms_r0_10, ms_r14_0, ms_r14_1, ms_r0_11, ms_r17_0, ms_r17_1, ms_r0_12, ms_r20_0, ms_r20_1, ms_r0_13, ms_r23_0, ms_r23_1, ms_r0_14, ms_r0_15, ms_r0_16, ms_r0_17, ms_r0_18, ms_r0_23, ms_r0_24, ms_r0_25, ms_r0_26, ms_r0_30, ms_r0_31, ms_r0_32, ms_r0_35, ms_r0_36, ms_r0_39, ms_r0_40, ms_r0_41, ms_r0_42, ms_r0_43, ms_r0_47, S0, w8, c8, T0, w9, c9, w10, c10, T1, R.2.2.1.1, e15, Bool.false_eq_true, decide_eq_false z]
          exact fin
      · rcases Bool.eq_false_or_eq_true (wdS Z.T Z.tm 12 t) with c12 | c12
        · have n20 := R.2.2.2.1.2.1
          have e : (20 : Int32) = nI 20 := rfl
          have fin : MO (bnd (F_X3_passes n K m (bI (decide (P.1.np < 20))) h) fun r55 h56 => if r55 = 0 then some ((0 : Int32), h56) else chk (h56.kind m = 5) <| bnd (F_X3_placeRead n K m h56) fun r h' => if r = 0 then some (0, h') else some (1, h')) (PB (passP false Z.T Z.tm (decide (P.1.np < 20)) P t) (plaP false Z.T Z.tm)) (FM K m Z h0) (fun P' u h' => RM K m Z h0 P' u h') := by
            by_cases z : P.1.np < 20
            · refine MO_bnd (Ok := fun P' u h' => P' = P ∧ RM K m Z h0 P' u h') (MO_imp (m_pass hn R.1 _ P) (fun _ _ q => q) (fun b u h' q => ⟨q.1, by rw [q.1]; exact ⟨q.2.1, QRm_kp R.2 q.2.2.1⟩⟩)) (fun p h' q => ⟨h', by simp only [chk_true, bnd_some, ob_some, oc_some, oc_none, hl_eq, jn_eq, ix_0, ix_1, if_true, if_false, inb0_2, inb1_2, not_true_eq_false, not_false_eq_true, ite_true, ite_false, true_or, or_true, or_self, zero_eq_one_I, one_eq_zero_I], q⟩) (fun P' u h' q => ?_)
              have k2 := ms_k0 (BM_rd q.2.1.1).1
              simp only [chk_true, bnd_some, ob_some, oc_some, oc_none, hl_eq, jn_eq, ix_0, ix_1, if_true, if_false, inb0_2, inb1_2, not_true_eq_false, not_false_eq_true, ite_true, ite_false, true_or, or_true, or_self, zero_eq_one_I, one_eq_zero_I, k2]
              exact tl (m_placeRead hn (by rw [q.1]; exact z) q.2)
            · rw [decide_eq_false z]
              obtain ⟨h', e, q⟩ := m_pass (n := n) hn R.1 false P
              exact ⟨h', by rw [e]; rfl, q⟩
          by_cases z : P.1.np < 20
          · have e15 : (20 ≤ nI P.1.np) = False := by rw [e]; exact eq_false (nI_ge z (by omega))
            rw [decide_eq_true z] at fin
            simp only [F_X3_told, chk_true, bnd_some, ob_some, oc_some, oc_none, hl_eq, jn_eq, ix_0, ix_1, if_true, if_false, inb0_2, inb1_2, not_true_eq_false, not_false_eq_true, ite_true, ite_false, true_or, or_true, or_self, zero_eq_one_I, one_eq_zero_I, ms_k0, ms_k1, ms_n1, ms_k2, ms_n2, ms_k3, ms_n3, ms_k4, ms_n4, ms_k5, ms_n5, ms_k6, ms_n6, ms_k7, ms_n7, ms_k8, ms_n8, ms_k9, ms_n9, ms_k10, ms_n10, ms_k11, ms_n11, ms_k12, ms_n12, ms_k13, ms_n13, ms_k14, ms_n14, ms_k15, ms_n15, ms_k16, ms_n16, ms_k17, ms_n17, ms_k18, ms_n18, ms_k19, ms_n19, ms_k20, ms_n20, ms_k21, ms_n21, ms_k22, ms_n22, ms_k23, ms_n23, ms_k24, ms_n24, ms_k25, ms_n25, ms_k26, ms_n26, ms_k27, ms_n27, ms_k28, ms_n28, ms_k29, ms_n29, ms_k30, ms_n30, ms_k31, ms_n31, ms_k32, ms_n32, ms_k33, ms_n33, ms_k34, ms_n34, ms_k35, ms_n35, ms_k36, ms_n36, ms_k37, ms_n37, ms_k38, ms_n38, ms_k39, ms_n39, ms_k40, ms_n40, ms_k41, ms_n41, ms_k50, ms_n50, ms_k51, ms_n51, ms_k52, ms_n52, ms_k53, ms_n53, ms_r0_0, ms_r0_6, ms_r2_0, ms_r2_1, ms_r0_7, ms_r5_0, ms_r5_1, ms_r0_8, ms_r8_0, ms_r8_1, ms_r0_9, ms_r11_0, ms_r11_1, ms_r0_10, ms_r14_0, ms_r14_1, ms_r0_11, ms_r17_0, ms_r17_1, ms_r0_12, ms_r20_0, ms_r20_1, ms_r0_13, ms_r23_0, ms_r23_1, ms_r0_14, ms_r0_15, ms_r0_16, ms_r0_17, ms_r0_18, ms_r0_23, ms_r0_24, ms_r0_25, ms_r0_26, ms_r0_30, ms_r0_31, ms_r0_32, ms_r0_35, ms_r0_36, ms_r0_39, ms_r0_40, ms_r0_41, ms_r0_42, ms_r0_43, ms_r0_47, S0, w8, c8, T0, w9, c9, w10, c10, w12, c12, T1, R.2.2.2.1.1, e15, Bool.false_eq_true, decide_eq_true z]
            exact fin
          · have e15 : (20 ≤ nI P.1.np) = True := by rw [e]; exact eq_true (nI_le (by omega) (by omega))
            rw [decide_eq_false z] at fin
            simp only [F_X3_told, chk_true, bnd_some, ob_some, oc_some, oc_none, hl_eq, jn_eq, ix_0, ix_1, if_true, if_false, inb0_2, inb1_2, not_true_eq_false, not_false_eq_true, ite_true, ite_false, true_or, or_true, or_self, zero_eq_one_I, one_eq_zero_I, ms_k0, ms_k1, ms_n1, ms_k2, ms_n2, ms_k3, ms_n3, ms_k4, ms_n4, ms_k5, ms_n5, ms_k6, ms_n6, ms_k7, ms_n7, ms_k8, ms_n8, ms_k9, ms_n9, ms_k10, ms_n10, ms_k11, ms_n11, ms_k12, ms_n12, ms_k13, ms_n13, ms_k14, ms_n14, ms_k15, ms_n15, ms_k16, ms_n16, ms_k17, ms_n17, ms_k18, ms_n18, ms_k19, ms_n19, ms_k20, ms_n20, ms_k21, ms_n21, ms_k22, ms_n22, ms_k23, ms_n23, ms_k24, ms_n24, ms_k25, ms_n25, ms_k26, ms_n26, ms_k27, ms_n27, ms_k28, ms_n28, ms_k29, ms_n29, ms_k30, ms_n30, ms_k31, ms_n31, ms_k32, ms_n32, ms_k33, ms_n33, ms_k34, ms_n34, ms_k35, ms_n35, ms_k36, ms_n36, ms_k37, ms_n37, ms_k38, ms_n38, ms_k39, ms_n39, ms_k40, ms_n40, ms_k41, ms_n41, ms_k50, ms_n50, ms_k51, ms_n51, ms_k52, ms_n52, ms_k53, ms_n53, ms_r0_0, ms_r0_6, ms_r2_0, ms_r2_1, ms_r0_7, ms_r5_0, ms_r5_1, ms_r0_8, ms_r8_0, ms_r8_1, ms_r0_9, ms_r11_0, ms_r11_1, ms_r0_10, ms_r14_0, ms_r14_1, ms_r0_11, ms_r17_0, ms_r17_1, ms_r0_12, ms_r20_0, ms_r20_1, ms_r0_13, ms_r23_0, ms_r23_1, ms_r0_14, ms_r0_15, ms_r0_16, ms_r0_17, ms_r0_18, ms_r0_23, ms_r0_24, ms_r0_25, ms_r0_26, ms_r0_30, ms_r0_31, ms_r0_32, ms_r0_35, ms_r0_36, ms_r0_39, ms_r0_40, ms_r0_41, ms_r0_42, ms_r0_43, ms_r0_47, S0, w8, c8, T0, w9, c9, w10, c10, w12, c12, T1, R.2.2.2.1.1, e15, Bool.false_eq_true, decide_eq_false z]
            exact fin
        · have fin : MO (bnd (F_X3_passes n K m (bI (wdS Z.T Z.tm 13 t && !P.2.2.2.2)) h) fun r55 h56 => if r55 = 0 then some ((0 : Int32), h56) else chk (h56.kind m = 5) <| bnd (F_X3_winRead n K m h56) fun r h' => if r = 0 then some (0, h') else some (1, h')) (PB (passP false Z.T Z.tm (wdS Z.T Z.tm 13 t && !P.2.2.2.2) (wonP P) t) (winP false Z.T Z.tm)) (FM K m Z h0) (fun P' u h' => RM K m Z h0 P' u h') := by
            rcases Bool.eq_false_or_eq_true (wdS Z.T Z.tm 13 t && !P.2.2.2.2) with z | z
            · rw [z]
              refine MO_bnd (m_pass hn R.1 true (wonP P)) (fun p h' q => ⟨h', by simp only [chk_true, bnd_some, ob_some, oc_some, oc_none, hl_eq, jn_eq, ix_0, ix_1, if_true, if_false, inb0_2, inb1_2, not_true_eq_false, not_false_eq_true, ite_true, ite_false, true_or, or_true, or_self, zero_eq_one_I, one_eq_zero_I], q⟩) (fun P' u h' q => ?_)
              obtain ⟨eP, r, p, _⟩ := q
              have k2 := ms_k0 (BM_rd r.1).1
              simp only [chk_true, bnd_some, ob_some, oc_some, oc_none, hl_eq, jn_eq, ix_0, ix_1, if_true, if_false, inb0_2, inb1_2, not_true_eq_false, not_false_eq_true, ite_true, ite_false, true_or, or_true, or_self, zero_eq_one_I, one_eq_zero_I, k2]
              rw [eP]
              have nw : P.2.2.2.2 = false := by
                rw [Bool.and_eq_true] at z
                cases hw : P.2.2.2.2
                · rfl
                · rw [hw] at z; exact absurd z.2 (by decide)
              refine tl (m_winRead hn rfl ⟨r, ?_⟩)
              have q := QRm_kp R.2 p
              have ep : ((wonP P).1, ((wonP P).2.1, (wonP P).2.2.1, (wonP P).2.2.2.1, false)) = P := by
                obtain ⟨p1, p2, p3, p4, p5⟩ := P
                have : p5 = false := nw
                rw [this]; rfl
              rw [ep]
              exact q
            · rw [z]
              obtain ⟨h', e, q⟩ := m_pass (n := n) hn R.1 false P
              exact ⟨h', by rw [e]; rfl, q⟩
          rcases Bool.eq_false_or_eq_true (wdS Z.T Z.tm 13 t) with c13 | c13
          · have e22 : h.I m 22 = bI P.2.2.2.2 := R.2.1.2.2.2
            rcases Bool.eq_false_or_eq_true P.2.2.2.2 with y | y
            · rw [c13, y] at fin
              simp only [F_X3_told, chk_true, bnd_some, ob_some, oc_some, oc_none, hl_eq, jn_eq, ix_0, ix_1, if_true, if_false, inb0_2, inb1_2, not_true_eq_false, not_false_eq_true, ite_true, ite_false, true_or, or_true, or_self, zero_eq_one_I, one_eq_zero_I, ms_k0, ms_k1, ms_n1, ms_k2, ms_n2, ms_k3, ms_n3, ms_k4, ms_n4, ms_k5, ms_n5, ms_k6, ms_n6, ms_k7, ms_n7, ms_k8, ms_n8, ms_k9, ms_n9, ms_k10, ms_n10, ms_k11, ms_n11, ms_k12, ms_n12, ms_k13, ms_n13, ms_k14, ms_n14, ms_k15, ms_n15, ms_k16, ms_n16, ms_k17, ms_n17, ms_k18, ms_n18, ms_k19, ms_n19, ms_k20, ms_n20, ms_k21, ms_n21, ms_k22, ms_n22, ms_k23, ms_n23, ms_k24, ms_n24, ms_k25, ms_n25, ms_k26, ms_n26, ms_k27, ms_n27, ms_k28, ms_n28, ms_k29, ms_n29, ms_k30, ms_n30, ms_k31, ms_n31, ms_k32, ms_n32, ms_k33, ms_n33, ms_k34, ms_n34, ms_k35, ms_n35, ms_k36, ms_n36, ms_k37, ms_n37, ms_k38, ms_n38, ms_k39, ms_n39, ms_k40, ms_n40, ms_k41, ms_n41, ms_k50, ms_n50, ms_k51, ms_n51, ms_k52, ms_n52, ms_k53, ms_n53, ms_r0_0, ms_r0_6, ms_r2_0, ms_r2_1, ms_r0_7, ms_r5_0, ms_r5_1, ms_r0_8, ms_r8_0, ms_r8_1, ms_r0_9, ms_r11_0, ms_r11_1, ms_r0_10, ms_r14_0, ms_r14_1, ms_r0_11, ms_r17_0, ms_r17_1, ms_r0_12, ms_r20_0, ms_r20_1, ms_r0_13, ms_r23_0, ms_r23_1, ms_r0_14, ms_r0_15, ms_r0_16, ms_r0_17, ms_r0_18, ms_r0_23, ms_r0_24, ms_r0_25, ms_r0_26, ms_r0_30, ms_r0_31, ms_r0_32, ms_r0_35, ms_r0_36, ms_r0_39, ms_r0_40, ms_r0_41, ms_r0_42, ms_r0_43, ms_r0_47, S0, w8, c8, T0, w9, c9, w10, c10, w12, c12, w13, c13, T1, e22, y, Bool.false_eq_true, Bool.and_false, Bool.not_true]
              exact fin
            · rw [c13, y] at fin
              simp only [F_X3_told, chk_true, bnd_some, ob_some, oc_some, oc_none, hl_eq, jn_eq, ix_0, ix_1, if_true, if_false, inb0_2, inb1_2, not_true_eq_false, not_false_eq_true, ite_true, ite_false, true_or, or_true, or_self, zero_eq_one_I, one_eq_zero_I, ms_k0, ms_k1, ms_n1, ms_k2, ms_n2, ms_k3, ms_n3, ms_k4, ms_n4, ms_k5, ms_n5, ms_k6, ms_n6, ms_k7, ms_n7, ms_k8, ms_n8, ms_k9, ms_n9, ms_k10, ms_n10, ms_k11, ms_n11, ms_k12, ms_n12, ms_k13, ms_n13, ms_k14, ms_n14, ms_k15, ms_n15, ms_k16, ms_n16, ms_k17, ms_n17, ms_k18, ms_n18, ms_k19, ms_n19, ms_k20, ms_n20, ms_k21, ms_n21, ms_k22, ms_n22, ms_k23, ms_n23, ms_k24, ms_n24, ms_k25, ms_n25, ms_k26, ms_n26, ms_k27, ms_n27, ms_k28, ms_n28, ms_k29, ms_n29, ms_k30, ms_n30, ms_k31, ms_n31, ms_k32, ms_n32, ms_k33, ms_n33, ms_k34, ms_n34, ms_k35, ms_n35, ms_k36, ms_n36, ms_k37, ms_n37, ms_k38, ms_n38, ms_k39, ms_n39, ms_k40, ms_n40, ms_k41, ms_n41, ms_k50, ms_n50, ms_k51, ms_n51, ms_k52, ms_n52, ms_k53, ms_n53, ms_r0_0, ms_r0_6, ms_r2_0, ms_r2_1, ms_r0_7, ms_r5_0, ms_r5_1, ms_r0_8, ms_r8_0, ms_r8_1, ms_r0_9, ms_r11_0, ms_r11_1, ms_r0_10, ms_r14_0, ms_r14_1, ms_r0_11, ms_r17_0, ms_r17_1, ms_r0_12, ms_r20_0, ms_r20_1, ms_r0_13, ms_r23_0, ms_r23_1, ms_r0_14, ms_r0_15, ms_r0_16, ms_r0_17, ms_r0_18, ms_r0_23, ms_r0_24, ms_r0_25, ms_r0_26, ms_r0_30, ms_r0_31, ms_r0_32, ms_r0_35, ms_r0_36, ms_r0_39, ms_r0_40, ms_r0_41, ms_r0_42, ms_r0_43, ms_r0_47, S0, w8, c8, T0, w9, c9, w10, c10, w12, c12, w13, c13, T1, e22, y, Bool.false_eq_true, Bool.not_false, Bool.and_true]
              exact fin
          · rw [c13] at fin
            simp only [F_X3_told, chk_true, bnd_some, ob_some, oc_some, oc_none, hl_eq, jn_eq, ix_0, ix_1, if_true, if_false, inb0_2, inb1_2, not_true_eq_false, not_false_eq_true, ite_true, ite_false, true_or, or_true, or_self, zero_eq_one_I, one_eq_zero_I, ms_k0, ms_k1, ms_n1, ms_k2, ms_n2, ms_k3, ms_n3, ms_k4, ms_n4, ms_k5, ms_n5, ms_k6, ms_n6, ms_k7, ms_n7, ms_k8, ms_n8, ms_k9, ms_n9, ms_k10, ms_n10, ms_k11, ms_n11, ms_k12, ms_n12, ms_k13, ms_n13, ms_k14, ms_n14, ms_k15, ms_n15, ms_k16, ms_n16, ms_k17, ms_n17, ms_k18, ms_n18, ms_k19, ms_n19, ms_k20, ms_n20, ms_k21, ms_n21, ms_k22, ms_n22, ms_k23, ms_n23, ms_k24, ms_n24, ms_k25, ms_n25, ms_k26, ms_n26, ms_k27, ms_n27, ms_k28, ms_n28, ms_k29, ms_n29, ms_k30, ms_n30, ms_k31, ms_n31, ms_k32, ms_n32, ms_k33, ms_n33, ms_k34, ms_n34, ms_k35, ms_n35, ms_k36, ms_n36, ms_k37, ms_n37, ms_k38, ms_n38, ms_k39, ms_n39, ms_k40, ms_n40, ms_k41, ms_n41, ms_k50, ms_n50, ms_k51, ms_n51, ms_k52, ms_n52, ms_k53, ms_n53, ms_r0_0, ms_r0_6, ms_r2_0, ms_r2_1, ms_r0_7, ms_r5_0, ms_r5_1, ms_r0_8, ms_r8_0, ms_r8_1, ms_r0_9, ms_r11_0, ms_r11_1, ms_r0_10, ms_r14_0, ms_r14_1, ms_r0_11, ms_r17_0, ms_r17_1, ms_r0_12, ms_r20_0, ms_r20_1, ms_r0_13, ms_r23_0, ms_r23_1, ms_r0_14, ms_r0_15, ms_r0_16, ms_r0_17, ms_r0_18, ms_r0_23, ms_r0_24, ms_r0_25, ms_r0_26, ms_r0_30, ms_r0_31, ms_r0_32, ms_r0_35, ms_r0_36, ms_r0_39, ms_r0_40, ms_r0_41, ms_r0_42, ms_r0_43, ms_r0_47, S0, w8, c8, T0, w9, c9, w10, c10, w12, c12, w13, c13, Bool.false_eq_true, Bool.false_and]
            exact fin
