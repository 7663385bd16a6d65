/-! PURE PART SQ: the model's reading: the sentences -/
set_option maxRecDepth 100000
def QRm (m : Nat) (g : Nat → Nat → Int32) (P : PSt) : Prop :=
  (g m 19 = nI P.2.1 ∧ g m 20 = P.2.2.1 ∧ g m 21 = P.2.2.2.1 ∧ g m 22 = bI P.2.2.2.2) ∧
  (g (m + 26) 1 = nI P.1.nv ∧ P.1.nv ≤ 15 ∧ ∀ v, v < P.1.nv → g (m + 4) v = P.1.V v 0 ∧ g (m + 7) v = P.1.V v 1 ∧ g (m + 10) v = P.1.V v 2 ∧ g (m + 13) v = P.1.V v 3 ∧ g (m + 16) v = P.1.V v 4 ∧ g (m + 19) v = P.1.V v 5) ∧
  (g (m + 27) 1 = nI P.1.np ∧ P.1.np ≤ 20 ∧ ∀ p, p < P.1.np → g (m + 22) p = P.1.P p 0 ∧ g (m + 25) p = P.1.P p 1) ∧
  (g (m + 28) 1 = P.1.bk ∧ g (m + 29) 1 = P.1.bp ∧ g (m + 30) 1 = P.1.bw)
theorem QRm_of {m : Nat} {g g' : Nat → Nat → Int32} {P : PSt} (Q : QRm m g P) (e0 : ∀ j, 19 ≤ j → j ≤ 22 → g' m j = g m j) (ev : ∀ i, i ≤ 19 → 4 ≤ i → ∀ v, v < P.1.nv → g' (m + i) v = g (m + i) v) (ep : ∀ i, i ≤ 25 → 22 ≤ i → ∀ v, v < P.1.np → g' (m + i) v = g (m + i) v) (e1 : ∀ i, 26 ≤ i → i ≤ 30 → g' (m + i) 1 = g (m + i) 1) : QRm m g' P := by
  obtain ⟨⟨a1, a2, a3, a4⟩, ⟨b1, b2, b3⟩, ⟨c1, c2, c3⟩, d1, d2, d3⟩ := Q
  refine ⟨⟨?_, ?_, ?_, ?_⟩, ⟨?_, b2, fun v hv => ?_⟩, ⟨?_, c2, fun p hp => ?_⟩, ?_, ?_, ?_⟩
  · rw [e0 19 (by omega) (by omega)]; exact a1
  · rw [e0 20 (by omega) (by omega)]; exact a2
  · rw [e0 21 (by omega) (by omega)]; exact a3
  · rw [e0 22 (by omega) (by omega)]; exact a4
  · rw [e1 26 (by omega) (by omega)]; exact b1
  · rw [ev 4 (by omega) (by omega) v hv, ev 7 (by omega) (by omega) v hv, ev 10 (by omega) (by omega) v hv, ev 13 (by omega) (by omega) v hv, ev 16 (by omega) (by omega) v hv, ev 19 (by omega) (by omega) v hv]; exact b3 v hv
  · rw [e1 27 (by omega) (by omega)]; exact c1
  · rw [ep 22 (by omega) (by omega) p hp, ep 25 (by omega) (by omega) p hp]; exact c3 p hp
  · rw [e1 28 (by omega) (by omega)]; exact d1
  · rw [e1 29 (by omega) (by omega)]; exact d2
  · rw [e1 30 (by omega) (by omega)]; exact d3
theorem QRm_kp {m : Nat} {h h' : AH} {P : PSt} (Q : QRm m h.I P) (k : Kp m h h') : QRm m h'.I P :=
  QRm_of Q (fun j h1 h2 => k _ _ (by omega)) (fun i h1 h2 v hv => k _ _ (by omega)) (fun i h1 h2 v hv => k _ _ (by omega)) (fun i h1 h2 => k _ _ (by omega))
theorem QRm_0 {m : Nat} {g g' : Nat → Nat → Int32} {P : PSt} (Q : QRm m g P) (o : ∀ a j, a ≠ m → g' a j = g a j) {q : Nat × Int32 × Int32 × Bool} (h : g' m 19 = nI q.1 ∧ g' m 20 = q.2.1 ∧ g' m 21 = q.2.2.1 ∧ g' m 22 = bI q.2.2.2) : QRm m g' (P.1, q) := by
  obtain ⟨_, b, c, d⟩ := Q
  have r : ∀ i, 0 < i → g' (m + i) = g (m + i) := fun i hi => funext fun j => o _ j (by omega)
  refine ⟨h, ?_, ?_, ?_⟩
  · rw [r 26 (by omega), r 4 (by omega), r 7 (by omega), r 10 (by omega), r 13 (by omega), r 16 (by omega), r 19 (by omega)]; exact b
  · rw [r 27 (by omega), r 22 (by omega), r 25 (by omega)]; exact c
  · rw [r 28 (by omega), r 29 (by omega), r 30 (by omega)]; exact d
theorem TM_set {K : Nat → Nat} {m : Nat} {Z : Zt} {h0 h : AH} {t : Tk} (R : TM K m Z h0 h t) {a j : Nat} (v : Int32) (d : PkM m a j) (o : a = m → 5 ≤ j) : TM K m Z h0 (h.setI a j v) t := by
  obtain ⟨B, r4, r2, r3, tk⟩ := R
  refine ⟨BM_set B v d, ?_, ?_, ?_, tk⟩
  · rw [setI_O (fun z => by have := o z.1.symm; omega)]; exact r4
  · rw [setI_O (fun z => by have := o z.1.symm; omega)]; exact r2
  · rw [setI_O (fun z => by have := o z.1.symm; omega)]; exact r3
/-- state and token -/
def RM (K : Nat → Nat) (m : Nat) (Z : Zt) (h0 : AH) (P : PSt) (t : Tk) (h : AH) : Prop := TM K m Z h0 h t ∧ QRm m h.I P
theorem MO_tail {β : Type} {o : Option (Int32 × AH)} {sp : Rs β} {Fl : Nat → AH → Prop} {Ok : β → Tk → AH → Prop} {f : Int32 → AH → Option (Int32 × AH)} (H : MO o sp Fl Ok) (h0 : ∀ h', f 0 h' = some (0, h')) (h1 : ∀ h', f 1 h' = some (1, h')) : MO (bnd o f) sp Fl Ok := by
  rcases sp with p | ⟨b, u⟩
  · obtain ⟨h', e, q⟩ := H
    exact ⟨h', by rw [e]; exact h0 h', q⟩
  · obtain ⟨h', e, q⟩ := H
    exact ⟨h', by rw [e]; exact h1 h', q⟩
theorem m_pass1 {n : Nat} {K : Nat → Nat} {m : Nat} {Z : Zt} {h0 h : AH} {t : Tk} {P : PSt} (hn : 20000 < n) (R : RM K m Z h0 P t h) (ok : Bool) : MO (F_X3_passes n K m (bI ok) h) (passP false Z.T Z.tm ok P t) (FM K m Z h0) (fun P' u h' => RM K m Z h0 P' u h') :=
  MO_imp (m_pass hn R.1 ok P) (fun _ _ q => q) (fun b u h' q => by rw [q.1]; exact ⟨q.2.1, QRm_kp R.2 q.2.2.1⟩)
theorem m_semi {n : Nat} {K : Nat → Nat} {m : Nat} {Z : Zt} {h0 h : AH} {t : Tk} {P : PSt} (hn : 20000 < n) (R : RM K m Z h0 P t h) : MO (F_X3_passes n K m (bI (sgT Z.T Z.tm 59 t)) h) (semiP false Z.T Z.tm P t) (FM K m Z h0) (fun P' u h' => RM K m Z h0 P' u h') := m_pass1 hn R _
theorem passP_me {c : Bool} {T : Nat → Int32} {tm : Nat} {β : Type} {b b' : β} {t : Tk} {ok : Bool} (e : ok = true → b = b') : passP c T tm ok b t = passP c T tm ok b' t := by
  cases ok
  · rfl
  · rw [e rfl]
/-! near -/
theorem wd_len {T : Nat → Int32} {tm i : Nat} {t : Tk} (hi : i < 8) (h4 : 4 ≤ i) (h : wdS T tm i t = true) : t.2 - t.1 = sLn i ∧ T t.1 = sBt i 0 := by
  have l := lt_all i (by omega) h4
  unfold wdS at h
  rw [Bool.and_eq_true, Bool.and_eq_true, Bool.not_eq_true', decide_eq_true_eq, decide_eq_true_eq] at h
  refine ⟨h.2.1, ?_⟩
  apply Classical.byContradiction
  intro z
  have : anyS (fun j => !decide (T (t.1 + j) = sBt i j)) (sLn i) = true := anyS_iff.2 ⟨0, l.1, by simp only [Bool.not_eq_true', decide_eq_false_iff_not]; exact z⟩
  rw [h.2.2] at this; cases this
theorem wd_one {T : Nat → Int32} {tm i j : Nat} {t : Tk} (hi : i < 4) (hj : j < 4) (h1 : wdS T tm (4 + i) t = true) (h2 : wdS T tm (4 + j) t = true) : i = j := by
  have key : ∀ i j : Fin 4, sLn (4 + i.1) = sLn (4 + j.1) → sBt (4 + i.1) 0 = sBt (4 + j.1) 0 → i = j := by decide
  obtain ⟨a1, a2⟩ := wd_len (by omega) (by omega) h1
  obtain ⟨b1, b2⟩ := wd_len (by omega) (by omega) h2
  have := key ⟨i, hi⟩ ⟨j, hj⟩ (by rw [← a1, ← b1]) (by rw [← a2, ← b2])
  exact Fin.mk.inj_iff.1 this
theorem me_fold {T : Nat → Int32} {tm : Nat} {t : Tk} : foldS (fun k (s : Int32) => if wdS T tm (4 + k) t = true then nI k else s) (-1) 4 = selS (meT T tm t) nI (-1) := by
  cases hf : meT T tm t with
  | none =>
    unfold meT at hf
    have no := findS_none hf
    show (if wdS T tm (4 + 3) t = true then nI 3 else if wdS T tm (4 + 2) t = true then nI 2 else if wdS T tm (4 + 1) t = true then nI 1 else if wdS T tm (4 + 0) t = true then nI 0 else -1) = -1
    rw [no 0 (by omega) (by omega), no 1 (by omega) (by omega), no 2 (by omega) (by omega), no 3 (by omega) (by omega)]
    rfl
  | some k =>
    unfold meT at hf
    obtain ⟨k0, k1, k2, k3⟩ := findS_some hf
    have ne : ∀ j, j < 4 → j ≠ k → wdS T tm (4 + j) t = false := by
      intro j hj d
      cases hw : wdS T tm (4 + j) t
      · rfl
      · exact absurd (wd_one hj (by omega) hw k2) d
    show (if wdS T tm (4 + 3) t = true then nI 3 else if wdS T tm (4 + 2) t = true then nI 2 else if wdS T tm (4 + 1) t = true then nI 1 else if wdS T tm (4 + 0) t = true then nI 0 else -1) = nI k
    have : k = 0 ∨ k = 1 ∨ k = 2 ∨ k = 3 := by omega
    rcases this with z | z | z | z
    · subst z; rw [ne 1 (by omega) (by omega), ne 2 (by omega) (by omega), ne 3 (by omega) (by omega), k2]; rfl
    · subst z; rw [ne 2 (by omega) (by omega), ne 3 (by omega) (by omega), k2]; rfl
    · subst z; rw [ne 3 (by omega) (by omega), k2]; rfl
    · subst z; rw [k2]; rfl
theorem me_lt {T : Nat → Int32} {tm k : Nat} {t : Tk} (h : meT T tm t = some k) : k < 4 := by
  unfold meT at h
  have := findS_some h
  omega
theorem m_near {n : Nat} {K : Nat → Nat} {m : Nat} {Z : Zt} {h0 h : AH} {t : Tk} {P : PSt} (hn : 20000 < n) (R : RM K m Z h0 P t h) : MO (F_X3_near n K m h) (nearP false Z.T Z.tm P t) (FM K m Z h0) (fun P' u h' => RM K m Z h0 P' u h') := by
  have B := R.1.1
  have H := BM_rd B
  have key := loopF (fun f i (s : Int32) => F_X3_near_L4 n K m f i s h) 4 (fun k (s : Int32) => if wdS Z.T Z.tm (4 + k) t = true then nI k else s) (fun s => F_X3_near_L4 n K m 1 4 s h) (-1)
    (by
      intro f k s hk
      have e1 : (4 ≤ nI k) = False := by rw [show (4 : Int32) = nI 4 from rfl]; exact eq_false (nI_ge hk (by omega))
      have e2 : inb (nI k) 4 = True := eq_true ((inb_nI (by omega)).2 hk)
      have e3 : ix (nI k) = k := ix_nI (by omega)
      have e4 : h.R (m + 31) k = some (K ((4 + k) + 1)) := by rw [B.2.2.2.1 k hk]; congr 2; omega
      have w := m_word (n := n) hn R.1 (i := 4 + k) (by omega)
      rcases Bool.eq_false_or_eq_true (wdS Z.T Z.tm (4 + k) t) with c | c
      · have t1 : (bI true = 0) = False := eq_false (by decide)
        simp only [F_X3_near_L4, chk_true, bnd_some, ob_some, oc_some, oc_none, hl_eq, jn_eq, ix_0, ix_1, if_true, if_false, inb0_2, inb1_2, not_true_eq_false, not_false_eq_true, ite_true, ite_false, true_or, or_true, or_self, zero_eq_one_I, one_eq_zero_I, ms_k0, ms_k1, ms_n1, ms_k2, ms_n2, ms_k3, ms_n3, ms_k4, ms_n4, ms_k5, ms_n5, ms_k6, ms_n6, ms_k7, ms_n7, ms_k8, ms_n8, ms_k9, ms_n9, ms_k10, ms_n10, ms_k11, ms_n11, ms_k12, ms_n12, ms_k13, ms_n13, ms_k14, ms_n14, ms_k15, ms_n15, ms_k16, ms_n16, ms_k17, ms_n17, ms_k18, ms_n18, ms_k19, ms_n19, ms_k20, ms_n20, ms_k21, ms_n21, ms_k22, ms_n22, ms_k23, ms_n23, ms_k24, ms_n24, ms_k25, ms_n25, ms_k26, ms_n26, ms_k27, ms_n27, ms_k28, ms_n28, ms_k29, ms_n29, ms_k30, ms_n30, ms_k31, ms_n31, ms_k32, ms_n32, ms_k33, ms_n33, ms_k34, ms_n34, ms_k35, ms_n35, ms_k36, ms_n36, ms_k37, ms_n37, ms_k38, ms_n38, ms_k39, ms_n39, ms_k40, ms_n40, ms_k41, ms_n41, ms_k50, ms_n50, ms_k51, ms_n51, ms_k52, ms_n52, ms_k53, ms_n53, ms_r0_0, ms_r0_6, ms_r2_0, ms_r2_1, ms_r0_7, ms_r5_0, ms_r5_1, ms_r0_8, ms_r8_0, ms_r8_1, ms_r0_9, ms_r11_0, ms_r11_1, ms_r0_10, ms_r14_0, ms_r14_1, ms_r0_11, ms_r17_0, ms_r17_1, ms_r0_12, ms_r20_0, ms_r20_1, ms_r0_13, ms_r23_0, ms_r23_1, ms_r0_14, ms_r0_15, ms_r0_16, ms_r0_17, ms_r0_18, ms_r0_23, ms_r0_24, ms_r0_25, ms_r0_26, ms_r0_30, ms_r0_31, ms_r0_32, ms_r0_35, ms_r0_36, ms_r0_39, ms_r0_40, ms_r0_41, ms_r0_42, ms_r0_43, ms_r0_47, H.1, e1, e2, e3, e4, w, c, t1, nI_1]
      · have t1 : (bI false = 0) = True := eq_true (by decide)
        simp only [F_X3_near_L4, chk_true, bnd_some, ob_some, oc_some, oc_none, hl_eq, jn_eq, ix_0, ix_1, if_true, if_false, inb0_2, inb1_2, not_true_eq_false, not_false_eq_true, ite_true, ite_false, true_or, or_true, or_self, zero_eq_one_I, one_eq_zero_I, ms_k0, ms_k1, ms_n1, ms_k2, ms_n2, ms_k3, ms_n3, ms_k4, ms_n4, ms_k5, ms_n5, ms_k6, ms_n6, ms_k7, ms_n7, ms_k8, ms_n8, ms_k9, ms_n9, ms_k10, ms_n10, ms_k11, ms_n11, ms_k12, ms_n12, ms_k13, ms_n13, ms_k14, ms_n14, ms_k15, ms_n15, ms_k16, ms_n16, ms_k17, ms_n17, ms_k18, ms_n18, ms_k19, ms_n19, ms_k20, ms_n20, ms_k21, ms_n21, ms_k22, ms_n22, ms_k23, ms_n23, ms_k24, ms_n24, ms_k25, ms_n25, ms_k26, ms_n26, ms_k27, ms_n27, ms_k28, ms_n28, ms_k29, ms_n29, ms_k30, ms_n30, ms_k31, ms_n31, ms_k32, ms_n32, ms_k33, ms_n33, ms_k34, ms_n34, ms_k35, ms_n35, ms_k36, ms_n36, ms_k37, ms_n37, ms_k38, ms_n38, ms_k39, ms_n39, ms_k40, ms_n40, ms_k41, ms_n41, ms_k50, ms_n50, ms_k51, ms_n51, ms_k52, ms_n52, ms_k53, ms_n53, ms_r0_0, ms_r0_6, ms_r2_0, ms_r2_1, ms_r0_7, ms_r5_0, ms_r5_1, ms_r0_8, ms_r8_0, ms_r8_1, ms_r0_9, ms_r11_0, ms_r11_1, ms_r0_10, ms_r14_0, ms_r14_1, ms_r0_11, ms_r17_0, ms_r17_1, ms_r0_12, ms_r20_0, ms_r20_1, ms_r0_13, ms_r23_0, ms_r23_1, ms_r0_14, ms_r0_15, ms_r0_16, ms_r0_17, ms_r0_18, ms_r0_23, ms_r0_24, ms_r0_25, ms_r0_26, ms_r0_30, ms_r0_31, ms_r0_32, ms_r0_35, ms_r0_36, ms_r0_39, ms_r0_40, ms_r0_41, ms_r0_42, ms_r0_43, ms_r0_47, H.1, e1, e2, e3, e4, w, c, t1, nI_1, Bool.false_eq_true])
    (by
      intro f s
      have e1 : ((4 : Int32) ≤ nI 4) = True := eq_true (by decide)
      have e2 : ((4 : Int32) ≤ 4) = True := eq_true (by decide)
      simp only [F_X3_near_L4, chk_true, bnd_some, ob_some, oc_some, oc_none, hl_eq, ix_0, ix_1, if_true, if_false, inb0_2, inb1_2, not_true_eq_false, not_false_eq_true, ite_true, ite_false, true_or, or_true, or_self, zero_eq_one_I, one_eq_zero_I, ms_k0, ms_k1, ms_n1, ms_k2, ms_n2, ms_k3, ms_n3, ms_k4, ms_n4, ms_k5, ms_n5, ms_k6, ms_n6, ms_k7, ms_n7, ms_k8, ms_n8, ms_k9, ms_n9, ms_k10, ms_n10, ms_k11, ms_n11, ms_k12, ms_n12, ms_k13, ms_n13, ms_k14, ms_n14, ms_k15, ms_n15, ms_k16, ms_n16, ms_k17, ms_n17, ms_k18, ms_n18, ms_k19, ms_n19, ms_k20, ms_n20, ms_k21, ms_n21, ms_k22, ms_n22, ms_k23, ms_n23, ms_k24, ms_n24, ms_k25, ms_n25, ms_k26, ms_n26, ms_k27, ms_n27, ms_k28, ms_n28, ms_k29, ms_n29, ms_k30, ms_n30, ms_k31, ms_n31, ms_k32, ms_n32, ms_k33, ms_n33, ms_k34, ms_n34, ms_k35, ms_n35, ms_k36, ms_n36, ms_k37, ms_n37, ms_k38, ms_n38, ms_k39, ms_n39, ms_k40, ms_n40, ms_k41, ms_n41, ms_k50, ms_n50, ms_k51, ms_n51, ms_k52, ms_n52, ms_k53, ms_n53, ms_r0_0, ms_r0_6, ms_r2_0, ms_r2_1, ms_r0_7, ms_r5_0, ms_r5_1, ms_r0_8, ms_r8_0, ms_r8_1, ms_r0_9, ms_r11_0, ms_r11_1, ms_r0_10, ms_r14_0, ms_r14_1, ms_r0_11, ms_r17_0, ms_r17_1, ms_r0_12, ms_r20_0, ms_r20_1, ms_r0_13, ms_r23_0, ms_r23_1, ms_r0_14, ms_r0_15, ms_r0_16, ms_r0_17, ms_r0_18, ms_r0_23, ms_r0_24, ms_r0_25, ms_r0_26, ms_r0_30, ms_r0_31, ms_r0_32, ms_r0_35, ms_r0_36, ms_r0_39, ms_r0_40, ms_r0_41, ms_r0_42, ms_r0_43, ms_r0_47, H.1, e1, e2]) n (by omega)
  rw [me_fold] at key
  rw [F_X3_near]
  rw [show F_X3_near_L4 n K m n 0 (-1) h = _ from key]
  have e2 : ((4 : Int32) ≤ 4) = True := eq_true (by decide)
  have k0 := ms_k0 H.1
  unfold nearP
  cases hm : meT Z.T Z.tm t with
  | none =>
    have R1 : TM K m Z h0 (h.setI m 19 (-1)) t := TM_set R.1 _ (Or.inl ⟨rfl, by omega⟩) (by omega)
    have P1 := m_pass (n := n) hn R1 false P
    have tt : ((-1 : Int32) = -1) = True := eq_true rfl
    simp only [selS, F_X3_near_L4, chk_true, bnd_some, ob_some, oc_some, oc_none, hl_eq, jn_eq, ix_0, ix_1, if_true, if_false, inb0_2, inb1_2, not_true_eq_false, not_false_eq_true, ite_true, ite_false, true_or, or_true, or_self, zero_eq_one_I, one_eq_zero_I, k0, e2, tt, Option.isSome_none, AH.kind_setI]
    obtain ⟨h', e, q⟩ := P1
    have e' : F_X3_passes n K m 0 (h.setI m 19 (-1)) = some (0, h') := e
    refine ⟨h', ?_, q⟩
    simp only [e', chk_true, bnd_some, ob_some, oc_some, oc_none, hl_eq, jn_eq, ix_0, ix_1, if_true, if_false, inb0_2, inb1_2, not_true_eq_false, not_false_eq_true, ite_true, ite_false, true_or, or_true, or_self, zero_eq_one_I, one_eq_zero_I]
  | some k =>
    have k4 := me_lt hm
    have R1 : TM K m Z h0 (h.setI m 19 (nI k)) t := TM_set R.1 _ (Or.inl ⟨rfl, by omega⟩) (by omega)
    have Q1 : QRm m (h.setI m 19 (nI k)).I (P.1, (k, P.2.2)) := by
      obtain ⟨a1, a2, a3, a4⟩ := R.2.1
      exact QRm_0 R.2 (fun b j z => setI_O (by omega)) ⟨setI_I _ _ _ _, by rw [setI_O (by omega)]; exact a2, by rw [setI_O (by omega)]; exact a3, by rw [setI_O (by omega)]; exact a4⟩
    have P1 := m_pass1 (n := n) hn ⟨R1, Q1⟩ true
    have tt : (nI k = -1) = False := nI_m1 (by omega)
    simp only [selS, F_X3_near_L4, chk_true, bnd_some, ob_some, oc_some, oc_none, hl_eq, jn_eq, ix_0, ix_1, if_true, if_false, inb0_2, inb1_2, not_true_eq_false, not_false_eq_true, ite_true, ite_false, true_or, or_true, or_self, zero_eq_one_I, one_eq_zero_I, k0, e2, tt, Option.isSome_some, Option.getD_some, AH.kind_setI]
    refine MO_bnd (f := fun r11 h12 => _) (show MO (F_X3_passes n K m 1 (h.setI m 19 (nI k))) _ _ _ from P1) (fun p h' q => ⟨h', by simp only [chk_true, bnd_some, ob_some, oc_some, oc_none, hl_eq, jn_eq, ix_0, ix_1, if_true, if_false, inb0_2, inb1_2, not_true_eq_false, not_false_eq_true, ite_true, ite_false, true_or, or_true, or_self, zero_eq_one_I, one_eq_zero_I], q⟩) (fun b u h' q => ?_)
    have k1 := ms_k0 (BM_rd q.1.1).1
    simp only [chk_true, bnd_some, ob_some, oc_some, oc_none, hl_eq, jn_eq, ix_0, ix_1, if_true, if_false, inb0_2, inb1_2, not_true_eq_false, not_false_eq_true, ite_true, ite_false, true_or, or_true, or_self, zero_eq_one_I, one_eq_zero_I, k1, m_isSign q.1]
    exact MO_tail (m_semi hn q) (fun h' => by simp only [chk_true, bnd_some, ob_some, oc_some, oc_none, hl_eq, jn_eq, ix_0, ix_1, if_true, if_false, inb0_2, inb1_2, not_true_eq_false, not_false_eq_true, ite_true, ite_false, true_or, or_true, or_self, zero_eq_one_I, one_eq_zero_I]) (fun h' => by simp only [chk_true, bnd_some, ob_some, oc_some, oc_none, hl_eq, jn_eq, ix_0, ix_1, if_true, if_false, inb0_2, inb1_2, not_true_eq_false, not_false_eq_true, ite_true, ite_false, true_or, or_true, or_self, zero_eq_one_I, one_eq_zero_I])
