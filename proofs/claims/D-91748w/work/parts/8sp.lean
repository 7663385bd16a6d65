/-! PURE PART SP: the model's reading: what stays, tokens, numbers -/
set_option maxRecDepth 100000
/-- where the model's reading writes -/
def PkM (m a j : Nat) : Prop := (a = m ∧ (j = 2 ∨ j = 3 ∨ j = 4 ∨ j = 5 ∨ j = 19 ∨ j = 20 ∨ j = 21 ∨ j = 22)) ∨ (a = m + 4 ∨ a = m + 7 ∨ a = m + 10 ∨ a = m + 13 ∨ a = m + 16 ∨ a = m + 19 ∨ a = m + 22 ∨ a = m + 25) ∨ ((m + 26 ≤ a ∧ a ≤ m + 30) ∧ j = 1)
theorem PkM_w {m a j : Nat} (z : PkM m a j) : RgW m a j ∧ a ≠ m + 31 := by
  have h1 : ∀ p, p ∈ mRs → (p.1 ≠ 4 ∧ p.1 ≠ 7 ∧ p.1 ≠ 10 ∧ p.1 ≠ 13 ∧ p.1 ≠ 16 ∧ p.1 ≠ 19 ∧ p.1 ≠ 22 ∧ p.1 ≠ 25) ∧ (p.1 ≠ 26 ∧ p.1 ≠ 27 ∧ p.1 ≠ 28 ∧ p.1 ≠ 29 ∧ p.1 ≠ 30) ∧ (p.1 = 0 → p.2.1 ≠ 2 ∧ p.2.1 ≠ 3 ∧ p.2.1 ≠ 4 ∧ p.2.1 ≠ 5 ∧ p.2.1 ≠ 19 ∧ p.2.1 ≠ 20 ∧ p.2.1 ≠ 21 ∧ p.2.1 ≠ 22) := by decide
  unfold PkM at z
  refine ⟨⟨⟨by omega, by omega⟩, fun p hp w => ?_⟩, by omega⟩
  obtain ⟨a1, a2, a3⟩ := h1 p hp
  rcases z with z | z | z
  · have := a3 (by omega); omega
  · omega
  · omega
theorem InvM_pk {m : Nat} {h : AH} {Z : Zt} (I : InvM m h Z) (bz : Z.nm ≤ 40) {a j : Nat} (v : Int32) (d : PkM m a j) : InvM m (h.setI a j v) Z := by
  obtain ⟨M, m2, m3, m4⟩ := I
  have o : ∀ b k, ¬ PkM m b k → (h.setI a j v).I b k = h.I b k := fun b k z => setI_O (fun w => z (by rw [w.1, w.2]; exact d))
  have rI : ∀ i, 0 < i → i < 38 → (i ≠ 4 ∧ i ≠ 7 ∧ i ≠ 10 ∧ i ≠ 13 ∧ i ≠ 16 ∧ i ≠ 19 ∧ i ≠ 22 ∧ i ≠ 25) → (i < 26 ∨ 30 < i) → (h.setI a j v).I (m + i) = h.I (m + i) := fun i i0 i1 i2 i3 => funext fun k => o _ _ (fun z => by unfold PkM at z; omega)
  have r0 : ∀ k, (k ≠ 2 ∧ k ≠ 3 ∧ k ≠ 4 ∧ k ≠ 5 ∧ k ≠ 19 ∧ k ≠ 20 ∧ k ≠ 21 ∧ k ≠ 22) → (h.setI a j v).I m k = h.I m k := fun k hk => o _ _ (fun z => by unfold PkM at z; omega)
  have r1 : ∀ i, 26 ≤ i → i ≤ 30 → (h.setI a j v).I (m + i) 0 = h.I (m + i) 0 := fun i i0 i1 => o _ _ (fun z => by unfold PkM at z; omega)
  refine ⟨⟨M.1, ?_, ?_, ?_⟩, ⟨?_, ?_⟩, ⟨?_, ?_⟩, ?_⟩
  · unfold MV; rw [r1 26 (by omega) (by omega), rI 3 (by omega) (by omega) (by omega) (by omega), rI 6 (by omega) (by omega) (by omega) (by omega), rI 9 (by omega) (by omega) (by omega) (by omega), rI 12 (by omega) (by omega) (by omega) (by omega), rI 15 (by omega) (by omega) (by omega) (by omega), rI 18 (by omega) (by omega) (by omega) (by omega)]; exact M.2.1
  · unfold MP; rw [r1 27 (by omega) (by omega), rI 21 (by omega) (by omega) (by omega) (by omega), rI 24 (by omega) (by omega) (by omega) (by omega)]; exact M.2.2.1
  · unfold MB; rw [r1 28 (by omega) (by omega), r1 29 (by omega) (by omega), r1 30 (by omega) (by omega)]; exact M.2.2.2
  · rw [r0 48 (by omega)]; exact m2.1
  · intro k hk j' hj
    rw [o (m + 54 + k) j' (fun z => by unfold PkM at z; omega)]
    exact m2.2 k hk j' hj
  · rw [r0 1 (by omega)]; exact m3.1
  · intro j' hj; rw [rI 1 (by omega) (by omega) (by omega) (by omega)]; exact m3.2 j' hj
  · unfold MCa M3I M3L
    rw [r0 29 (by omega), r0 27 (by omega), r0 28 (by omega), rI 32 (by omega) (by omega) (by omega) (by omega), rI 33 (by omega) (by omega) (by omega) (by omega), rI 34 (by omega) (by omega) (by omega) (by omega)]
    exact m4
/-- the model while it reads -/
def BM (K : Nat → Nat) (m : Nat) (Z : Zt) (h0 h : AH) : Prop := Fr 0 0 (fun a j => RgW m a j ∧ a ≠ m + 31) h0 h ∧ InvM m h Z ∧ CK K h ∧ (∀ j, j < 4 → h.R (m + 31) j = some (K (5 + j))) ∧ Z.tm ≤ 600 ∧ Z.nm ≤ 40
theorem BM_set {K : Nat → Nat} {m : Nat} {Z : Zt} {h0 h : AH} (B : BM K m Z h0 h) {a j : Nat} (v : Int32) (d : PkM m a j) : BM K m Z h0 (h.setI a j v) := by
  obtain ⟨b1, b2, b3, b4, b5, b6⟩ := B
  refine ⟨?_, InvM_pk b2 b6 v d, b3, b4, b5, b6⟩
  exact Fr_mono (Fr_trans (W := fun a j => RgW m a j ∧ a ≠ m + 31) b1 (Fr_setI h a j v (fun _ => PkM_w d)) (fun _ _ _ z => z) (fun _ _ _ z => z)) (by omega) (by omega) (fun _ _ _ z => z)
theorem BM_rd {K : Nat → Nat} {m : Nat} {Z : Zt} {h0 h : AH} (B : BM K m Z h0 h) : MRd m h Z.tm Z.T := ⟨B.2.1.1.1, B.2.1.2.2.1, B.2.2.2.2.1⟩
def TM (K : Nat → Nat) (m : Nat) (Z : Zt) (h0 h : AH) (t : Tk) : Prop := BM K m Z h0 h ∧ h.I m 4 = -1 ∧ h.I m 2 = nI t.1 ∧ h.I m 3 = nI t.2 ∧ tkOk Z.tm t ∧ ∃ p, p ≤ Z.tm ∧ t = tkS Z.T Z.tm p
def FM (K : Nat → Nat) (m : Nat) (Z : Zt) (h0 : AH) (p : Nat) (h : AH) : Prop := BM K m Z h0 h ∧ h.I m 4 = nI p ∧ p ≤ Z.tm
def Kp (m : Nat) (h h' : AH) : Prop := ∀ a j, ¬ (a = m ∧ 2 ≤ j ∧ j ≤ 5) → h'.I a j = h.I a j
theorem Kp_trans {m : Nat} {h h1 h2 : AH} (A : Kp m h h1) (B : Kp m h1 h2) : Kp m h h2 := fun a j z => by rw [B a j z, A a j z]
theorem Kp_set {m j : Nat} {h : AH} {v : Int32} (hj : 2 ≤ j ∧ j ≤ 5) : Kp m h (h.setI m j v) := fun a k z => setI_O (fun w => z ⟨w.1, by omega⟩)
theorem Kp_refl {m : Nat} {h : AH} : Kp m h h := fun _ _ _ => rfl
def MO {β : Type} (o : Option (Int32 × AH)) (sp : Rs β) (Fl : Nat → AH → Prop) (Ok : β → Tk → AH → Prop) : Prop := match sp with
  | .inl p => ∃ h', o = some (0, h') ∧ Fl p h'
  | .inr (b, u) => ∃ h', o = some (1, h') ∧ Ok b u h'
theorem MO_bnd {β γ : Type} {o : Option (Int32 × AH)} {sp : Rs β} {Fl Fl' : Nat → AH → Prop} {Ok : β → Tk → AH → Prop} {Ok' : γ → Tk → AH → Prop} {f : Int32 → AH → Option (Int32 × AH)} {g : β → Tk → Rs γ} (H : MO o sp Fl Ok) (h0 : ∀ p h', Fl p h' → ∃ h'', f 0 h' = some (0, h'') ∧ Fl' p h'') (h1 : ∀ b u h', Ok b u h' → MO (f 1 h') (g b u) Fl' Ok') : MO (bnd o f) (PB sp g) Fl' Ok' := by
  rcases sp with p | ⟨b, u⟩
  · obtain ⟨h', e, q⟩ := H
    rw [e]
    exact h0 p h' q
  · obtain ⟨h', e, q⟩ := H
    rw [e]
    exact h1 b u h' q
theorem MO_imp {β : Type} {o : Option (Int32 × AH)} {sp : Rs β} {Fl Fl' : Nat → AH → Prop} {Ok Ok' : β → Tk → AH → Prop} (H : MO o sp Fl Ok) (h0 : ∀ p h', Fl p h' → Fl' p h') (h1 : ∀ b u h', Ok b u h' → Ok' b u h') : MO o sp Fl' Ok' := by
  rcases sp with p | ⟨b, u⟩
  · obtain ⟨h', e, q⟩ := H; exact ⟨h', e, h0 p h' q⟩
  · obtain ⟨h', e, q⟩ := H; exact ⟨h', e, h1 b u h' q⟩
theorem m_pass {β : Type} {n : Nat} {K : Nat → Nat} {m : Nat} {Z : Zt} {h0 h : AH} {t : Tk} (hn : 20000 < n) (R : TM K m Z h0 h t) (ok : Bool) (b : β) : MO (F_X3_passes n K m (bI ok) h) (passP false Z.T Z.tm ok b t) (FM K m Z h0) (fun b' u h' => b' = b ∧ TM K m Z h0 h' u ∧ Kp m h h' ∧ h'.I m 5 = h.I m 5) := by
  obtain ⟨B, r4, r2, r3, tk, tp⟩ := R
  have H := BM_rd B
  have h6 := H.2.2
  cases ok
  · show ∃ h', _
    have t1 : (bI false = 0) = True := eq_true (by decide)
    refine ⟨h.setI m 4 (nI t.1), ?_, BM_set B _ (Or.inl ⟨rfl, by omega⟩), setI_I _ _ _ _, Nat.le_trans tk.1 tk.2.1⟩
    simp only [F_X3_passes, chk_true, bnd_some, ob_some, oc_some, oc_none, hl_eq, jn_eq, ix_0, ix_1, if_true, if_false, inb0_2, inb1_2, not_true_eq_false, not_false_eq_true, ite_true, ite_false, true_or, or_true, or_self, zero_eq_one_I, one_eq_zero_I, ms_k0, ms_k1, ms_n1, ms_k2, ms_n2, ms_k3, ms_n3, ms_k4, ms_n4, ms_k5, ms_n5, ms_k6, ms_n6, ms_k7, ms_n7, ms_k8, ms_n8, ms_k9, ms_n9, ms_k10, ms_n10, ms_k11, ms_n11, ms_k12, ms_n12, ms_k13, ms_n13, ms_k14, ms_n14, ms_k15, ms_n15, ms_k16, ms_n16, ms_k17, ms_n17, ms_k18, ms_n18, ms_k19, ms_n19, ms_k20, ms_n20, ms_k21, ms_n21, ms_k22, ms_n22, ms_k23, ms_n23, ms_k24, ms_n24, ms_k25, ms_n25, ms_k26, ms_n26, ms_k27, ms_n27, ms_k28, ms_n28, ms_k29, ms_n29, ms_k30, ms_n30, ms_k31, ms_n31, ms_k32, ms_n32, ms_k33, ms_n33, ms_k34, ms_n34, ms_k35, ms_n35, ms_k36, ms_n36, ms_k37, ms_n37, ms_k38, ms_n38, ms_k39, ms_n39, ms_k40, ms_n40, ms_k41, ms_n41, ms_k50, ms_n50, ms_k51, ms_n51, ms_k52, ms_n52, ms_k53, ms_n53, ms_r0_0, ms_r0_6, ms_r2_0, ms_r2_1, ms_r0_7, ms_r5_0, ms_r5_1, ms_r0_8, ms_r8_0, ms_r8_1, ms_r0_9, ms_r11_0, ms_r11_1, ms_r0_10, ms_r14_0, ms_r14_1, ms_r0_11, ms_r17_0, ms_r17_1, ms_r0_12, ms_r20_0, ms_r20_1, ms_r0_13, ms_r23_0, ms_r23_1, ms_r0_14, ms_r0_15, ms_r0_16, ms_r0_17, ms_r0_18, ms_r0_23, ms_r0_24, ms_r0_25, ms_r0_26, ms_r0_30, ms_r0_31, ms_r0_32, ms_r0_35, ms_r0_36, ms_r0_39, ms_r0_40, ms_r0_41, ms_r0_42, ms_r0_43, ms_r0_47, H.1, t1, r4, r2]
  · have t1 : (bI true = 0) = False := eq_false (by decide)
    have B1 := BM_set B (a := m) (j := 2) (nI t.2) (Or.inl ⟨rfl, by omega⟩)
    have S := m_skips (n := n) (K := K) hn (BM_rd B1) (p := t.2) tk.2.1 (setI_I _ _ _ _)
    rw [setI_setI] at S
    have e : passP false Z.T Z.tm true b t = .inr (b, tkS Z.T Z.tm t.2) := rfl
    rw [e]
    refine ⟨(h.setI m 2 (nI (tkS Z.T Z.tm t.2).1)).setI m 3 (nI (tkS Z.T Z.tm t.2).2), ?_, rfl, ⟨BM_set (BM_set B _ (Or.inl ⟨rfl, by omega⟩)) _ (Or.inl ⟨rfl, by omega⟩), ?_, ?_, setI_I _ _ _ _, (tk_ok tk.2.1).1, t.2, tk.2.1, rfl⟩, Kp_trans (Kp_set (by omega)) (Kp_set (by omega)), ?_⟩
    · simp only [F_X3_passes, chk_true, bnd_some, ob_some, oc_some, oc_none, hl_eq, jn_eq, ix_0, ix_1, if_true, if_false, inb0_2, inb1_2, not_true_eq_false, not_false_eq_true, ite_true, ite_false, true_or, or_true, or_self, zero_eq_one_I, one_eq_zero_I, ms_k0, ms_k1, ms_n1, ms_k2, ms_n2, ms_k3, ms_n3, ms_k4, ms_n4, ms_k5, ms_n5, ms_k6, ms_n6, ms_k7, ms_n7, ms_k8, ms_n8, ms_k9, ms_n9, ms_k10, ms_n10, ms_k11, ms_n11, ms_k12, ms_n12, ms_k13, ms_n13, ms_k14, ms_n14, ms_k15, ms_n15, ms_k16, ms_n16, ms_k17, ms_n17, ms_k18, ms_n18, ms_k19, ms_n19, ms_k20, ms_n20, ms_k21, ms_n21, ms_k22, ms_n22, ms_k23, ms_n23, ms_k24, ms_n24, ms_k25, ms_n25, ms_k26, ms_n26, ms_k27, ms_n27, ms_k28, ms_n28, ms_k29, ms_n29, ms_k30, ms_n30, ms_k31, ms_n31, ms_k32, ms_n32, ms_k33, ms_n33, ms_k34, ms_n34, ms_k35, ms_n35, ms_k36, ms_n36, ms_k37, ms_n37, ms_k38, ms_n38, ms_k39, ms_n39, ms_k40, ms_n40, ms_k41, ms_n41, ms_k50, ms_n50, ms_k51, ms_n51, ms_k52, ms_n52, ms_k53, ms_n53, ms_r0_0, ms_r0_6, ms_r2_0, ms_r2_1, ms_r0_7, ms_r5_0, ms_r5_1, ms_r0_8, ms_r8_0, ms_r8_1, ms_r0_9, ms_r11_0, ms_r11_1, ms_r0_10, ms_r14_0, ms_r14_1, ms_r0_11, ms_r17_0, ms_r17_1, ms_r0_12, ms_r20_0, ms_r20_1, ms_r0_13, ms_r23_0, ms_r23_1, ms_r0_14, ms_r0_15, ms_r0_16, ms_r0_17, ms_r0_18, ms_r0_23, ms_r0_24, ms_r0_25, ms_r0_26, ms_r0_30, ms_r0_31, ms_r0_32, ms_r0_35, ms_r0_36, ms_r0_39, ms_r0_40, ms_r0_41, ms_r0_42, ms_r0_43, ms_r0_47, H.1, t1, r3, S]
    · rw [setI_O (by omega), setI_O (by omega)]; exact r4
    · rw [setI_O (by omega)]; exact setI_I _ _ _ _
    · rw [setI_O (by omega), setI_O (by omega)]
theorem m_isSign {n : Nat} {K : Nat → Nat} {m : Nat} {Z : Zt} {h0 h : AH} {t : Tk} (R : TM K m Z h0 h t) (v : Int32) : F_X3_isSign n K m v h = some (bI (sgT Z.T Z.tm v t), h) := by
  obtain ⟨B, r4, r2, r3, tk, tp⟩ := R
  have H := BM_rd B
  have h6 := H.2.2
  have k1 := tk.1
  have k2 := tk.2.1
  unfold sgT
  by_cases c : t.1 < Z.tm
  · obtain ⟨a1, a2, a3⟩ := m_at H c
    by_cases d : Z.T t.1 = v
    · have t2 : (Z.T t.1 = v) = True := eq_true d
      simp only [F_X3_isSign, chk_true, bnd_some, ob_some, oc_some, oc_none, hl_eq, jn_eq, ix_0, ix_1, if_true, if_false, inb0_2, inb1_2, not_true_eq_false, not_false_eq_true, ite_true, ite_false, true_or, or_true, or_self, zero_eq_one_I, one_eq_zero_I, ms_k0, ms_k1, ms_n1, ms_k2, ms_n2, ms_k3, ms_n3, ms_k4, ms_n4, ms_k5, ms_n5, ms_k6, ms_n6, ms_k7, ms_n7, ms_k8, ms_n8, ms_k9, ms_n9, ms_k10, ms_n10, ms_k11, ms_n11, ms_k12, ms_n12, ms_k13, ms_n13, ms_k14, ms_n14, ms_k15, ms_n15, ms_k16, ms_n16, ms_k17, ms_n17, ms_k18, ms_n18, ms_k19, ms_n19, ms_k20, ms_n20, ms_k21, ms_n21, ms_k22, ms_n22, ms_k23, ms_n23, ms_k24, ms_n24, ms_k25, ms_n25, ms_k26, ms_n26, ms_k27, ms_n27, ms_k28, ms_n28, ms_k29, ms_n29, ms_k30, ms_n30, ms_k31, ms_n31, ms_k32, ms_n32, ms_k33, ms_n33, ms_k34, ms_n34, ms_k35, ms_n35, ms_k36, ms_n36, ms_k37, ms_n37, ms_k38, ms_n38, ms_k39, ms_n39, ms_k40, ms_n40, ms_k41, ms_n41, ms_k50, ms_n50, ms_k51, ms_n51, ms_k52, ms_n52, ms_k53, ms_n53, ms_r0_0, ms_r0_6, ms_r2_0, ms_r2_1, ms_r0_7, ms_r5_0, ms_r5_1, ms_r0_8, ms_r8_0, ms_r8_1, ms_r0_9, ms_r11_0, ms_r11_1, ms_r0_10, ms_r14_0, ms_r14_1, ms_r0_11, ms_r17_0, ms_r17_1, ms_r0_12, ms_r20_0, ms_r20_1, ms_r0_13, ms_r23_0, ms_r23_1, ms_r0_14, ms_r0_15, ms_r0_16, ms_r0_17, ms_r0_18, ms_r0_23, ms_r0_24, ms_r0_25, ms_r0_26, ms_r0_30, ms_r0_31, ms_r0_32, ms_r0_35, ms_r0_36, ms_r0_39, ms_r0_40, ms_r0_41, ms_r0_42, ms_r0_43, ms_r0_47, H.1, H.2.1.1, r2, a1, a2, a3, t2]
      simp [c, bI]
    · have t2 : (Z.T t.1 = v) = False := eq_false d
      simp only [F_X3_isSign, chk_true, bnd_some, ob_some, oc_some, oc_none, hl_eq, jn_eq, ix_0, ix_1, if_true, if_false, inb0_2, inb1_2, not_true_eq_false, not_false_eq_true, ite_true, ite_false, true_or, or_true, or_self, zero_eq_one_I, one_eq_zero_I, ms_k0, ms_k1, ms_n1, ms_k2, ms_n2, ms_k3, ms_n3, ms_k4, ms_n4, ms_k5, ms_n5, ms_k6, ms_n6, ms_k7, ms_n7, ms_k8, ms_n8, ms_k9, ms_n9, ms_k10, ms_n10, ms_k11, ms_n11, ms_k12, ms_n12, ms_k13, ms_n13, ms_k14, ms_n14, ms_k15, ms_n15, ms_k16, ms_n16, ms_k17, ms_n17, ms_k18, ms_n18, ms_k19, ms_n19, ms_k20, ms_n20, ms_k21, ms_n21, ms_k22, ms_n22, ms_k23, ms_n23, ms_k24, ms_n24, ms_k25, ms_n25, ms_k26, ms_n26, ms_k27, ms_n27, ms_k28, ms_n28, ms_k29, ms_n29, ms_k30, ms_n30, ms_k31, ms_n31, ms_k32, ms_n32, ms_k33, ms_n33, ms_k34, ms_n34, ms_k35, ms_n35, ms_k36, ms_n36, ms_k37, ms_n37, ms_k38, ms_n38, ms_k39, ms_n39, ms_k40, ms_n40, ms_k41, ms_n41, ms_k50, ms_n50, ms_k51, ms_n51, ms_k52, ms_n52, ms_k53, ms_n53, ms_r0_0, ms_r0_6, ms_r2_0, ms_r2_1, ms_r0_7, ms_r5_0, ms_r5_1, ms_r0_8, ms_r8_0, ms_r8_1, ms_r0_9, ms_r11_0, ms_r11_1, ms_r0_10, ms_r14_0, ms_r14_1, ms_r0_11, ms_r17_0, ms_r17_1, ms_r0_12, ms_r20_0, ms_r20_1, ms_r0_13, ms_r23_0, ms_r23_1, ms_r0_14, ms_r0_15, ms_r0_16, ms_r0_17, ms_r0_18, ms_r0_23, ms_r0_24, ms_r0_25, ms_r0_26, ms_r0_30, ms_r0_31, ms_r0_32, ms_r0_35, ms_r0_36, ms_r0_39, ms_r0_40, ms_r0_41, ms_r0_42, ms_r0_43, ms_r0_47, H.1, H.2.1.1, r2, a1, a2, a3, t2]
      simp [bI]
  · have e : (nI Z.tm ≤ nI t.1) = True := eq_true (nI_le (by omega) (by omega))
    simp only [F_X3_isSign, chk_true, bnd_some, ob_some, oc_some, oc_none, hl_eq, jn_eq, ix_0, ix_1, if_true, if_false, inb0_2, inb1_2, not_true_eq_false, not_false_eq_true, ite_true, ite_false, true_or, or_true, or_self, zero_eq_one_I, one_eq_zero_I, ms_k0, ms_k1, ms_n1, ms_k2, ms_n2, ms_k3, ms_n3, ms_k4, ms_n4, ms_k5, ms_n5, ms_k6, ms_n6, ms_k7, ms_n7, ms_k8, ms_n8, ms_k9, ms_n9, ms_k10, ms_n10, ms_k11, ms_n11, ms_k12, ms_n12, ms_k13, ms_n13, ms_k14, ms_n14, ms_k15, ms_n15, ms_k16, ms_n16, ms_k17, ms_n17, ms_k18, ms_n18, ms_k19, ms_n19, ms_k20, ms_n20, ms_k21, ms_n21, ms_k22, ms_n22, ms_k23, ms_n23, ms_k24, ms_n24, ms_k25, ms_n25, ms_k26, ms_n26, ms_k27, ms_n27, ms_k28, ms_n28, ms_k29, ms_n29, ms_k30, ms_n30, ms_k31, ms_n31, ms_k32, ms_n32, ms_k33, ms_n33, ms_k34, ms_n34, ms_k35, ms_n35, ms_k36, ms_n36, ms_k37, ms_n37, ms_k38, ms_n38, ms_k39, ms_n39, ms_k40, ms_n40, ms_k41, ms_n41, ms_k50, ms_n50, ms_k51, ms_n51, ms_k52, ms_n52, ms_k53, ms_n53, ms_r0_0, ms_r0_6, ms_r2_0, ms_r2_1, ms_r0_7, ms_r5_0, ms_r5_1, ms_r0_8, ms_r8_0, ms_r8_1, ms_r0_9, ms_r11_0, ms_r11_1, ms_r0_10, ms_r14_0, ms_r14_1, ms_r0_11, ms_r17_0, ms_r17_1, ms_r0_12, ms_r20_0, ms_r20_1, ms_r0_13, ms_r23_0, ms_r23_1, ms_r0_14, ms_r0_15, ms_r0_16, ms_r0_17, ms_r0_18, ms_r0_23, ms_r0_24, ms_r0_25, ms_r0_26, ms_r0_30, ms_r0_31, ms_r0_32, ms_r0_35, ms_r0_36, ms_r0_39, ms_r0_40, ms_r0_41, ms_r0_42, ms_r0_43, ms_r0_47, H.1, H.2.1.1, r2, e]
    simp [c, bI]
theorem m_word {n : Nat} {K : Nat → Nat} {m : Nat} {Z : Zt} {h0 h : AH} {t : Tk} (hn : 20000 < n) (R : TM K m Z h0 h t) {i : Nat} (hi : i < 17) : F_X3_isWord n K m (some (K (i + 1))) h = some (bI (wdS Z.T Z.tm i t), h) := m_isWord hn (BM_rd R.1) R.1.2.2.1 R.2.2.2.2.1 R.2.2.1 R.2.2.2.1 hi
theorem bI_inj01 {r : Int32} : (r = 0 ∨ r = 1) = (r = 0 ∨ r = 1) := rfl
/-- numbers -/
theorem m_num {n : Nat} {K : Nat → Nat} {m : Nat} {Z : Zt} {h0 h : AH} {t : Tk} (hn : 20000 < n) (R : TM K m Z h0 h t) {lo hi : Int32} (hh : hi.toInt ≤ 99) : MO (F_X3_number n K m lo hi h) (numP false Z.T Z.tm lo hi t) (FM K m Z h0) (fun v u h' => TM K m Z h0 h' u ∧ Kp m h h' ∧ h'.I m 5 = v) := by
  have R0 := R
  obtain ⟨B, r4, r2, r3, tk, p, hp, ht⟩ := R
  have H := BM_rd B
  have h6 := H.2.2
  have k1 := tk.1
  have k2 := tk.2.1
  have R5 : ∀ v : Int32, TM K m Z h0 (h.setI m 5 v) t := fun v => ⟨BM_set B _ (Or.inl ⟨rfl, by omega⟩), by rw [setI_O (by omega)]; exact r4, by rw [setI_O (by omega)]; exact r2, by rw [setI_O (by omega)]; exact r3, tk, p, hp, ht⟩
  have fin : ∀ (ok : Bool) (s w : Int32), (ok = true → s = w) → MO (bnd (F_X3_passes n K m (bI ok) (h.setI m 5 s)) fun r20 h21 => chk (r20 = 0 ∨ r20 = 1) <| some (r20, h21)) (passP false Z.T Z.tm ok w t) (FM K m Z h0) (fun v u h' => TM K m Z h0 h' u ∧ Kp m h h' ∧ h'.I m 5 = v) := by
    intro ok s w hs
    have P := m_pass (n := n) hn (R5 s) ok w
    rcases hq : passP false Z.T Z.tm ok w t with p | ⟨b, u⟩
    · rw [hq] at P
      obtain ⟨h', e, q⟩ := P
      refine ⟨h', ?_, q⟩
      rw [e]; rfl
    · rw [hq] at P
      obtain ⟨h', e, q1, q2, q3, q4⟩ := P
      refine ⟨h', ?_, q2, Kp_trans (Kp_set (by omega)) q3, ?_⟩
      · rw [e]; rfl
      · rw [q4, setI_I, q1]
        cases ok
        · cases hq
        · exact hs rfl
  rcases Bool.eq_false_or_eq_true (digT Z.T Z.tm t) with d | d
  · have c : t.1 < Z.tm := by unfold digT at d; simp at d; exact d.1
    have dg : isDg (Z.T t.1) = true := by unfold digT at d; simp at d; exact d.2
    obtain ⟨a1, a2, a3⟩ := m_at H c
    have all : ∀ i, i < t.2 - t.1 → isDg (Z.T (t.1 + i)) = true := fun i hi => by
      have := dg_run (T := Z.T) (tm := Z.tm) hp (by rw [← ht]; exact dg) (by rw [← ht]; exact c) i (by rw [← ht]; omega)
      rw [← ht] at this
      exact this
    have nv := nv_in all (lo := lo) hh
    have key := loopF (fun f i (s : Int32) => F_X3_number_L41 n K 1 m lo hi h f (nI t.1 + i) s) (t.2 - t.1) (fun i a => if a ≤ 999 then 10 * a + Z.T (t.1 + i) - 48 else 9999) (fun s => bnd (F_X3_passes n K m (bI (inS s lo hi)) (h.setI m 5 s)) fun r20 h21 => chk (r20 = 0 ∨ r20 = 1) <| some (r20, h21)) 0
      (by
        intro f k s hk
        obtain ⟨b1, b2, b3⟩ := m_at H (p := t.1 + k) (by omega)
        have e3 : (nI t.2 ≤ nI (t.1 + k)) = False := eq_false (nI_ge (by omega) (by omega))
        by_cases z : s ≤ 999
        · have t3 : (s ≤ 999) = True := eq_true z
          simp only [F_X3_number_L41, chk_true, bnd_some, ob_some, oc_some, oc_none, hl_eq, jn_eq, ix_0, ix_1, if_true, if_false, inb0_2, inb1_2, not_true_eq_false, not_false_eq_true, ite_true, ite_false, true_or, or_true, or_self, zero_eq_one_I, one_eq_zero_I, ms_k0, ms_k1, ms_n1, ms_k2, ms_n2, ms_k3, ms_n3, ms_k4, ms_n4, ms_k5, ms_n5, ms_k6, ms_n6, ms_k7, ms_n7, ms_k8, ms_n8, ms_k9, ms_n9, ms_k10, ms_n10, ms_k11, ms_n11, ms_k12, ms_n12, ms_k13, ms_n13, ms_k14, ms_n14, ms_k15, ms_n15, ms_k16, ms_n16, ms_k17, ms_n17, ms_k18, ms_n18, ms_k19, ms_n19, ms_k20, ms_n20, ms_k21, ms_n21, ms_k22, ms_n22, ms_k23, ms_n23, ms_k24, ms_n24, ms_k25, ms_n25, ms_k26, ms_n26, ms_k27, ms_n27, ms_k28, ms_n28, ms_k29, ms_n29, ms_k30, ms_n30, ms_k31, ms_n31, ms_k32, ms_n32, ms_k33, ms_n33, ms_k34, ms_n34, ms_k35, ms_n35, ms_k36, ms_n36, ms_k37, ms_n37, ms_k38, ms_n38, ms_k39, ms_n39, ms_k40, ms_n40, ms_k41, ms_n41, ms_k50, ms_n50, ms_k51, ms_n51, ms_k52, ms_n52, ms_k53, ms_n53, ms_r0_0, ms_r0_6, ms_r2_0, ms_r2_1, ms_r0_7, ms_r5_0, ms_r5_1, ms_r0_8, ms_r8_0, ms_r8_1, ms_r0_9, ms_r11_0, ms_r11_1, ms_r0_10, ms_r14_0, ms_r14_1, ms_r0_11, ms_r17_0, ms_r17_1, ms_r0_12, ms_r20_0, ms_r20_1, ms_r0_13, ms_r23_0, ms_r23_1, ms_r0_14, ms_r0_15, ms_r0_16, ms_r0_17, ms_r0_18, ms_r0_23, ms_r0_24, ms_r0_25, ms_r0_26, ms_r0_30, ms_r0_31, ms_r0_32, ms_r0_35, ms_r0_36, ms_r0_39, ms_r0_40, ms_r0_41, ms_r0_42, ms_r0_43, ms_r0_47, H.1, r3, nI_add, nI_1, b1, b2, e3, t3, Nat.add_assoc]
        · have t3 : (s ≤ 999) = False := eq_false z
          simp only [F_X3_number_L41, chk_true, bnd_some, ob_some, oc_some, oc_none, hl_eq, jn_eq, ix_0, ix_1, if_true, if_false, inb0_2, inb1_2, not_true_eq_false, not_false_eq_true, ite_true, ite_false, true_or, or_true, or_self, zero_eq_one_I, one_eq_zero_I, ms_k0, ms_k1, ms_n1, ms_k2, ms_n2, ms_k3, ms_n3, ms_k4, ms_n4, ms_k5, ms_n5, ms_k6, ms_n6, ms_k7, ms_n7, ms_k8, ms_n8, ms_k9, ms_n9, ms_k10, ms_n10, ms_k11, ms_n11, ms_k12, ms_n12, ms_k13, ms_n13, ms_k14, ms_n14, ms_k15, ms_n15, ms_k16, ms_n16, ms_k17, ms_n17, ms_k18, ms_n18, ms_k19, ms_n19, ms_k20, ms_n20, ms_k21, ms_n21, ms_k22, ms_n22, ms_k23, ms_n23, ms_k24, ms_n24, ms_k25, ms_n25, ms_k26, ms_n26, ms_k27, ms_n27, ms_k28, ms_n28, ms_k29, ms_n29, ms_k30, ms_n30, ms_k31, ms_n31, ms_k32, ms_n32, ms_k33, ms_n33, ms_k34, ms_n34, ms_k35, ms_n35, ms_k36, ms_n36, ms_k37, ms_n37, ms_k38, ms_n38, ms_k39, ms_n39, ms_k40, ms_n40, ms_k41, ms_n41, ms_k50, ms_n50, ms_k51, ms_n51, ms_k52, ms_n52, ms_k53, ms_n53, ms_r0_0, ms_r0_6, ms_r2_0, ms_r2_1, ms_r0_7, ms_r5_0, ms_r5_1, ms_r0_8, ms_r8_0, ms_r8_1, ms_r0_9, ms_r11_0, ms_r11_1, ms_r0_10, ms_r14_0, ms_r14_1, ms_r0_11, ms_r17_0, ms_r17_1, ms_r0_12, ms_r20_0, ms_r20_1, ms_r0_13, ms_r23_0, ms_r23_1, ms_r0_14, ms_r0_15, ms_r0_16, ms_r0_17, ms_r0_18, ms_r0_23, ms_r0_24, ms_r0_25, ms_r0_26, ms_r0_30, ms_r0_31, ms_r0_32, ms_r0_35, ms_r0_36, ms_r0_39, ms_r0_40, ms_r0_41, ms_r0_42, ms_r0_43, ms_r0_47, H.1, r3, nI_add, nI_1, b1, b2, e3, t3, Nat.add_assoc])
      (by
        intro f s
        have e : t.1 + (t.2 - t.1) = t.2 := by omega
        have e3 : (nI t.2 ≤ nI t.2) = True := eq_true (nI_le (Nat.le_refl _) (by omega))
        have k5 : (h.setI m 5 s).kind m = 5 := ms_k0 H.1
        rcases Bool.eq_false_or_eq_true (inS s lo hi) with z | z
        · have t3 : (bI true = 0) = False := eq_false (by decide)
          have t4 : bI true = 1 := rfl
          simp only [F_X3_number_L41, chk_true, bnd_some, ob_some, oc_some, oc_none, hl_eq, jn_eq, ix_0, ix_1, if_true, if_false, inb0_2, inb1_2, not_true_eq_false, not_false_eq_true, ite_true, ite_false, true_or, or_true, or_self, zero_eq_one_I, one_eq_zero_I, ms_k0, ms_k1, ms_n1, ms_k2, ms_n2, ms_k3, ms_n3, ms_k4, ms_n4, ms_k5, ms_n5, ms_k6, ms_n6, ms_k7, ms_n7, ms_k8, ms_n8, ms_k9, ms_n9, ms_k10, ms_n10, ms_k11, ms_n11, ms_k12, ms_n12, ms_k13, ms_n13, ms_k14, ms_n14, ms_k15, ms_n15, ms_k16, ms_n16, ms_k17, ms_n17, ms_k18, ms_n18, ms_k19, ms_n19, ms_k20, ms_n20, ms_k21, ms_n21, ms_k22, ms_n22, ms_k23, ms_n23, ms_k24, ms_n24, ms_k25, ms_n25, ms_k26, ms_n26, ms_k27, ms_n27, ms_k28, ms_n28, ms_k29, ms_n29, ms_k30, ms_n30, ms_k31, ms_n31, ms_k32, ms_n32, ms_k33, ms_n33, ms_k34, ms_n34, ms_k35, ms_n35, ms_k36, ms_n36, ms_k37, ms_n37, ms_k38, ms_n38, ms_k39, ms_n39, ms_k40, ms_n40, ms_k41, ms_n41, ms_k50, ms_n50, ms_k51, ms_n51, ms_k52, ms_n52, ms_k53, ms_n53, ms_r0_0, ms_r0_6, ms_r2_0, ms_r2_1, ms_r0_7, ms_r5_0, ms_r5_1, ms_r0_8, ms_r8_0, ms_r8_1, ms_r0_9, ms_r11_0, ms_r11_1, ms_r0_10, ms_r14_0, ms_r14_1, ms_r0_11, ms_r17_0, ms_r17_1, ms_r0_12, ms_r20_0, ms_r20_1, ms_r0_13, ms_r23_0, ms_r23_1, ms_r0_14, ms_r0_15, ms_r0_16, ms_r0_17, ms_r0_18, ms_r0_23, ms_r0_24, ms_r0_25, ms_r0_26, ms_r0_30, ms_r0_31, ms_r0_32, ms_r0_35, ms_r0_36, ms_r0_39, ms_r0_40, ms_r0_41, ms_r0_42, ms_r0_43, ms_r0_47, H.1, r3, nI_add, e, e3, k5, m_in s lo hi rfl rfl rfl, z, t3]
          rw [t4]
        · have t3 : (bI false = 0) = True := eq_true (by decide)
          have t4 : bI false = 0 := rfl
          simp only [F_X3_number_L41, chk_true, bnd_some, ob_some, oc_some, oc_none, hl_eq, jn_eq, ix_0, ix_1, if_true, if_false, inb0_2, inb1_2, not_true_eq_false, not_false_eq_true, ite_true, ite_false, true_or, or_true, or_self, zero_eq_one_I, one_eq_zero_I, ms_k0, ms_k1, ms_n1, ms_k2, ms_n2, ms_k3, ms_n3, ms_k4, ms_n4, ms_k5, ms_n5, ms_k6, ms_n6, ms_k7, ms_n7, ms_k8, ms_n8, ms_k9, ms_n9, ms_k10, ms_n10, ms_k11, ms_n11, ms_k12, ms_n12, ms_k13, ms_n13, ms_k14, ms_n14, ms_k15, ms_n15, ms_k16, ms_n16, ms_k17, ms_n17, ms_k18, ms_n18, ms_k19, ms_n19, ms_k20, ms_n20, ms_k21, ms_n21, ms_k22, ms_n22, ms_k23, ms_n23, ms_k24, ms_n24, ms_k25, ms_n25, ms_k26, ms_n26, ms_k27, ms_n27, ms_k28, ms_n28, ms_k29, ms_n29, ms_k30, ms_n30, ms_k31, ms_n31, ms_k32, ms_n32, ms_k33, ms_n33, ms_k34, ms_n34, ms_k35, ms_n35, ms_k36, ms_n36, ms_k37, ms_n37, ms_k38, ms_n38, ms_k39, ms_n39, ms_k40, ms_n40, ms_k41, ms_n41, ms_k50, ms_n50, ms_k51, ms_n51, ms_k52, ms_n52, ms_k53, ms_n53, ms_r0_0, ms_r0_6, ms_r2_0, ms_r2_1, ms_r0_7, ms_r5_0, ms_r5_1, ms_r0_8, ms_r8_0, ms_r8_1, ms_r0_9, ms_r11_0, ms_r11_1, ms_r0_10, ms_r14_0, ms_r14_1, ms_r0_11, ms_r17_0, ms_r17_1, ms_r0_12, ms_r20_0, ms_r20_1, ms_r0_13, ms_r23_0, ms_r23_1, ms_r0_14, ms_r0_15, ms_r0_16, ms_r0_17, ms_r0_18, ms_r0_23, ms_r0_24, ms_r0_25, ms_r0_26, ms_r0_30, ms_r0_31, ms_r0_32, ms_r0_35, ms_r0_36, ms_r0_39, ms_r0_40, ms_r0_41, ms_r0_42, ms_r0_43, ms_r0_47, H.1, r3, nI_add, e, e3, k5, m_in s lo hi rfl rfl rfl, z, t3]
          rw [t4]) n (by omega)
    have t1 : (bI true = 0) = False := eq_false (by decide)
    have e0 : nI t.1 + 0 = nI t.1 := by rw [Int32.add_zero]
    have key' : F_X3_number_L41 n K 1 m lo hi h n (nI t.1) 0 = bnd (F_X3_passes n K m (bI (inS (nvM Z.T t.1 (t.2 - t.1)) lo hi)) (h.setI m 5 (nvM Z.T t.1 (t.2 - t.1)))) fun r20 h21 => chk (r20 = 0 ∨ r20 = 1) <| some (r20, h21) := by
      have k2 := key
      simp only [e0] at k2
      exact k2
    have g : F_X3_number n K m lo hi h = bnd (F_X3_passes n K m (bI (inS (nvM Z.T t.1 (t.2 - t.1)) lo hi)) (h.setI m 5 (nvM Z.T t.1 (t.2 - t.1)))) fun r20 h21 => chk (r20 = 0 ∨ r20 = 1) <| some (r20, h21) := by
      rw [← key']
      simp only [F_X3_number, chk_true, bnd_some, ob_some, oc_some, oc_none, hl_eq, jn_eq, ix_0, ix_1, if_true, if_false, inb0_2, inb1_2, not_true_eq_false, not_false_eq_true, ite_true, ite_false, true_or, or_true, or_self, zero_eq_one_I, one_eq_zero_I, ms_k0, ms_k1, ms_n1, ms_k2, ms_n2, ms_k3, ms_n3, ms_k4, ms_n4, ms_k5, ms_n5, ms_k6, ms_n6, ms_k7, ms_n7, ms_k8, ms_n8, ms_k9, ms_n9, ms_k10, ms_n10, ms_k11, ms_n11, ms_k12, ms_n12, ms_k13, ms_n13, ms_k14, ms_n14, ms_k15, ms_n15, ms_k16, ms_n16, ms_k17, ms_n17, ms_k18, ms_n18, ms_k19, ms_n19, ms_k20, ms_n20, ms_k21, ms_n21, ms_k22, ms_n22, ms_k23, ms_n23, ms_k24, ms_n24, ms_k25, ms_n25, ms_k26, ms_n26, ms_k27, ms_n27, ms_k28, ms_n28, ms_k29, ms_n29, ms_k30, ms_n30, ms_k31, ms_n31, ms_k32, ms_n32, ms_k33, ms_n33, ms_k34, ms_n34, ms_k35, ms_n35, ms_k36, ms_n36, ms_k37, ms_n37, ms_k38, ms_n38, ms_k39, ms_n39, ms_k40, ms_n40, ms_k41, ms_n41, ms_k50, ms_n50, ms_k51, ms_n51, ms_k52, ms_n52, ms_k53, ms_n53, ms_r0_0, ms_r0_6, ms_r2_0, ms_r2_1, ms_r0_7, ms_r5_0, ms_r5_1, ms_r0_8, ms_r8_0, ms_r8_1, ms_r0_9, ms_r11_0, ms_r11_1, ms_r0_10, ms_r14_0, ms_r14_1, ms_r0_11, ms_r17_0, ms_r17_1, ms_r0_12, ms_r20_0, ms_r20_1, ms_r0_13, ms_r23_0, ms_r23_1, ms_r0_14, ms_r0_15, ms_r0_16, ms_r0_17, ms_r0_18, ms_r0_23, ms_r0_24, ms_r0_25, ms_r0_26, ms_r0_30, ms_r0_31, ms_r0_32, ms_r0_35, ms_r0_36, ms_r0_39, ms_r0_40, ms_r0_41, ms_r0_42, ms_r0_43, ms_r0_47, H.1, H.2.1.1, r2, a1, a2, a3, m_isDg, dg, t1]
    rw [g]
    unfold numP
    rw [d, Bool.true_and, ← nv.1]
    exact fin _ _ _ (fun z => nv.2 (by rw [← nv.1]; exact z))
  · have g : F_X3_number n K m lo hi h = bnd (F_X3_passes n K m (bI false) (h.setI m 5 0)) fun r20 h21 => chk (r20 = 0 ∨ r20 = 1) <| some (r20, h21) := by
      obtain ⟨f, rfl⟩ : ∃ f, n = f + 1 := ⟨n - 1, by omega⟩
      have k5 : (h.setI m 5 0).kind m = 5 := ms_k0 H.1
      have t4 : bI false = 0 := rfl
      by_cases c : t.1 < Z.tm
      · obtain ⟨a1, a2, a3⟩ := m_at H c
        have dg : isDg (Z.T t.1) = false := by
          unfold digT at d
          rw [decide_eq_true c, Bool.true_and] at d
          exact d
        have t1 : (bI false = 0) = True := eq_true (by decide)
        simp only [F_X3_number, F_X3_number_L41, chk_true, bnd_some, ob_some, oc_some, oc_none, hl_eq, jn_eq, ix_0, ix_1, if_true, if_false, inb0_2, inb1_2, not_true_eq_false, not_false_eq_true, ite_true, ite_false, true_or, or_true, or_self, zero_eq_one_I, one_eq_zero_I, ms_k0, ms_k1, ms_n1, ms_k2, ms_n2, ms_k3, ms_n3, ms_k4, ms_n4, ms_k5, ms_n5, ms_k6, ms_n6, ms_k7, ms_n7, ms_k8, ms_n8, ms_k9, ms_n9, ms_k10, ms_n10, ms_k11, ms_n11, ms_k12, ms_n12, ms_k13, ms_n13, ms_k14, ms_n14, ms_k15, ms_n15, ms_k16, ms_n16, ms_k17, ms_n17, ms_k18, ms_n18, ms_k19, ms_n19, ms_k20, ms_n20, ms_k21, ms_n21, ms_k22, ms_n22, ms_k23, ms_n23, ms_k24, ms_n24, ms_k25, ms_n25, ms_k26, ms_n26, ms_k27, ms_n27, ms_k28, ms_n28, ms_k29, ms_n29, ms_k30, ms_n30, ms_k31, ms_n31, ms_k32, ms_n32, ms_k33, ms_n33, ms_k34, ms_n34, ms_k35, ms_n35, ms_k36, ms_n36, ms_k37, ms_n37, ms_k38, ms_n38, ms_k39, ms_n39, ms_k40, ms_n40, ms_k41, ms_n41, ms_k50, ms_n50, ms_k51, ms_n51, ms_k52, ms_n52, ms_k53, ms_n53, ms_r0_0, ms_r0_6, ms_r2_0, ms_r2_1, ms_r0_7, ms_r5_0, ms_r5_1, ms_r0_8, ms_r8_0, ms_r8_1, ms_r0_9, ms_r11_0, ms_r11_1, ms_r0_10, ms_r14_0, ms_r14_1, ms_r0_11, ms_r17_0, ms_r17_1, ms_r0_12, ms_r20_0, ms_r20_1, ms_r0_13, ms_r23_0, ms_r23_1, ms_r0_14, ms_r0_15, ms_r0_16, ms_r0_17, ms_r0_18, ms_r0_23, ms_r0_24, ms_r0_25, ms_r0_26, ms_r0_30, ms_r0_31, ms_r0_32, ms_r0_35, ms_r0_36, ms_r0_39, ms_r0_40, ms_r0_41, ms_r0_42, ms_r0_43, ms_r0_47, H.1, H.2.1.1, r2, a1, a2, a3, m_isDg, dg, t1, k5]
        rw [t4]
      · have e : (nI Z.tm ≤ nI t.1) = True := eq_true (nI_le (by omega) (by omega))
        simp only [F_X3_number, F_X3_number_L41, chk_true, bnd_some, ob_some, oc_some, oc_none, hl_eq, jn_eq, ix_0, ix_1, if_true, if_false, inb0_2, inb1_2, not_true_eq_false, not_false_eq_true, ite_true, ite_false, true_or, or_true, or_self, zero_eq_one_I, one_eq_zero_I, ms_k0, ms_k1, ms_n1, ms_k2, ms_n2, ms_k3, ms_n3, ms_k4, ms_n4, ms_k5, ms_n5, ms_k6, ms_n6, ms_k7, ms_n7, ms_k8, ms_n8, ms_k9, ms_n9, ms_k10, ms_n10, ms_k11, ms_n11, ms_k12, ms_n12, ms_k13, ms_n13, ms_k14, ms_n14, ms_k15, ms_n15, ms_k16, ms_n16, ms_k17, ms_n17, ms_k18, ms_n18, ms_k19, ms_n19, ms_k20, ms_n20, ms_k21, ms_n21, ms_k22, ms_n22, ms_k23, ms_n23, ms_k24, ms_n24, ms_k25, ms_n25, ms_k26, ms_n26, ms_k27, ms_n27, ms_k28, ms_n28, ms_k29, ms_n29, ms_k30, ms_n30, ms_k31, ms_n31, ms_k32, ms_n32, ms_k33, ms_n33, ms_k34, ms_n34, ms_k35, ms_n35, ms_k36, ms_n36, ms_k37, ms_n37, ms_k38, ms_n38, ms_k39, ms_n39, ms_k40, ms_n40, ms_k41, ms_n41, ms_k50, ms_n50, ms_k51, ms_n51, ms_k52, ms_n52, ms_k53, ms_n53, ms_r0_0, ms_r0_6, ms_r2_0, ms_r2_1, ms_r0_7, ms_r5_0, ms_r5_1, ms_r0_8, ms_r8_0, ms_r8_1, ms_r0_9, ms_r11_0, ms_r11_1, ms_r0_10, ms_r14_0, ms_r14_1, ms_r0_11, ms_r17_0, ms_r17_1, ms_r0_12, ms_r20_0, ms_r20_1, ms_r0_13, ms_r23_0, ms_r23_1, ms_r0_14, ms_r0_15, ms_r0_16, ms_r0_17, ms_r0_18, ms_r0_23, ms_r0_24, ms_r0_25, ms_r0_26, ms_r0_30, ms_r0_31, ms_r0_32, ms_r0_35, ms_r0_36, ms_r0_39, ms_r0_40, ms_r0_41, ms_r0_42, ms_r0_43, ms_r0_47, H.1, H.2.1.1, r2, e, k5]
        rw [t4]
    rw [g]
    unfold numP
    rw [d, Bool.false_and]
    exact fin false 0 _ (fun z => by cases z)
