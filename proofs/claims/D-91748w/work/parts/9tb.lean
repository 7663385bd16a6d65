/-! PURE PART TB: the sheet's reader: win -/
set_option maxRecDepth 100000
def barQ (c : Bool) (T : Nat → Int32) (tm : Nat) (k : Int32) (P : PSt) (t : Tk) : Rs PSt := PB (numP c T tm 1 99 t) fun v t => PB (passP c T tm (sgT T tm 47 t) () t) fun _ t => PB (numP c T tm v (if 2 * v < 99 then 2 * v else 99) t) fun w t => .inr ((P.1.setB k v w, P.2), t)
theorem barP_eq (c : Bool) (T : Nat → Int32) (tm : Nat) (k : Int32) (P : PSt) (t : Tk) : barP c T tm k P t = PB (barQ c T tm k P t) (semiP c T tm) := by
  simp only [barP, barQ, PB_assoc]
  rfl
def winQ (T : Nat → Int32) (tm : Nat) (P : PSt) (t : Tk) : Rs PSt := PB (passP true T tm (wO3 T tm t).isSome ((wO3 T tm t).getD 0) t) fun k t => if k = 0 then .inr (P, t) else barQ true T tm (nI k) P t
theorem adv_map {β γ δ : Type} {c : Bool} {T : Nat → Int32} {tm : Nat} (b : β) (b' : γ) (t : Tk) (f : β → Tk → Rs δ) (g : γ → Tk → Rs δ) (h : ∀ u, f b u = g b' u) : PB (adv c T tm b t) f = PB (adv c T tm b' t) g := by
  unfold adv
  by_cases z : (c && badT T tm (tkS T tm t.2)) = true
  · rw [if_pos z, if_pos z]; rfl
  · rw [if_neg z, if_neg z]; exact h _
theorem winP_eq (T : Nat → Int32) (tm : Nat) (P : PSt) (t : Tk) : winP true T tm P t = PB (winQ T tm P t) (semiP true T tm) := by
  unfold winP winQ wO3
  rw [PB_assoc]
  rcases Bool.eq_false_or_eq_true (wdS T tm 14 t) with a | a
  · simp only [a, if_true]
    exact adv_map P 0 t _ _ (fun u => rfl)
  · rcases Bool.eq_false_or_eq_true (wdS T tm 15 t) with b | b
    · simp only [a, b, Bool.false_eq_true, if_false, if_true, Bool.true_or]
      exact adv_map P 1 t _ _ (fun u => barP_eq true T tm 1 P u)
    · rcases Bool.eq_false_or_eq_true (wdS T tm 16 t) with c | c
      · simp only [a, b, c, Bool.false_eq_true, if_false, if_true, Bool.false_or]
        exact adv_map P 2 t _ _ (fun u => barP_eq true T tm 2 P u)
      · simp only [a, b, c, Bool.false_eq_true, if_false, Bool.false_or]
        rfl
theorem wO3_lt {T : Nat → Int32} {tm : Nat} {t : Tk} {k : Nat} (h : wO3 T tm t = some k) : k < 3 := by
  unfold wO3 at h
  by_cases a : wdS T tm 14 t = true
  · rw [if_pos a] at h; cases h; omega
  · rw [if_neg a] at h
    by_cases b : wdS T tm 15 t = true
    · rw [if_pos b] at h; cases h; omega
    · rw [if_neg b] at h
      by_cases c : wdS T tm 16 t = true
      · rw [if_pos c] at h; cases h; omega
      · rw [if_neg c] at h; cases h
theorem QRx_bar {x : Nat} {h h' : AH} {c : Nat → Nat} {E : Nat → Nat → Nat} {P : PSt} {cc ss : Nat} (Q : QRx x h c E P) (k2 : h.kind (x + 2) = 2) (F : Fr cc ss (fun a j => a = x + 2 ∧ (2 ≤ j ∧ j ≤ 3 ∨ j = 10)) h h') {bb : Nat} {k p w : Int32} (hb : h'.R (x + 2) 10 = some bb ∧ h'.kind bb = 4 ∧ h'.I bb 0 = k ∧ h'.I bb 1 = p ∧ h'.I bb 2 = w) : QRx x h' c E (P.1.setB k p w, P.2) := by
  obtain ⟨⟨a1, a2, a3, a4, a5⟩, ⟨b1, b2, b3, b4⟩, ⟨c1, c2, c3⟩, _⟩ := Q
  have ny : ∀ j, 4 ≤ j → j ≤ 7 → h'.I (x + 2) j = h.I (x + 2) j := fun j h1 h2 => ((F.2.2.2.2.2 (x + 2) (by omega)).2.2 j (fun w => by omega)).1
  have ob : ∀ a, (7 ≤ h.kind a ∧ h.kind a ≤ 11) → h'.kind a = h.kind a ∧ ∀ j, h'.I a j = h.I a j := fun a ha => by
    obtain ⟨f1, f2, f3⟩ := F.2.2.2.2.2 a (by omega)
    exact ⟨f1, fun j => (f3 j (fun w => by rw [w.1] at ha; omega)).1⟩
  refine ⟨⟨by rw [ny 4 (by omega) (by omega)]; exact a1, a2, by rw [ny 5 (by omega) (by omega)]; exact a3, by rw [ny 6 (by omega) (by omega)]; exact a4, by rw [ny 7 (by omega) (by omega)]; exact a5⟩, ⟨b1, b2, fun v hv => ?_, b4⟩, ⟨c1, c2, fun r hr => ?_⟩, bb, hb⟩
  · have g := b3 v hv
    obtain ⟨f1, f2⟩ := ob (E 0 v) (by omega)
    rw [f1]
    simp only [f2]
    exact g
  · have g := c3 r hr
    obtain ⟨f1, f2⟩ := ob (E 1 r) (by omega)
    rw [f1]
    simp only [f2]
    exact g
theorem x_win {n : Nat} {K : Nat → Nat} {x : Nat} {Z : Zt} {h0 h : AH} {cc ss cM sM : Nat} {P : PSt} {t : Tk} (hn : 20000 < n) (hw : P.2.2.2.2 = true) (R : RX K x Z h0 cc ss (P.1, (P.2.1, P.2.2.1, P.2.2.2.1, false)) t h) (hc : cc + 3 ≤ cM) (hs : ss + 67 ≤ sM) : XO (F_X1_win n K (x + 2) h) (winQ Z.T Z.tm P t) (FX K x Z h0 cM sM) (fun P' (_ : Unit) u h' => RX K x Z h0 (cc + 2) (ss + 60) P' u h') := by
  obtain ⟨e, c, E, b, R, Q⟩ := R
  have k0 := TX_k2 R
  have R1 : TX K x Z h0 cc ss e c E b t (h.setI (x + 2) 7 1) := TX_step R (Fr_setI (W := fun a j => a = x + 2 ∧ j = 7) _ _ _ _ (fun _ => ⟨rfl, rfl⟩)) (fun a j _ z => by omega)
  have Q1 : QRx x (h.setI (x + 2) 7 1) c E P := by
    have q := QRx_set (q := P.2) Q k0 (j := 7) (v := 1) ⟨by rw [setI_O (by omega)]; exact Q.1.1, Q.1.2.1, by rw [setI_O (by omega)]; exact Q.1.2.2.1, by rw [setI_O (by omega)]; exact Q.1.2.2.2.1, by rw [setI_I, hw]; rfl⟩
    exact q
  simp only [F_X1_win, chk_true, hl_eq, k0]
  generalize h.setI (x + 2) 7 1 = h1 at R1 Q1 ⊢
  unfold winQ
  refine XO_bnd (x_needsWord hn R1 (by omega) (by omega) (x_word3 hn R1) (fun k hk => by have := wO3_lt hk; omega)) (fun k r2 u2 h2 _ q2 => ?_)
  obtain ⟨er, ek, R2, p2⟩ := q2
  subst er
  have k3 := wO3_lt ek
  have k1 := TX_k2 R1
  have k2 := TX_k2 R2
  have Q2 := QRx_kx Q1 k1 p2
  have z0 : (nI k = 0) = (k = 0) := by rw [← nI_0]; exact propext (nI_eq (by omega) (by omega))
  by_cases z : k = 0
  · rw [if_pos z]
    have z' : (k = 0) = True := eq_true z
    refine ⟨(), h2, ?_, e, c, E, b, TX_mono R2 (by omega) (by omega), Q2⟩
    simp only [chk_true, bnd_some, ob_some, oc_some, oc_none, hl_eq, ix_0, ix_1, if_true, if_false, inb0_2, inb1_2, not_true_eq_false, not_false_eq_true, ite_true, ite_false, true_or, or_true, or_self, zero_eq_one_I, one_eq_zero_I, z0, z']
  · rw [if_neg z]
    have z' : (k = 0) = False := eq_false z
    simp only [chk_true, bnd_some, ob_some, oc_some, oc_none, hl_eq, ix_0, ix_1, if_true, if_false, inb0_2, inb1_2, not_true_eq_false, not_false_eq_true, ite_true, ite_false, true_or, or_true, or_self, zero_eq_one_I, one_eq_zero_I, z0, z', k2]
    unfold barQ
    refine XO_bnd (x_num hn R2 (by omega) (by omega) _ _) (fun v r3 u3 h3 _ q3 => ?_)
    obtain ⟨ev, R3, p3⟩ := q3
    subst ev
    have k3 := TX_k2 R3
    simp only [chk_true, bnd_some, ob_some, oc_some, oc_none, hl_eq, ix_0, ix_1, if_true, if_false, inb0_2, inb1_2, not_true_eq_false, not_false_eq_true, ite_true, ite_false, true_or, or_true, or_self, zero_eq_one_I, one_eq_zero_I, k3]
    refine XO_bnd (x_needs hn R3 (by omega) (by omega) 47 ()) (fun _ _ u4 h4 _ q4 => ?_)
    obtain ⟨_, R4, p4⟩ := q4
    have k4 := TX_k2 R4
    have wf := BX_wf R4.1
    have Q4 := QRx_kx (QRx_kx Q2 k2 p3) k3 p4
    have yn : x + 2 ≠ h4.n := by intro z; rw [z, wf h4.n (Nat.le_refl _)] at k4; cases k4
    have k4' : (h4.new 4 0 3).kind (x + 2) = 2 := by rw [AH.kind_new, if_neg yn]; exact k4
    have kn : (h4.new 4 0 3).kind h4.n = 4 := by rw [AH.kind_new, if_pos rfl]
    have R4' := TX_step R4 (Fr_new (W := fun _ _ => False) wf 4 0 3) (fun _ _ _ z => absurd z id)
    simp only [chk_true, bnd_some, ob_some, oc_some, oc_none, hl_eq, ix_0, ix_1, if_true, if_false, inb0_2, inb1_2, not_true_eq_false, not_false_eq_true, ite_true, ite_false, true_or, or_true, or_self, zero_eq_one_I, one_eq_zero_I, k4']
    refine XO_bnd (x_num hn R4' (by omega) (by omega) _ _) (fun w r5 u5 h5 _ q5 => ?_)
    obtain ⟨ew, R5, p5⟩ := q5
    subst ew
    have k5 := TX_k2 R5
    have kn5 : h5.kind h4.n = 4 := by rw [(p5.2.2.2.2.2 h4.n (by omega)).1]; exact kn
    have F5 : Fr 0 0 (fun a _ => a = h4.n) h5 (((h5.setI h4.n 0 (nI k)).setI h4.n 1 r3).setI h4.n 2 r5) := Fr_trans (W := fun a _ => a = h4.n) (Fr_trans (W := fun a _ => a = h4.n) (Fr_setI (W := fun a _ => a = h4.n) _ _ _ _ (fun _ => rfl)) (Fr_setI (W := fun a _ => a = h4.n) _ _ _ _ (fun _ => rfl)) (fun _ _ _ z => z) (fun _ _ _ z => z)) (Fr_setI (W := fun a _ => a = h4.n) _ _ _ _ (fun _ => rfl)) (fun _ _ _ z => z) (fun _ _ _ z => z)
    have F6 := Fr_late wf rfl p5 F5
    have F7 : Fr 1 3 (fun a j => a = x + 2 ∧ (2 ≤ j ∧ j ≤ 3 ∨ j = 10)) h4 ((((h5.setI h4.n 0 (nI k)).setI h4.n 1 r3).setI h4.n 2 r5).setR (x + 2) 10 (some h4.n)) := Fr_trans (W := fun a j => a = x + 2 ∧ (2 ≤ j ∧ j ≤ 3 ∨ j = 10)) F6 (Fr_setR (W := fun a j => a = x + 2 ∧ j = 10) _ _ _ _ (fun _ => ⟨rfl, rfl⟩)) (fun a j _ z => by omega) (fun a j _ z => by omega)
    have i2 : ∀ j, ((((h5.setI h4.n 0 (nI k)).setI h4.n 1 r3).setI h4.n 2 r5).setR (x + 2) 10 (some h4.n)).I (x + 2) j = h5.I (x + 2) j := fun j => by
      rw [AH.I_setR, setI_O (by omega), setI_O (by omega), setI_O (by omega)]
    have R7 := TX_late R4 R5 F7 (fun a j _ z => by omega) ⟨i2 2, i2 3⟩
    have Q7 := QRx_bar (bb := h4.n) (k := nI k) (p := r3) (w := r5) Q4 k4 F7 ⟨by rw [AH.R_setR, if_pos ⟨rfl, rfl⟩], kn5, by rw [AH.I_setR, setI_O (by omega), setI_O (by omega)]; exact setI_I _ _ _ _, by rw [AH.I_setR, setI_O (by omega)]; exact setI_I _ _ _ _, by rw [AH.I_setR]; exact setI_I _ _ _ _⟩
    refine ⟨(), _, ?_, e, c, E, b, TX_mono R7 (by omega) (by omega), Q7⟩
    simp only [F_X2_init, chk_true, bnd_some, ob_some, oc_some, oc_none, hl_eq, ix_0, ix_1, if_true, if_false, inb0_2, inb1_2, not_true_eq_false, not_false_eq_true, ite_true, ite_false, true_or, or_true, or_self, zero_eq_one_I, one_eq_zero_I, AH.n_setI, AH.n_setL, AH.n_setR, AH.sl_setI, AH.sl_setL, AH.sl_setR, AH.kind_setI, AH.kind_setL, AH.kind_setR, AH.len_setI, AH.len_setL, AH.len_setR, AH.I_setL, AH.I_setR, AH.L_setI, AH.L_setR, AH.R_setI, AH.R_setL, kn5, k5]
