/-! PURE PART SY: the sheet's reader: voters, places -/
set_option maxRecDepth 100000
def QRx (x : Nat) (h : AH) (c : Nat → Nat) (E : Nat → Nat → Nat) (P : PSt) : Prop :=
  (h.I (x + 2) 4 = nI P.2.1 ∧ P.2.1 < 4 ∧ h.I (x + 2) 5 = P.2.2.1 ∧ h.I (x + 2) 6 = P.2.2.2.1 ∧ h.I (x + 2) 7 = bI P.2.2.2.2) ∧
  (c 0 = P.1.nv ∧ P.1.nv ≤ 15 ∧ (∀ v, v < P.1.nv → (7 ≤ h.kind (E 0 v) ∧ h.kind (E 0 v) ≤ 10) ∧ P.1.V v 3 = nI (h.kind (E 0 v) - 7) ∧ h.I (E 0 v) 3 = P.1.V v 0 ∧ h.I (E 0 v) 4 = P.1.V v 1 ∧ h.I (E 0 v) 0 = P.1.V v 2 ∧ h.I (E 0 v) 1 = P.1.V v 4 ∧ h.I (E 0 v) 2 = P.1.V v 5) ∧ ∀ v w, v < P.1.nv → w < P.1.nv → E 0 v = E 0 w → v = w) ∧
  (c 1 = P.1.np ∧ P.1.np ≤ 20 ∧ ∀ p, p < P.1.np → h.kind (E 1 p) = 11 ∧ h.I (E 1 p) 0 = P.1.P p 0 ∧ h.I (E 1 p) 1 = P.1.P p 1) ∧
  (∃ bb, h.R (x + 2) 10 = some bb ∧ h.kind bb = 4 ∧ h.I bb 0 = P.1.bk ∧ h.I bb 1 = P.1.bp ∧ h.I bb 2 = P.1.bw)
theorem QRx_fr {x : Nat} {h h' : AH} {c : Nat → Nat} {E : Nat → Nat → Nat} {P : PSt} {cc ss : Nat} {W : Nat → Nat → Prop} (Q : QRx x h c E P) (k2 : h.kind (x + 2) = 2) (F : Fr cc ss W h h') (hW : ∀ a j, h.kind a ≠ 0 → W a j → (a = x + 2 ∧ j ≤ 3) ∨ h.kind a = 3 ∨ h.kind a = 34) : QRx x h' c E P := by
  obtain ⟨⟨a1, a2, a3, a4, a5⟩, ⟨b1, b2, b3, b4⟩, ⟨c1, c2, c3⟩, bb, d1, d2, d3, d4, d5⟩ := Q
  have ny : ∀ j, 4 ≤ j → h'.I (x + 2) j = h.I (x + 2) j ∧ h'.R (x + 2) j = h.R (x + 2) j := fun j hj => by
    have f := (F.2.2.2.2.2 (x + 2) (by omega)).2.2 j (fun w => by rcases hW _ _ (by omega) w with z | z | z <;> omega)
    exact ⟨f.1, f.2.2⟩
  have ob : ∀ a, (h.kind a = 4 ∨ (7 ≤ h.kind a ∧ h.kind a ≤ 11)) → h'.kind a = h.kind a ∧ ∀ j, h'.I a j = h.I a j := fun a ha => by
    obtain ⟨f1, f2, f3⟩ := F.2.2.2.2.2 a (by omega)
    refine ⟨f1, fun j => (f3 j (fun w => ?_)).1⟩
    rcases hW _ _ (by omega) w with z | z | z
    · rw [z.1] at ha; omega
    · omega
    · omega
  refine ⟨⟨by rw [(ny 4 (by omega)).1]; exact a1, a2, by rw [(ny 5 (by omega)).1]; exact a3, by rw [(ny 6 (by omega)).1]; exact a4, by rw [(ny 7 (by omega)).1]; exact a5⟩, ⟨b1, b2, fun v hv => ?_, b4⟩, ⟨c1, c2, fun p hp => ?_⟩, bb, by rw [(ny 10 (by omega)).2]; exact d1, ?_⟩
  · have g := b3 v hv
    obtain ⟨f1, f2⟩ := ob (E 0 v) (by omega)
    rw [f1]
    simp only [f2]
    exact g
  · have g := c3 p hp
    obtain ⟨f1, f2⟩ := ob (E 1 p) (by omega)
    rw [f1]
    simp only [f2]
    exact g
  · obtain ⟨f1, f2⟩ := ob bb (by omega)
    rw [f1]
    simp only [f2]
    exact ⟨d2, d3, d4, d5⟩
theorem QRx_kx {x : Nat} {h h' : AH} {c : Nat → Nat} {E : Nat → Nat → Nat} {P : PSt} (Q : QRx x h c E P) (k2 : h.kind (x + 2) = 2) (F : KX x h h') : QRx x h' c E P := QRx_fr Q k2 F (fun a j _ z => Or.inl ⟨z.1, by omega⟩)
def RX (K : Nat → Nat) (x : Nat) (Z : Zt) (h0 : AH) (cc ss : Nat) (P : PSt) (t : Tk) (h : AH) : Prop := ∃ e c E b, TX K x Z h0 cc ss e c E b t h ∧ QRx x h c E P
/-- a voter made -/
theorem x_made {n : Nat} {K : Nat → Nat} {y : Nat} {h : AH} (wf : Wf h) (k2 : h.kind y = 2) {me : Nat} (m4 : me < 4) (i4 : h.I y 4 = nI me) (p1 p2 p3 : Int32) : ∃ h', F_X1_made n K y p1 p2 p3 h = some (some h.n, h') ∧ Fr 1 5 (fun _ _ => False) h h' ∧ h'.kind h.n = 7 + me ∧ h'.I h.n 3 = p1 ∧ h'.I h.n 4 = p2 ∧ h'.I h.n 0 = p3 ∧ h'.I h.n 1 = h.I y 5 ∧ h'.I h.n 2 = h.I y 6 := by
  have yn : y ≠ h.n := by intro z; rw [z, wf h.n (Nat.le_refl _)] at k2; cases k2
  have kn : ∀ k, (h.new k 0 5).kind h.n = k := fun k => by rw [AH.kind_new, if_pos rfl]
  have ky : ∀ k, (h.new k 0 5).kind y = 2 := fun k => by rw [AH.kind_new, if_neg yn]; exact k2
  have iy : ∀ k j, (h.new k 0 5).I y j = h.I y j := fun k j => by rw [AH.I_new, if_neg yn]
  have fr : ∀ k, Fr 1 5 (fun _ _ => False) h ((((((h.new k 0 5).setI h.n 3 p1).setI h.n 4 p2).setI h.n 0 p3).setI h.n 1 (h.I y 5)).setI h.n 2 (h.I y 6)) := by
    intro k
    have st : ∀ {c s : Nat} {g g' : AH}, Fr c s (fun a _ => a = h.n) h g → Fr 0 0 (fun a _ => a = h.n) g g' → Fr c s (fun a _ => a = h.n) h g' := fun F G => Fr_trans (W := fun a _ => a = h.n) F G (fun _ _ _ z => z) (fun _ _ _ z => z)
    have F := st (st (st (st (st (Fr_new (W := fun a _ => a = h.n) wf k 0 5) (Fr_setI _ h.n 3 p1 (fun _ => rfl))) (Fr_setI _ h.n 4 p2 (fun _ => rfl))) (Fr_setI _ h.n 0 p3 (fun _ => rfl))) (Fr_setI _ h.n 1 (h.I y 5) (fun _ => rfl))) (Fr_setI _ h.n 2 (h.I y 6) (fun _ => rfl))
    exact Fr_mono F (Nat.le_refl _) (Nat.le_refl _) (fun a j ha z => ha (by rw [z]; exact wf h.n (Nat.le_refl _)))
  have is : ∀ k, ((((((h.new k 0 5).setI h.n 3 p1).setI h.n 4 p2).setI h.n 0 p3).setI h.n 1 (h.I y 5)).setI h.n 2 (h.I y 6)).I h.n 3 = p1 ∧ ((((((h.new k 0 5).setI h.n 3 p1).setI h.n 4 p2).setI h.n 0 p3).setI h.n 1 (h.I y 5)).setI h.n 2 (h.I y 6)).I h.n 4 = p2 ∧ ((((((h.new k 0 5).setI h.n 3 p1).setI h.n 4 p2).setI h.n 0 p3).setI h.n 1 (h.I y 5)).setI h.n 2 (h.I y 6)).I h.n 0 = p3 ∧ ((((((h.new k 0 5).setI h.n 3 p1).setI h.n 4 p2).setI h.n 0 p3).setI h.n 1 (h.I y 5)).setI h.n 2 (h.I y 6)).I h.n 1 = h.I y 5 ∧ ((((((h.new k 0 5).setI h.n 3 p1).setI h.n 4 p2).setI h.n 0 p3).setI h.n 1 (h.I y 5)).setI h.n 2 (h.I y 6)).I h.n 2 = h.I y 6 := by
    intro k
    refine ⟨?_, ?_, ?_, ?_, setI_I _ _ _ _⟩
    · rw [setI_O (by omega), setI_O (by omega), setI_O (by omega), setI_O (by omega), setI_I]
    · rw [setI_O (by omega), setI_O (by omega), setI_O (by omega), setI_I]
    · rw [setI_O (by omega), setI_O (by omega), setI_I]
    · rw [setI_O (by omega), setI_I]
  have r : ∀ k, 7 ≤ k → k ≤ 10 → (7 ≤ k ∧ k ≤ 10) = True := fun k a b => eq_true ⟨a, b⟩
  have e4 : me = 0 ∨ me = 1 ∨ me = 2 ∨ me = 3 := by omega
  rcases e4 with e | e | e | e
  · subst e
    refine ⟨_, ?_, fr 7, kn 7, is 7⟩
    have t0 : (nI 0 = 0) = True := eq_true rfl
    simp only [F_X1_made, F_X6_init, F_X5_init, chk_true, bnd_some, ob_some, oc_some, oc_none, hl_eq, jn_eq, ix_0, ix_1, if_true, if_false, inb0_2, inb1_2, not_true_eq_false, not_false_eq_true, ite_true, ite_false, true_or, or_true, or_self, zero_eq_one_I, one_eq_zero_I, AH.n_setI, AH.n_setL, AH.n_setR, AH.sl_setI, AH.sl_setL, AH.sl_setR, AH.kind_setI, AH.kind_setL, AH.kind_setR, AH.len_setI, AH.len_setL, AH.len_setR, AH.I_setL, AH.I_setR, AH.L_setI, AH.L_setR, AH.R_setI, AH.R_setL, k2, i4, t0, kn, ky, iy, r 7 (by omega) (by omega)]
  · subst e
    refine ⟨_, ?_, fr 8, kn 8, is 8⟩
    have t0 : (nI 1 = 0) = False := eq_false (by decide)
    have t1 : (nI 1 = 1) = True := eq_true rfl
    simp only [F_X1_made, F_X7_init, F_X5_init, chk_true, bnd_some, ob_some, oc_some, oc_none, hl_eq, jn_eq, ix_0, ix_1, if_true, if_false, inb0_2, inb1_2, not_true_eq_false, not_false_eq_true, ite_true, ite_false, true_or, or_true, or_self, zero_eq_one_I, one_eq_zero_I, AH.n_setI, AH.n_setL, AH.n_setR, AH.sl_setI, AH.sl_setL, AH.sl_setR, AH.kind_setI, AH.kind_setL, AH.kind_setR, AH.len_setI, AH.len_setL, AH.len_setR, AH.I_setL, AH.I_setR, AH.L_setI, AH.L_setR, AH.R_setI, AH.R_setL, k2, i4, t0, t1, kn, ky, iy, r 8 (by omega) (by omega)]
  · subst e
    refine ⟨_, ?_, fr 9, kn 9, is 9⟩
    have t0 : (nI 2 = 0) = False := eq_false (by decide)
    have t1 : (nI 2 = 1) = False := eq_false (by decide)
    have t2 : (nI 2 = 2) = True := eq_true rfl
    simp only [F_X1_made, F_X8_init, F_X7_init, F_X5_init, chk_true, bnd_some, ob_some, oc_some, oc_none, hl_eq, jn_eq, ix_0, ix_1, if_true, if_false, inb0_2, inb1_2, not_true_eq_false, not_false_eq_true, ite_true, ite_false, true_or, or_true, or_self, zero_eq_one_I, one_eq_zero_I, AH.n_setI, AH.n_setL, AH.n_setR, AH.sl_setI, AH.sl_setL, AH.sl_setR, AH.kind_setI, AH.kind_setL, AH.kind_setR, AH.len_setI, AH.len_setL, AH.len_setR, AH.I_setL, AH.I_setR, AH.L_setI, AH.L_setR, AH.R_setI, AH.R_setL, k2, i4, t0, t1, t2, kn, ky, iy, r 9 (by omega) (by omega)]
  · subst e
    refine ⟨_, ?_, fr 10, kn 10, is 10⟩
    have t0 : (nI 3 = 0) = False := eq_false (by decide)
    have t1 : (nI 3 = 1) = False := eq_false (by decide)
    have t2 : (nI 3 = 2) = False := eq_false (by decide)
    simp only [F_X1_made, F_X9_init, F_X7_init, F_X5_init, chk_true, bnd_some, ob_some, oc_some, oc_none, hl_eq, jn_eq, ix_0, ix_1, if_true, if_false, inb0_2, inb1_2, not_true_eq_false, not_false_eq_true, ite_true, ite_false, true_or, or_true, or_self, zero_eq_one_I, one_eq_zero_I, AH.n_setI, AH.n_setL, AH.n_setR, AH.sl_setI, AH.sl_setL, AH.sl_setR, AH.kind_setI, AH.kind_setL, AH.kind_setR, AH.len_setI, AH.len_setL, AH.len_setR, AH.I_setL, AH.I_setR, AH.L_setI, AH.L_setR, AH.R_setI, AH.R_setL, k2, i4, t0, t1, t2, kn, ky, iy, r 10 (by omega) (by omega)]
/-- a thing put at the end of the reader's list i (0 or 1) -/
theorem BX_add {n : Nat} {K : Nat → Nat} {x : Nat} {Z : Zt} {h0 h : AH} {cc ss : Nat} {e c : Nat → Nat} {E : Nat → Nat → Nat} {b : Nat} (B : BX K x Z h0 cc ss e c E b h) {i : Nat} (hi : i < 2) (hc : c i ≤ 20) {a : Nat} (ha : 7 ≤ h.kind a ∧ h.kind a ≤ 14) : ∃ e' h', F_J2_add n K (x + loL i) (some a) h = some (1, h') ∧ BX K x Z h0 (cc + 1) (ss + (10 + 2 * c i)) e' (up1 c i (c i + 1)) (up1 E i (up1 (E i) (c i) a)) b h' ∧ Fr 1 (10 + 2 * c i) (fun b j => h.kind b = 3 ∨ h.kind b = 34) h h' := by
  obtain ⟨b1, b2, b3, b4, b5, b6⟩ := B
  have i3 := b2.2.2.1
  have i4 := b2.2.2.2.1
  have MS := b2.2.1
  have k2 := xs_k2 b2.2.2.2.2.1.1
  obtain ⟨e', h', q1, q2, q3⟩ := LL_add (n := n) b2.1 i3 (i := i) (by omega) (by omega) ha
  have kl := (i3.1 i (by omega)).1.1
  have F : Fr 1 (10 + 2 * c i) (fun b j => h.kind b = 3 ∨ h.kind b = 34) h h' := Fr_mono q3 (Nat.le_refl _) (Nat.le_refl _) (fun a j _ z => by
    rcases z with z | z
    · left; rw [z]; exact kl
    · right; rw [z.1]; exact z.2.2)
  have f := F.2.2.2.2.2 (x + 2) (by omega)
  refine ⟨up1 e i e', h', q1, ⟨?_, ?_, CK_fr b3 F, b4, ?_, ?_⟩, F⟩
  · refine Fr_trans (W := fun a _ => ¬ RgM (x + 29) a) b1 (Fr_mono F (Nat.le_refl _) (Nat.le_refl _) (W' := fun a j => ¬ RgM (x + 29) a) (fun a j ha w rg => ?_)) (fun _ _ _ z => z) (fun a j _ z => z)
    have := mKs_kind MS rg
    omega
  · refine XIn_g b2 F q2 (fun j hj => ?_) (fun j h2 h7 => ?_) (fun a j _ w => Or.inr w)
    · unfold up1
      by_cases z : j = i
      · rw [if_pos z]; omega
      · rw [if_neg z]; exact i4 j hj
    · unfold up1
      rw [if_neg (by omega), if_neg (by omega), if_neg (by omega)]
      exact ⟨rfl, rfl, rfl⟩
  · rw [(f.2.2 0 (fun w => by omega)).2.2]; exact b5
  · rw [(f.2.2 1 (fun w => by omega)).1]; exact b6
