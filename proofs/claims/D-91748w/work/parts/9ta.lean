/-! PURE PART TA: the sheet's reader: places, win, sentences -/
set_option maxRecDepth 100000
def plaQ (c : Bool) (T : Nat → Int32) (tm : Nat) (P : PSt) (t : Tk) : Rs PSt := PB (numP c T tm 0 99 t) fun a t => PB (numP c T tm 0 99 t) fun b t => .inr ((P.1.pushP a b, P.2), t)
theorem plaP_eq (c : Bool) (T : Nat → Int32) (tm : Nat) (P : PSt) (t : Tk) : plaP c T tm P t = PB (plaQ c T tm P t) (semiP c T tm) := by
  simp only [plaP, plaQ, PB_assoc]
  rfl
/-- the new cell a, set in the reader's pause: from before it was new -/
theorem Fr_late {x : Nat} {h h1 h2 h3 : AH} {k w : Nat} (wf : Wf h) (e1 : h1 = h.new k 0 w) (K1 : KX x h1 h2) (F : Fr 0 0 (fun a _ => a = h.n) h2 h3) : Fr 1 w (fun a j => a = x + 2 ∧ 2 ≤ j ∧ j ≤ 3) h h3 := by
  subst e1
  have A := Fr_trans (W := fun a j => (a = x + 2 ∧ 2 ≤ j ∧ j ≤ 3) ∨ a = h.n) (Fr_new (W := fun _ _ => False) wf k 0 w) K1 (fun _ _ _ z => absurd z id) (fun _ _ _ z => Or.inl z)
  have B := Fr_trans (W := fun a j => (a = x + 2 ∧ 2 ≤ j ∧ j ≤ 3) ∨ a = h.n) A F (fun _ _ _ z => z) (fun _ _ _ z => Or.inr z)
  refine Fr_mono B (by omega) (by omega) (fun a j ha z => ?_)
  rcases z with z | z
  · exact z
  · exact absurd (by rw [z]; exact wf h.n (Nat.le_refl _)) ha
/-- the state of the token carried over such a pause -/
theorem TX_late {K : Nat → Nat} {x : Nat} {Z : Zt} {h0 h h2 h3 : AH} {cc ss c2 s2 c1 s1 : Nat} {e c : Nat → Nat} {E : Nat → Nat → Nat} {b : Nat} {t u : Tk} (R : TX K x Z h0 cc ss e c E b t h) (R2 : TX K x Z h0 c2 s2 e c E b u h2) {W : Nat → Nat → Prop} (F : Fr c1 s1 W h h3) (hW : ∀ a j, h.kind a ≠ 0 → W a j → a = x + 2 ∧ 2 ≤ j ∧ j ≠ 8 ∧ j ≠ 9) (y2 : h3.I (x + 2) 2 = h2.I (x + 2) 2 ∧ h3.I (x + 2) 3 = h2.I (x + 2) 3) : TX K x Z h0 (cc + c1) (ss + s1) e c E b u h3 :=
  ⟨BX_step R.1 F hW, by rw [y2.1]; exact R2.2.1, by rw [y2.2]; exact R2.2.2.1, R2.2.2.2⟩
theorem QRx_kx_any {x : Nat} {h h' : AH} {c : Nat → Nat} {E : Nat → Nat → Nat} {P : PSt} {cc ss : Nat} (Q : QRx x h c E P) (k2 : h.kind (x + 2) = 2) (F : Fr cc ss (fun a j => a = x + 2 ∧ 2 ≤ j ∧ j ≤ 3) h h') : QRx x h' c E P := QRx_fr Q k2 F (fun a j _ z => Or.inl ⟨z.1, by omega⟩)
theorem x_plaQ {n : Nat} {K : Nat → Nat} {x : Nat} {Z : Zt} {h0 h : AH} {cc ss cM sM : Nat} {P : PSt} {t : Tk} (hn : 20000 < n) (hv : P.1.np < 20) (R : RX K x Z h0 cc ss P t h) (hc : cc + 3 ≤ cM) (hs : ss + 67 ≤ sM) : XO (bndT (F_X1_number n K (x + 2) (0 : Int32) (99 : Int32) h) fun r48 h49 => chk (h49.kind (x + 2) = 2) <| hl (h49.new 11 0 2) fun h52 => chk (h52.kind (x + 2) = 2) <| bndT (F_X1_number n K (x + 2) (0 : Int32) (99 : Int32) h52) fun r54 h55 => bnd (F_X10_init n K h49.n r48 r54 h55) fun _ h58 => ob (h49.R (x + 2) 9) fun a59 => chk (h58.kind a59 = 3) <| bnd (F_J2_add n K a59 (some h49.n) h58) fun _ h61 => some (.inr (), h61)) (plaQ true Z.T Z.tm P t) (FX K x Z h0 cM sM) (fun P' (_ : Unit) u h' => RX K x Z h0 (cc + 2) (ss + 60) P' u h') := by
  obtain ⟨e, c, E, b, R, Q⟩ := R
  have k0 := TX_k2 R
  unfold plaQ
  refine XO_bnd (x_num hn R (by omega) (by omega) _ _) (fun a r1 u1 h1 _ q1 => ?_)
  obtain ⟨ea, R1, p1⟩ := q1
  subst ea
  have k1 := TX_k2 R1
  have wf := BX_wf R1.1
  have yn : x + 2 ≠ h1.n := by intro z; rw [z, wf h1.n (Nat.le_refl _)] at k1; cases k1
  have k1' : (h1.new 11 0 2).kind (x + 2) = 2 := by rw [AH.kind_new, if_neg yn]; exact k1
  have kn : (h1.new 11 0 2).kind h1.n = 11 := by rw [AH.kind_new, if_pos rfl]
  have R1' := TX_step R1 (Fr_new (W := fun _ _ => False) wf 11 0 2) (fun _ _ _ z => absurd z id)
  simp only [chk_true, bnd_some, ob_some, oc_some, oc_none, hl_eq, ix_0, ix_1, if_true, if_false, inb0_2, inb1_2, not_true_eq_false, not_false_eq_true, ite_true, ite_false, true_or, or_true, or_self, zero_eq_one_I, one_eq_zero_I, k1, k1']
  refine XO_bnd (x_num hn R1' (by omega) (by omega) _ _) (fun a' r2 u2 h2 _ q2 => ?_)
  obtain ⟨ea', R2, p2⟩ := q2
  subst ea'
  have kn2 : h2.kind h1.n = 11 := by rw [(p2.2.2.2.2.2 h1.n (by omega)).1]; exact kn
  have F2 : Fr 0 0 (fun a _ => a = h1.n) h2 ((h2.setI h1.n 0 r1).setI h1.n 1 r2) := Fr_trans (W := fun a _ => a = h1.n) (Fr_setI (W := fun a _ => a = h1.n) _ _ _ _ (fun _ => rfl)) (Fr_setI (W := fun a _ => a = h1.n) _ _ _ _ (fun _ => rfl)) (fun _ _ _ z => z) (fun _ _ _ z => z)
  have F3 := Fr_late wf rfl p2 F2
  have R3 := TX_late R1 R2 F3 (fun a j _ z => ⟨z.1, by omega⟩) ⟨by rw [setI_O (by omega), setI_O (by omega)], by rw [setI_O (by omega), setI_O (by omega)]⟩
  have Q1 := QRx_kx Q k0 p1
  have Q3 := QRx_kx_any Q1 k1 F3
  have c1 : c 1 = P.1.np := Q.2.2.1.1
  have kn3 : ((h2.setI h1.n 0 r1).setI h1.n 1 r2).kind h1.n = 11 := kn2
  have i30 : ((h2.setI h1.n 0 r1).setI h1.n 1 r2).I h1.n 0 = r1 := by rw [setI_O (by omega)]; exact setI_I _ _ _ _
  have i31 : ((h2.setI h1.n 0 r1).setI h1.n 1 r2).I h1.n 1 = r2 := setI_I _ _ _ _
  have ev : F_X10_init n K h1.n r1 r2 h2 = some ((), (h2.setI h1.n 0 r1).setI h1.n 1 r2) := by simp only [F_X10_init, chk_true, bnd_some, ob_some, oc_some, oc_none, hl_eq, ix_0, ix_1, if_true, if_false, inb0_2, inb1_2, not_true_eq_false, not_false_eq_true, ite_true, ite_false, true_or, or_true, or_self, zero_eq_one_I, one_eq_zero_I, kn2]
  rw [ev]
  generalize (h2.setI h1.n 0 r1).setI h1.n 1 r2 = h3 at R3 Q3 kn3 i30 i31 ⊢
  obtain ⟨e', h4, a1, a2, a3⟩ := TX_add (n := n) R3 (i := 1) (by omega) (by omega) (a := h1.n) (by omega)
  have a1' : F_J2_add n K (x + 4) (some h1.n) h3 = some (1, h4) := a1
  have f := a3.2.2.2.2.2 h1.n (by omega)
  have r9 : h1.R (x + 2) 9 = some (x + 4) := xs_r2_9 R1.1.2.1.2.2.2.2.1.1
  have k33 : h3.kind (x + 4) = 3 := xs_k4 R3.1.2.1.2.2.2.2.1.1
  have nw : ∀ j : Nat, ¬ (h3.kind h1.n = 3 ∨ h3.kind h1.n = 34) := fun _ => by omega
  have Q4 : QRx x h4 c E P := QRx_fr Q3 (TX_k2 R3) a3 (fun _ _ _ z => Or.inr z)
  refine ⟨(), h4, ?_, e', _, _, b, TX_mono a2 (by omega) (by omega), QRx_pushP Q4 hv (by rw [f.1]; exact kn3) ⟨by rw [(f.2.2 0 (nw 0)).1]; exact i30, by rw [(f.2.2 1 (nw 1)).1]; exact i31⟩⟩
  simp only [chk_true, bnd_some, ob_some, oc_some, oc_none, hl_eq, ix_0, ix_1, if_true, if_false, inb0_2, inb1_2, not_true_eq_false, not_false_eq_true, ite_true, ite_false, true_or, or_true, or_self, zero_eq_one_I, one_eq_zero_I, r9, k33, a1']
