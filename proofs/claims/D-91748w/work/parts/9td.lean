/-! PURE PART TD: the sheet's reader: the whole text; fault -/
set_option maxRecDepth 100000
theorem BX_clear {n : Nat} {K : Nat → Nat} {x : Nat} {Z : Zt} {h0 h : AH} {cc ss : Nat} {e c : Nat → Nat} {E : Nat → Nat → Nat} {b : Nat} (hn : 20000 < n) (B : BX K x Z h0 cc ss e c E b h) {i : Nat} (hi : i < 2) : ∃ h', F_J2_clear n K (x + loL i) h = some ((), h') ∧ BX K x Z h0 cc ss e (up1 c i 0) E b h' ∧ Fr 0 0 (fun b j => h.kind b = 3 ∨ h.kind b = 34) h h' := by
  obtain ⟨b1, b2, b3, b4, b5, b6⟩ := B
  have i3 := b2.2.2.1
  have i4 := b2.2.2.2.1
  have MS := b2.2.1
  have k2 := xs_k2 b2.2.2.2.2.1.1
  obtain ⟨h', q1, q2, q3⟩ := LL_clear (n := n) hn i3 (i := i) (by omega) (i4 i (by omega))
  have kl := (i3.1 i (by omega)).1.1
  have F : Fr 0 0 (fun b j => h.kind b = 3 ∨ h.kind b = 34) h h' := Fr_mono q3 (Nat.le_refl _) (Nat.le_refl _) (fun a j _ z => by
    rcases z with z | z
    · left; rw [z]; exact kl
    · right; rw [z.1]; exact z.2.2)
  have f := F.2.2.2.2.2 (x + 2) (by omega)
  refine ⟨h', q1, ⟨?_, ?_, CK_fr b3 F, b4, ?_, ?_⟩, F⟩
  · refine Fr_trans (W := fun a _ => ¬ RgM (x + 29) a) b1 (Fr_mono F (Nat.le_refl _) (Nat.le_refl _) (W' := fun a j => ¬ RgM (x + 29) a) (fun a j ha w rg => ?_)) (fun _ _ _ z => z) (fun a j _ z => z)
    have := mKs_kind MS rg
    omega
  · refine XIn_g b2 F q2 (fun j hj => ?_) (fun j h2 h7 => ?_) (fun a j _ w => Or.inr w)
    · unfold up1
      by_cases z : j = i
      · rw [if_pos z]; omega
      · rw [if_neg z]; exact i4 j hj
    · refine ⟨rfl, ?_, rfl⟩
      unfold up1
      rw [if_neg (by omega)]
  · rw [(f.2.2 0 (fun w => by omega)).2.2]; exact b5
  · rw [(f.2.2 1 (fun w => by omega)).1]; exact b6
/-- the first token -/
theorem x_next2 {n : Nat} {K : Nat → Nat} {x : Nat} {Z : Zt} {h0 h : AH} {cc ss cM sM : Nat} {e c : Nat → Nat} {E : Nat → Nat → Nat} {b : Nat} (hn : 20000 < n) (B : BX K x Z h0 cc ss e c E b h) (r2 : h.I (x + 2) 2 = nI 0) (hc : cc + 1 ≤ cM) (hs : ss + 7 ≤ sM) : XO (F_X1_next n K (x + 2) h) (if badT Z.T Z.tm (tkS Z.T Z.tm 0) = true then .inl (tkS Z.T Z.tm 0).1 else .inr ((), tkS Z.T Z.tm 0)) (FX K x Z h0 cM sM) (fun _ _ u h' => u = tkS Z.T Z.tm 0 ∧ TX K x Z h0 cc ss e c E b u h' ∧ KX x h h') := by
  have H := BX_rd B
  have fr : KX x h ((h.setI (x + 2) 3 (nI (tkS Z.T Z.tm 0).1)).setI (x + 2) 2 (nI (tkS Z.T Z.tm 0).2)) := KX_trans (Fr_setI _ _ _ _ (fun _ => ⟨rfl, by omega⟩)) (Fr_setI _ _ _ _ (fun _ => ⟨rfl, by omega⟩))
  have B1 : BX K x Z h0 cc ss e c E b ((h.setI (x + 2) 3 (nI (tkS Z.T Z.tm 0).1)).setI (x + 2) 2 (nI (tkS Z.T Z.tm 0).2)) := BX_step B fr (fun a j _ z => ⟨z.1, by omega⟩)
  have R1 : TX K x Z h0 cc ss e c E b (tkS Z.T Z.tm 0) ((h.setI (x + 2) 3 (nI (tkS Z.T Z.tm 0).1)).setI (x + 2) 2 (nI (tkS Z.T Z.tm 0).2)) := ⟨B1, setI_I _ _ _ _, by rw [setI_O (by omega)]; exact setI_I _ _ _ _, (tk_ok (Nat.zero_le _)).1, 0, Nat.zero_le _, rfl⟩
  rw [x_next1 hn H (Nat.zero_le _) r2]
  by_cases z : badT Z.T Z.tm (tkS Z.T Z.tm 0) = true
  · rw [if_pos z, if_pos z]
    obtain ⟨a, h', e1, q⟩ := x_fail (n := n) R1 hc hs
    exact ⟨a, h', by rw [e1]; rfl, q⟩
  · rw [if_neg z, if_neg z]
    exact ⟨(), _, rfl, rfl, R1, fr⟩
def GoX (K : Nat → Nat) (x : Nat) (Z : Zt) (h0 : AH) (cM sM : Nat) (r : Nat ⊕ PSt) (o : Option ((Nat ⊕ Unit) × AH)) : Prop := match r with
  | .inl p => ∃ a h', o = some (.inl a, h') ∧ FX K x Z h0 cM sM p a h'
  | .inr P => ∃ h', o = some (.inr (), h') ∧ ∃ u, RX K x Z h0 cM sM P u h'
theorem x_readL {n : Nat} {K : Nat → Nat} {x : Nat} {Z : Zt} {h0 : AH} {cM sM : Nat} (hn : 20000 < n) : ∀ f fuel cc ss P t h, RX K x Z h0 cc ss P t h → Z.tm - t.1 < f → f ≤ fuel → cc + 2 * f + 3 ≤ cM → ss + 60 * f + 67 ≤ sM → GoX K x Z h0 cM sM (goP true Z.T Z.tm f P t) (F_X1_read_L71 n K (x + 2) fuel h) := by
  intro f
  induction f with
  | zero => intro fuel cc ss P t h R h1; omega
  | succ f ih =>
    intro fuel cc ss P t h R h1 h2 h3 h4
    obtain ⟨g, rfl⟩ : ∃ g, fuel = g + 1 := ⟨fuel - 1, by omega⟩
    have R0 := R
    obtain ⟨e, c, E, b, R, Q⟩ := R
    have k0 := TX_k2 R
    have H := R.1.2.1.2.2.2.2.1.1
    have tk := R.2.2.2.1
    have t1 := tk.1
    have t2 := tk.2.1
    have ov := x_isOver (n := n) R
    have tt : (bI true = 0) = False := eq_false (by decide)
    have tf : (bI false = 0) = True := eq_true (by decide)
    rw [goP_s]
    by_cases z : t.1 = Z.tm
    · rw [if_pos z]
      rw [decide_eq_true z] at ov
      have l0 : F_J2_isEmpty n K (x + 3) h = some (if c 0 = 0 then 1 else 0, h) := l_isEmpty (R.1.2.1.2.2.1.1 0 (by omega)).1
      rw [Q.2.1.1] at l0
      by_cases y : P.1.nv = 0
      · rw [if_pos y]
        rw [if_pos y] at l0
        obtain ⟨fa, fh, fe, fq⟩ := x_fail (n := n) R (cM := cM) (sM := sM) (by omega) (by omega)
        rw [z] at fq
        refine ⟨fa, fh, ?_, fq⟩
        simp only [F_X1_read_L71, chk_true, bnd_some, ob_some, oc_some, oc_none, hl_eq, jn_eq, ix_0, ix_1, if_true, if_false, inb0_2, inb1_2, not_true_eq_false, not_false_eq_true, ite_true, ite_false, true_or, or_true, or_self, zero_eq_one_I, one_eq_zero_I, k0, ov, tt, xs_r2_8 H, xs_k3 H, l0, fe]
      · rw [if_neg y]
        rw [if_neg y] at l0
        refine ⟨h, ?_, t, RX_mono R0 (by omega) (by omega)⟩
        simp only [F_X1_read_L71, chk_true, bnd_some, ob_some, oc_some, oc_none, hl_eq, jn_eq, ix_0, ix_1, if_true, if_false, inb0_2, inb1_2, not_true_eq_false, not_false_eq_true, ite_true, ite_false, true_or, or_true, or_self, zero_eq_one_I, one_eq_zero_I, k0, ov, tt, xs_r2_8 H, xs_k3 H, l0]
    · rw [if_neg z]
      rw [decide_eq_false z] at ov
      have lt := tk.2.2 (by omega)
      have told := x_tells (n := n) (cM := cM) (sM := sM) hn R0 (by omega) (by omega)
      have pr := pr_tell (c := true) (T := Z.T) (P := P) tk
      cases hq : tellP true Z.T Z.tm P t with
      | inl p =>
        rw [hq] at told
        obtain ⟨a, h', e', q⟩ := told
        refine ⟨a, h', ?_, q⟩
        simp only [F_X1_read_L71, chk_true, bnd_some, ob_some, oc_some, oc_none, hl_eq, jn_eq, ix_0, ix_1, if_true, if_false, inb0_2, inb1_2, not_true_eq_false, not_false_eq_true, ite_true, ite_false, true_or, or_true, or_self, zero_eq_one_I, one_eq_zero_I, k0, ov, tf, e', bndT_inl]
      | inr w =>
        obtain ⟨P', u⟩ := w
        rw [hq] at told
        obtain ⟨_, h', e', q⟩ := told
        have pu := pr P' u hq
        have u1 := pu.1.1
        have u2 := pu.1.2.1
        have go := ih g (cc + 2) (ss + 60) P' u h' q (by omega) (by omega) (by omega) (by omega)
        have ev : F_X1_read_L71 n K (x + 2) (g + 1) h = F_X1_read_L71 n K (x + 2) g h' := by
          simp only [F_X1_read_L71, chk_true, bnd_some, ob_some, oc_some, oc_none, hl_eq, jn_eq, ix_0, ix_1, if_true, if_false, inb0_2, inb1_2, not_true_eq_false, not_false_eq_true, ite_true, ite_false, true_or, or_true, or_self, zero_eq_one_I, one_eq_zero_I, k0, ov, tf, e', bndT_inr]
        rw [ev]
        exact go
theorem over_tell {T : Nat → Int32} {tm : Nat} {t : Tk} (h : t.1 = tm) (c : Bool) (P : PSt) : tellP c T tm P t = .inl t.1 := by
  unfold tellP passP
  rw [over_word h, over_word h, over_word h, over_word h, over_word h]; rfl
theorem x_read {n : Nat} {K : Nat → Nat} {x : Nat} {Z : Zt} {h : AH} (hn : 20000 < n) (bz : Bz Z) (I : InvX K x h Z) (C : CK K h) : GoX K x Z h 1300 37000 (textP Z.T Z.tm) (F_X1_read n K (x + 2) (some (x + 1)) (nI Z.tm) h) := by
  obtain ⟨e, c, E, b, I⟩ := I
  have h6 := bz.2.1
  have H := I.2.2.2.2.1.1
  have k2 := xs_k2 H
  have FA : Fr 0 0 (fun a j => a = x + 2 ∧ j ≠ 8 ∧ j ≠ 9) h (((((((h.setR (x + 2) 0 (some (x + 1))).setI (x + 2) 1 (nI Z.tm)).setI (x + 2) 2 0).setI (x + 2) 4 0).setI (x + 2) 5 1).setI (x + 2) 6 1).setI (x + 2) 7 0) := by
    have st : ∀ {g g' : AH}, Fr 0 0 (fun a j => a = x + 2 ∧ j ≠ 8 ∧ j ≠ 9) h g → Fr 0 0 (fun a j => a = x + 2 ∧ j ≠ 8 ∧ j ≠ 9) g g' → Fr 0 0 (fun a j => a = x + 2 ∧ j ≠ 8 ∧ j ≠ 9) h g' := fun F G => Fr_trans (W := fun a j => a = x + 2 ∧ j ≠ 8 ∧ j ≠ 9) F G (fun _ _ _ z => z) (fun _ _ _ z => z)
    exact st (st (st (st (st (st (Fr_setR _ _ _ _ (fun _ => ⟨rfl, by omega⟩)) (Fr_setI _ _ _ _ (fun _ => ⟨rfl, by omega⟩))) (Fr_setI _ _ _ _ (fun _ => ⟨rfl, by omega⟩))) (Fr_setI _ _ _ _ (fun _ => ⟨rfl, by omega⟩))) (Fr_setI _ _ _ _ (fun _ => ⟨rfl, by omega⟩))) (Fr_setI _ _ _ _ (fun _ => ⟨rfl, by omega⟩))) (Fr_setI _ _ _ _ (fun _ => ⟨rfl, by omega⟩))
  have BA : BX K x Z h 0 0 e c E b (((((((h.setR (x + 2) 0 (some (x + 1))).setI (x + 2) 1 (nI Z.tm)).setI (x + 2) 2 0).setI (x + 2) 4 0).setI (x + 2) 5 1).setI (x + 2) 6 1).setI (x + 2) 7 0) := by
    refine ⟨Fr_mono FA (Nat.le_refl _) (Nat.le_refl _) (fun a j _ z => by rw [z.1]; exact y_out), XIn_0 I FA (fun a j _ z => z), CK_fr C FA, h6, ?_, ?_⟩
    · show ((h.setR (x + 2) 0 (some (x + 1)))).R (x + 2) 0 = some (x + 1)
      rw [AH.R_setR, if_pos ⟨rfl, rfl⟩]
    · rw [setI_O (by omega), setI_O (by omega), setI_O (by omega), setI_O (by omega), setI_O (by omega), setI_I]
  have fA : ((((((((h.setR (x + 2) 0 (some (x + 1))).setI (x + 2) 1 (nI Z.tm)).setI (x + 2) 2 0).setI (x + 2) 4 0).setI (x + 2) 5 1).setI (x + 2) 6 1).setI (x + 2) 7 0).I (x + 2) 2 = 0) ∧ ((((((((h.setR (x + 2) 0 (some (x + 1))).setI (x + 2) 1 (nI Z.tm)).setI (x + 2) 2 0).setI (x + 2) 4 0).setI (x + 2) 5 1).setI (x + 2) 6 1).setI (x + 2) 7 0).I (x + 2) 4 = 0) ∧ ((((((((h.setR (x + 2) 0 (some (x + 1))).setI (x + 2) 1 (nI Z.tm)).setI (x + 2) 2 0).setI (x + 2) 4 0).setI (x + 2) 5 1).setI (x + 2) 6 1).setI (x + 2) 7 0).I (x + 2) 5 = 1) ∧ ((((((((h.setR (x + 2) 0 (some (x + 1))).setI (x + 2) 1 (nI Z.tm)).setI (x + 2) 2 0).setI (x + 2) 4 0).setI (x + 2) 5 1).setI (x + 2) 6 1).setI (x + 2) 7 0).I (x + 2) 6 = 1) ∧ ((((((((h.setR (x + 2) 0 (some (x + 1))).setI (x + 2) 1 (nI Z.tm)).setI (x + 2) 2 0).setI (x + 2) 4 0).setI (x + 2) 5 1).setI (x + 2) 6 1).setI (x + 2) 7 0).I (x + 2) 7 = 0) := by
    refine ⟨?_, ?_, ?_, ?_, setI_I _ _ _ _⟩
    · rw [setI_O (by omega), setI_O (by omega), setI_O (by omega), setI_O (by omega), setI_I]
    · rw [setI_O (by omega), setI_O (by omega), setI_O (by omega), setI_I]
    · rw [setI_O (by omega), setI_O (by omega), setI_I]
    · rw [setI_O (by omega), setI_I]
  have r8 := xs_r2_8 BA.2.1.2.2.2.2.1.1
  have k3 := xs_k3 BA.2.1.2.2.2.2.1.1
  simp only [F_X1_read, hl_eq, k2, chk_true]
  generalize ((((((h.setR (x + 2) 0 (some (x + 1))).setI (x + 2) 1 (nI Z.tm)).setI (x + 2) 2 0).setI (x + 2) 4 0).setI (x + 2) 5 1).setI (x + 2) 6 1).setI (x + 2) 7 0 = hA at BA fA r8 k3 ⊢
  obtain ⟨hB, eB, BB, FB⟩ := BX_clear (n := n) hn BA (i := 0) (by omega)
  have eB' : F_J2_clear n K (x + 3) hA = some ((), hB) := eB
  obtain ⟨hC, eC, BC, FC⟩ := BX_clear (n := n) hn BB (i := 1) (by omega)
  have eC' : F_J2_clear n K (x + 4) hB = some ((), hC) := eC
  have kA := (BX_rd BA).1.1
  have kB := (BX_rd BB).1.1
  have kC := (BX_rd BC).1.1
  have r9 := xs_r2_9 BB.2.1.2.2.2.2.1.1
  have k4 := xs_k4 BB.2.1.2.2.2.2.1.1
  have iC : ∀ j, hC.I (x + 2) j = hA.I (x + 2) j := fun j => by
    rw [((FC.2.2.2.2.2 (x + 2) (by omega)).2.2 j (by omega)).1, ((FB.2.2.2.2.2 (x + 2) (by omega)).2.2 j (by omega)).1]
  have wf := BX_wf BC
  have yn : x + 2 ≠ hC.n := by intro z; rw [z, wf hC.n (Nat.le_refl _)] at kC; cases kC
  have kn : (hC.new 4 0 3).kind hC.n = 4 := by rw [AH.kind_new, if_pos rfl]
  have ky : (hC.new 4 0 3).kind (x + 2) = 2 := by rw [AH.kind_new, if_neg yn]; exact kC
  have FD : Fr 1 3 (fun a j => a = x + 2 ∧ j = 10) hC (((((hC.new 4 0 3).setI hC.n 0 0).setI hC.n 1 1).setI hC.n 2 2).setR (x + 2) 10 (some hC.n)) := by
    have st : ∀ {c s : Nat} {g g' : AH}, Fr c s (fun a j => a = hC.n ∨ (a = x + 2 ∧ j = 10)) hC g → Fr 0 0 (fun a j => a = hC.n ∨ (a = x + 2 ∧ j = 10)) g g' → Fr c s (fun a j => a = hC.n ∨ (a = x + 2 ∧ j = 10)) hC g' := fun F G => Fr_trans (W := fun a j => a = hC.n ∨ (a = x + 2 ∧ j = 10)) F G (fun _ _ _ z => z) (fun _ _ _ z => z)
    have F := st (st (st (st (Fr_new (W := fun a j => a = hC.n ∨ (a = x + 2 ∧ j = 10)) wf 4 0 3) (Fr_setI _ hC.n 0 0 (fun _ => Or.inl rfl))) (Fr_setI _ hC.n 1 1 (fun _ => Or.inl rfl))) (Fr_setI _ hC.n 2 2 (fun _ => Or.inl rfl))) (Fr_setR _ (x + 2) 10 (some hC.n) (fun _ => Or.inr ⟨rfl, rfl⟩))
    refine Fr_mono F (Nat.le_refl _) (Nat.le_refl _) (fun a j ha z => ?_)
    rcases z with z | z
    · exact absurd (by rw [z]; exact wf hC.n (Nat.le_refl _)) ha
    · exact z
  have BD := BX_step BC FD (fun a j _ z => by omega)
  have iD : ∀ j, (((((hC.new 4 0 3).setI hC.n 0 0).setI hC.n 1 1).setI hC.n 2 2).setR (x + 2) 10 (some hC.n)).I (x + 2) j = hA.I (x + 2) j := fun j => by
    rw [AH.I_setR, setI_O (by omega), setI_O (by omega), setI_O (by omega), AH.I_new, if_neg yn]; exact iC j
  have QD : QRx x (((((hC.new 4 0 3).setI hC.n 0 0).setI hC.n 1 1).setI hC.n 2 2).setR (x + 2) 10 (some hC.n)) (up1 (up1 c 0 0) 1 0) E P0 := by
    obtain ⟨f2, f4, f5, f6, f7⟩ := fA
    refine ⟨⟨by rw [iD, f4]; rfl, by decide, by rw [iD, f5]; rfl, by rw [iD, f6]; rfl, by rw [iD, f7]; rfl⟩, ⟨rfl, by decide, fun v hv => absurd hv (Nat.not_lt_zero v), fun v w hv => absurd hv (Nat.not_lt_zero v)⟩, ⟨rfl, by decide, fun v hv => absurd hv (Nat.not_lt_zero v)⟩, hC.n, by rw [AH.R_setR, if_pos ⟨rfl, rfl⟩], kn, ?_, ?_, ?_⟩
    · rw [AH.I_setR, setI_O (by omega), setI_O (by omega), setI_I]; rfl
    · rw [AH.I_setR, setI_O (by omega), setI_I]; rfl
    · rw [AH.I_setR, setI_I]; rfl
  have i2 := iD 2
  rw [fA.1] at i2
  simp only [F_X2_init, chk_true, bnd_some, ob_some, oc_some, oc_none, hl_eq, jn_eq, ix_0, ix_1, if_true, if_false, inb0_2, inb1_2, not_true_eq_false, not_false_eq_true, ite_true, ite_false, true_or, or_true, or_self, zero_eq_one_I, one_eq_zero_I, AH.n_setI, AH.n_setL, AH.n_setR, AH.sl_setI, AH.sl_setL, AH.sl_setR, AH.kind_setI, AH.kind_setL, AH.kind_setR, AH.len_setI, AH.len_setL, AH.len_setR, AH.I_setL, AH.I_setR, AH.L_setI, AH.L_setR, AH.R_setI, AH.R_setL, r8, k3, eB', kB, r9, k4, eC', kn, ky]
  generalize ((((hC.new 4 0 3).setI hC.n 0 0).setI hC.n 1 1).setI hC.n 2 2).setR (x + 2) 10 (some hC.n) = hD at BD QD i2 ⊢
  have nx := x_next2 (n := n) (cM := 1300) (sM := 37000) hn BD i2 (by omega) (by omega)
  have tk := (tk_ok (T := Z.T) (tm := Z.tm) (p := 0) (Nat.zero_le _)).1
  have t1 := tk.1
  have t2 := tk.2.1
  unfold textP
  rw [← go_ck (Z.tm + 1) P0 (tkS Z.T Z.tm 0) tk (by omega)]
  by_cases z : badT Z.T Z.tm (tkS Z.T Z.tm 0) = true
  · rw [if_pos z] at nx
    obtain ⟨a, h', e', q⟩ := nx
    have lt := (bad_dg z).2.2.2
    rw [goP_s, if_neg (by omega), ck_tell, bad_tell z]
    exact ⟨a, h', by rw [e', bndT_inl], q⟩
  · rw [if_neg z] at nx
    obtain ⟨_, h', e', _, R1, p1⟩ := nx
    have k1 := TX_k2 R1
    have RX1 : RX K x Z h 1 3 P0 (tkS Z.T Z.tm 0) h' := ⟨e, _, E, b, R1, QRx_kx QD (BX_rd BD).1.1 p1⟩
    rw [e', bndT_inr, chk_pos k1]
    have told := x_tells (n := n) (cM := 1300) (sM := 37000) hn RX1 (by omega) (by omega)
    rw [goP_s]
    by_cases y : (tkS Z.T Z.tm 0).1 = Z.tm
    · rw [if_pos y, if_pos (show P0.1.nv = 0 from rfl)]
      rw [over_tell y, y] at told
      obtain ⟨a, h'', e'', q⟩ := told
      exact ⟨a, h'', by rw [e'', bndT_inl], q⟩
    · rw [if_neg y]
      have lt := tk.2.2 (by omega)
      have pr := pr_tell (c := true) (T := Z.T) (P := P0) tk
      cases hq : tellP true Z.T Z.tm P0 (tkS Z.T Z.tm 0) with
      | inl p =>
        rw [hq] at told
        obtain ⟨a, h'', e'', q⟩ := told
        exact ⟨a, h'', by rw [e'', bndT_inl], q⟩
      | inr w =>
        obtain ⟨P', u⟩ := w
        rw [hq] at told
        obtain ⟨_, h'', e'', q⟩ := told
        have pu := pr P' u hq
        have u1 := pu.1.1
        have u2 := pu.1.2.1
        have go := x_readL (n := n) (cM := 1300) (sM := 37000) hn Z.tm n 3 63 P' u h'' q (by omega) (by omega) (by omega) (by omega)
        rw [e'', bndT_inr]
        exact go
theorem ox_fault {n : Nat} {K : Nat → Nat} {x : Nat} {h : AH} {Z : Zt} (hn : 20000 < n) (bz : Bz Z) (I : InvX K x h Z) (C : CK K h) : XOk K x 1300 37000 Z (faultS Z) (F_X0_fault n K x h) h := by
  have g := x_read (n := n) hn bz I C
  obtain ⟨e, c, E, b, I⟩ := I
  have H := I.2.2.2.2.1.1
  have i6 : h.I x 6 = nI Z.tm := I.2.2.2.2.2.2.2.2.2.2.1.1
  unfold faultS
  cases hq : textP Z.T Z.tm with
  | inl p =>
    rw [hq] at g
    obtain ⟨a, h', e', f1, f2, f3, f4, f5⟩ := g
    refine ⟨h', ?_, f2, f1⟩
    simp only [F_X0_fault, chk_true, bnd_some, ob_some, oc_some, oc_none, hl_eq, jn_eq, ix_0, ix_1, if_true, if_false, inb0_2, inb1_2, not_true_eq_false, not_false_eq_true, ite_true, ite_false, true_or, or_true, or_self, zero_eq_one_I, one_eq_zero_I, xs_k0 H, xs_r0_1 H, xs_r0_0 H, xs_k2 H, i6, e', f3, f4]
  | inr P =>
    rw [hq] at g
    obtain ⟨h', e', u, e1, c1, E1, b1, R, Q⟩ := g
    refine ⟨h', ?_, ⟨e1, c1, E1, b1, R.1.2.1⟩, R.1.1⟩
    simp only [F_X0_fault, chk_true, bnd_some, ob_some, oc_some, oc_none, hl_eq, jn_eq, ix_0, ix_1, if_true, if_false, inb0_2, inb1_2, not_true_eq_false, not_false_eq_true, ite_true, ite_false, true_or, or_true, or_self, zero_eq_one_I, one_eq_zero_I, xs_k0 H, xs_r0_1 H, xs_r0_0 H, xs_k2 H, i6, e']
