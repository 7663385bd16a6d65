/-! PURE PART SW: the sheet's reader: what stays, tokens, numbers -/
set_option maxRecDepth 100000
/-- the whole invariant where only the reader, its two lists and new things change -/
theorem XIn_g {K : Nat → Nat} {x : Nat} {h h' : AH} {e c e' c' : Nat → Nat} {E E' : Nat → Nat → Nat} {b : Nat} {Z : Zt} {cc ss : Nat} {W : Nat → Nat → Prop} (I : XIn K x h e c E b Z) (F : Fr cc ss W h h') (L' : LL K h' x e' c' E') (h6 : ∀ i, i < 7 → c' i ≤ 6000) (sm : ∀ i, 2 ≤ i → i < 7 → e' i = e i ∧ c' i = c i ∧ E' i = E i) (hW : ∀ a j, h.kind a ≠ 0 → W a j → (a = x + 2 ∧ j ≠ 8 ∧ j ≠ 9) ∨ h.kind a = 3 ∨ h.kind a = 34) : XIn K x h' e' c' E' b Z := by
  obtain ⟨C, i12, i13, i14⟩ := XC_in I
  have H := C.2.2.2.2.1.1
  have k0 := xs_k0 H
  have k2 := xs_k2 H
  have k11 : h.kind (x + 11) = 32 := H.1 11 (by decide)
  have C' := XC_fr C F L' h6 (fun i a b => sm i a (by omega)) (fun a j ha w => by
    rcases hW a j ha w with z | z | z
    · unfold OkW; omega
    · exact Or.inl z
    · exact Or.inr (Or.inl z))
  have nx : ∀ j, h'.I x j = h.I x j ∧ h'.L x j = h.L x j := fun j => by
    have f := (F.2.2.2.2.2 x (by omega)).2.2 j (fun w => by rcases hW x j (by omega) w with z | z | z <;> omega)
    exact ⟨f.1, f.2.1⟩
  have n11 : ∀ j, h'.I (x + 11) j = h.I (x + 11) j := fun j => ((F.2.2.2.2.2 (x + 11) (by omega)).2.2 j (fun w => by rcases hW (x + 11) j (by omega) w with z | z | z <;> omega)).1
  have l3 : ∀ kd n G M, (kd = 12 ∨ kd = 13) → X3L h kd n G M → X3L h' kd n G M := by
    intro kd n G M hk X q hq
    obtain ⟨a1, a2, a3, a4⟩ := X q hq
    obtain ⟨f1, f2, f3⟩ := F.2.2.2.2.2 (G q) (by omega)
    have nw : ∀ j, ¬ W (G q) j := fun j w => by
      rcases hW (G q) j (by omega) w with z | z | z
      · rw [z.1] at a1; omega
      · omega
      · omega
    exact ⟨by rw [f1]; exact a1, by rw [(f3 0 (nw 0)).2.1]; exact a2, by rw [(f3 1 (nw 1)).2.1]; exact a3, by rw [(f3 2 (nw 2)).2.1]; exact a4⟩
  obtain ⟨_, s5c, s5E⟩ := sm 5 (by omega) (by omega)
  obtain ⟨_, s6c, s6E⟩ := sm 6 (by omega) (by omega)
  refine XIn_C C' ?_ ?_ ?_
  · unfold XCl
    rw [(nx 11).1, s5c, s5E]
    rcases i12 with z | ⟨z1, z2, z3⟩
    · exact Or.inl z
    · exact Or.inr ⟨z1, z2, l3 12 _ _ _ (by omega) z3⟩
  · unfold XCm
    rw [(nx 11).1, (nx 12).1, s6c, s6E, n11, n11, n11]
    rcases i13 with z | ⟨z1, z2, z3, z4, z5⟩
    · exact Or.inl z
    · exact Or.inr ⟨z1, z2, z3, l3 13 _ _ _ (by omega) z4, z5⟩
  · unfold XCr
    rw [(nx 13).1, (nx 14).1, (nx 15).1, (nx 16).2, (nx 17).2]
    exact i14
theorem XIn_0 {K : Nat → Nat} {x : Nat} {h h' : AH} {e c : Nat → Nat} {E : Nat → Nat → Nat} {b : Nat} {Z : Zt} {cc ss : Nat} {W : Nat → Nat → Prop} (I : XIn K x h e c E b Z) (F : Fr cc ss W h h') (hW : ∀ a j, h.kind a ≠ 0 → W a j → a = x + 2 ∧ j ≠ 8 ∧ j ≠ 9) : XIn K x h' e c E b Z := by
  have i3 := I.2.2.1
  have k2 := xs_k2 I.2.2.2.2.1.1
  refine XIn_g I F ?_ I.2.2.2.1 (fun _ _ _ => ⟨rfl, rfl, rfl⟩) (fun a j ha w => Or.inl (hW a j ha w))
  refine LL_fr i3 F (fun i j hi _ w => ?_) (fun i j hi _ w => ?_)
  · have k := (i3.1 i hi).1.1
    have := (hW _ _ (by omega) w).1
    rw [this] at k
    omega
  · have k := (Ls_kinds (i3.1 i hi).1).2
    have := (hW _ _ (by omega) w).1
    rw [this] at k
    omega
/-- the sheet while it reads -/
def BX (K : Nat → Nat) (x : Nat) (Z : Zt) (h0 : AH) (cc ss : Nat) (e c : Nat → Nat) (E : Nat → Nat → Nat) (b : Nat) (h : AH) : Prop := Fr cc ss (fun a _ => ¬ RgM (x + 29) a) h0 h ∧ XIn K x h e c E b Z ∧ CK K h ∧ Z.tm ≤ 600 ∧ h.R (x + 2) 0 = some (x + 1) ∧ h.I (x + 2) 1 = nI Z.tm
theorem BX_rd {K : Nat → Nat} {x : Nat} {Z : Zt} {h0 : AH} {cc ss : Nat} {e c : Nat → Nat} {E : Nat → Nat → Nat} {b : Nat} {h : AH} (B : BX K x Z h0 cc ss e c E b h) : XRd x h Z.tm Z.T := by
  obtain ⟨_, b2, _, b4, b5, b6⟩ := B
  have H := b2.2.2.2.2.1.1
  exact ⟨⟨xs_k2 H, b5, xs_k1 H, xs_n1 H⟩, b6, b2.2.2.2.2.2.2.2.2.2.2.1.2, b4⟩
theorem BX_wf {K : Nat → Nat} {x : Nat} {Z : Zt} {h0 : AH} {cc ss : Nat} {e c : Nat → Nat} {E : Nat → Nat → Nat} {b : Nat} {h : AH} (B : BX K x Z h0 cc ss e c E b h) : Wf h := B.2.1.1
/-- what the reader leaves: only its two marks move -/
def KX (x : Nat) (h h' : AH) : Prop := Fr 0 0 (fun a j => a = x + 2 ∧ 2 ≤ j ∧ j ≤ 3) h h'
theorem KX_trans {x : Nat} {h h1 h2 : AH} (A : KX x h h1) (B : KX x h1 h2) : KX x h h2 := Fr_trans (W := fun a j => a = x + 2 ∧ 2 ≤ j ∧ j ≤ 3) A B (fun _ _ _ z => z) (fun _ _ _ z => z)
theorem y_out {x : Nat} : ¬ RgM (x + 29) (x + 2) := fun z => by have := z.1; omega
/-- steps at the reader's own cells, and new cells -/
theorem BX_step {K : Nat → Nat} {x : Nat} {Z : Zt} {h0 : AH} {cc ss c1 s1 : Nat} {e c : Nat → Nat} {E : Nat → Nat → Nat} {b : Nat} {h h' : AH} (B : BX K x Z h0 cc ss e c E b h) {W : Nat → Nat → Prop} (F : Fr c1 s1 W h h') (hW : ∀ a j, h.kind a ≠ 0 → W a j → a = x + 2 ∧ 2 ≤ j ∧ j ≠ 8 ∧ j ≠ 9) : BX K x Z h0 (cc + c1) (ss + s1) e c E b h' := by
  obtain ⟨b1, b2, b3, b4, b5, b6⟩ := B
  have k2 := xs_k2 b2.2.2.2.2.1.1
  have f := F.2.2.2.2.2 (x + 2) (by omega)
  refine ⟨?_, XIn_0 b2 F (fun a j ha w => by have := hW a j ha w; exact ⟨this.1, this.2.2⟩), CK_fr b3 F, b4, ?_, ?_⟩
  · refine Fr_trans (W := fun a _ => ¬ RgM (x + 29) a) b1 (Fr_mono F (Nat.le_refl _) (Nat.le_refl _) (W' := fun a j => ¬ RgM (x + 29) a) (fun a j ha w => ?_)) (fun _ _ _ z => z) (fun a j _ z => z)
    rw [(hW a j ha w).1]; exact y_out
  · rw [(f.2.2 0 (fun w => by have := hW _ _ (by omega) w; omega)).2.2]; exact b5
  · rw [(f.2.2 1 (fun w => by have := hW _ _ (by omega) w; omega)).1]; exact b6
theorem BX_mono {K : Nat → Nat} {x : Nat} {Z : Zt} {h0 : AH} {cc ss cc' ss' : Nat} {e c : Nat → Nat} {E : Nat → Nat → Nat} {b : Nat} {h : AH} (B : BX K x Z h0 cc ss e c E b h) (h1 : cc ≤ cc') (h2 : ss ≤ ss') : BX K x Z h0 cc' ss' e c E b h := ⟨Fr_mono B.1 h1 h2 (fun _ _ _ z => z), B.2⟩
def TX (K : Nat → Nat) (x : Nat) (Z : Zt) (h0 : AH) (cc ss : Nat) (e c : Nat → Nat) (E : Nat → Nat → Nat) (b : Nat) (t : Tk) (h : AH) : Prop := BX K x Z h0 cc ss e c E b h ∧ h.I (x + 2) 2 = nI t.2 ∧ h.I (x + 2) 3 = nI t.1 ∧ tkOk Z.tm t ∧ ∃ p, p ≤ Z.tm ∧ t = tkS Z.T Z.tm p
def FX (K : Nat → Nat) (x : Nat) (Z : Zt) (h0 : AH) (cc ss p a : Nat) (h : AH) : Prop := Fr cc ss (fun a _ => ¬ RgM (x + 29) a) h0 h ∧ InvX K x h Z ∧ h.kind a = 6 ∧ h.I a 6 = nI p ∧ p ≤ Z.tm
def XO {α β : Type} (o : Option ((Nat ⊕ α) × AH)) (sp : Rs β) (Fl : Nat → Nat → AH → Prop) (Ok : β → α → Tk → AH → Prop) : Prop := match sp with
  | .inl p => ∃ a h', o = some (.inl a, h') ∧ Fl p a h'
  | .inr (b, u) => ∃ r h', o = some (.inr r, h') ∧ Ok b r u h'
theorem XO_bnd {α α' β γ : Type} {o : Option ((Nat ⊕ α) × AH)} {sp : Rs β} {Fl : Nat → Nat → AH → Prop} {Ok : β → α → Tk → AH → Prop} {Ok' : γ → α' → Tk → AH → Prop} {f : α → AH → Option ((Nat ⊕ α') × AH)} {g : β → Tk → Rs γ} (H : XO o sp Fl Ok) (h1 : ∀ b r u h', sp = .inr (b, u) → Ok b r u h' → XO (f r h') (g b u) Fl Ok') : XO (bndT o f) (PB sp g) Fl Ok' := by
  rcases sp with p | ⟨b, u⟩
  · obtain ⟨a, h', e, q⟩ := H
    refine ⟨a, h', ?_, q⟩
    rw [e, bndT_inl]
  · obtain ⟨r, h', e, q⟩ := H
    rw [e, bndT_inr]
    exact h1 b r u h' rfl q
/-- a fault at the token -/
theorem x_fail {n : Nat} {K : Nat → Nat} {x : Nat} {Z : Zt} {h0 h : AH} {cc ss cM sM : Nat} {e c : Nat → Nat} {E : Nat → Nat → Nat} {b : Nat} {t : Tk} (R : TX K x Z h0 cc ss e c E b t h) (hc : cc + 1 ≤ cM) (hs : ss + 7 ≤ sM) : ∃ a h', F_X1_wrong n K (x + 2) h = some (some a, h') ∧ FX K x Z h0 cM sM t.1 a h' := by
  obtain ⟨B, r2, r3, tk, _⟩ := R
  have H := BX_rd B
  obtain ⟨h', e1, F, k6, i6⟩ := x_wrong (n := n) (K := K) (BX_wf B) H.1.1
  have B' := BX_step B F (fun _ _ _ z => absurd z id)
  refine ⟨h.n, h', e1, Fr_mono B'.1 hc hs (fun _ _ _ z => z), ⟨e, c, E, b, B'.2.1⟩, k6, by rw [i6, r3], Nat.le_trans tk.1 tk.2.1⟩
theorem x_next {β : Type} {n : Nat} {K : Nat → Nat} {x : Nat} {Z : Zt} {h0 h : AH} {cc ss cM sM : Nat} {e c : Nat → Nat} {E : Nat → Nat → Nat} {b : Nat} {t : Tk} (hn : 20000 < n) (R : TX K x Z h0 cc ss e c E b t h) (hc : cc + 1 ≤ cM) (hs : ss + 7 ≤ sM) (v : β) : XO (F_X1_next n K (x + 2) h) (adv true Z.T Z.tm v t) (FX K x Z h0 cM sM) (fun v' _ u h' => v' = v ∧ TX K x Z h0 cc ss e c E b u h' ∧ KX x h h') := by
  have R0 := R
  obtain ⟨B, r2, r3, tk, _⟩ := R
  have H := BX_rd B
  have fr : KX x h ((h.setI (x + 2) 3 (nI (tkS Z.T Z.tm t.2).1)).setI (x + 2) 2 (nI (tkS Z.T Z.tm t.2).2)) := KX_trans (Fr_setI _ _ _ _ (fun _ => ⟨rfl, by omega⟩)) (Fr_setI _ _ _ _ (fun _ => ⟨rfl, by omega⟩))
  have B1 : BX K x Z h0 cc ss e c E b ((h.setI (x + 2) 3 (nI (tkS Z.T Z.tm t.2).1)).setI (x + 2) 2 (nI (tkS Z.T Z.tm t.2).2)) := BX_step B fr (fun a j _ z => ⟨z.1, by omega⟩)
  have R1 : TX K x Z h0 cc ss e c E b (tkS Z.T Z.tm t.2) ((h.setI (x + 2) 3 (nI (tkS Z.T Z.tm t.2).1)).setI (x + 2) 2 (nI (tkS Z.T Z.tm t.2).2)) := ⟨B1, setI_I _ _ _ _, by rw [setI_O (by omega)]; exact setI_I _ _ _ _, (tk_ok tk.2.1).1, t.2, tk.2.1, rfl⟩
  rw [x_next1 hn H tk.2.1 r2]
  unfold adv
  rw [Bool.true_and]
  by_cases z : badT Z.T Z.tm (tkS Z.T Z.tm t.2) = true
  · rw [if_pos z, if_pos z]
    obtain ⟨a, h', e1, q⟩ := x_fail (n := n) R1 hc hs
    exact ⟨a, h', by rw [e1]; rfl, q⟩
  · rw [if_neg z, if_neg z]
    exact ⟨(), _, rfl, rfl, R1, fr⟩
theorem x_isOver {n : Nat} {K : Nat → Nat} {x : Nat} {Z : Zt} {h0 h : AH} {cc ss : Nat} {e c : Nat → Nat} {E : Nat → Nat → Nat} {b : Nat} {t : Tk} (R : TX K x Z h0 cc ss e c E b t h) : F_X1_isOver n K (x + 2) h = some (bI (decide (t.1 = Z.tm)), h) := by
  obtain ⟨B, r2, r3, tk, _⟩ := R
  have H := BX_rd B
  have h6 := H.2.2.2
  have k1 := tk.1
  have k2 := tk.2.1
  have q : (nI t.1 = nI Z.tm) = (t.1 = Z.tm) := propext (nI_eq (by omega) (by omega))
  by_cases z : t.1 = Z.tm
  · have z' : (t.1 = Z.tm) = True := eq_true z
    simp only [F_X1_isOver, chk_true, bnd_some, ob_some, oc_some, oc_none, hl_eq, jn_eq, ix_0, ix_1, if_true, if_false, inb0_2, inb1_2, not_true_eq_false, not_false_eq_true, ite_true, ite_false, true_or, or_true, or_self, zero_eq_one_I, one_eq_zero_I, H.1.1, r3, H.2.1, q, z', decide_true]
    rfl
  · have z' : (t.1 = Z.tm) = False := eq_false z
    simp only [F_X1_isOver, chk_true, bnd_some, ob_some, oc_some, oc_none, hl_eq, jn_eq, ix_0, ix_1, if_true, if_false, inb0_2, inb1_2, not_true_eq_false, not_false_eq_true, ite_true, ite_false, true_or, or_true, or_self, zero_eq_one_I, one_eq_zero_I, H.1.1, r3, H.2.1, q, z', decide_false]
    rfl
theorem x_num {n : Nat} {K : Nat → Nat} {x : Nat} {Z : Zt} {h0 h : AH} {cc ss cM sM : Nat} {e c : Nat → Nat} {E : Nat → Nat → Nat} {b : Nat} {t : Tk} (hn : 20000 < n) (R : TX K x Z h0 cc ss e c E b t h) (hc : cc + 1 ≤ cM) (hs : ss + 7 ≤ sM) (lo hi : Int32) : XO (F_X1_number n K (x + 2) lo hi h) (numP true Z.T Z.tm lo hi t) (FX K x Z h0 cM sM) (fun v r u h' => r = v ∧ TX K x Z h0 cc ss e c E b u h' ∧ KX x h h') := by
  have R0 := R
  obtain ⟨B, r2, r3, tk, p, hp, ht⟩ := R
  have H := BX_rd B
  have h6 := H.2.2.2
  have k1 := tk.1
  have k2 := tk.2.1
  obtain ⟨a, b', c', d'⟩ := H.1
  obtain ⟨fa, fh, fe, fq⟩ := x_fail (n := n) R0 hc hs
  have tt : (bI true = 0) = False := eq_false (by decide)
  have tf : (bI false = 0) = True := eq_true (by decide)
  have ov := x_isOver (n := n) R0
  have bad : digT Z.T Z.tm t = false → XO (F_X1_number n K (x + 2) lo hi h) (numP true Z.T Z.tm lo hi t) (FX K x Z h0 cM sM) (fun v r u h' => r = v ∧ TX K x Z h0 cc ss e c E b u h' ∧ KX x h h') := by
    intro d
    unfold numP
    rw [d, Bool.false_and]
    refine ⟨fa, fh, ?_, fq⟩
    by_cases z : t.1 = Z.tm
    · rw [decide_eq_true z] at ov
      simp only [F_X1_number, chk_true, bnd_some, ob_some, oc_some, oc_none, hl_eq, jn_eq, ix_0, ix_1, if_true, if_false, inb0_2, inb1_2, not_true_eq_false, not_false_eq_true, ite_true, ite_false, true_or, or_true, or_self, zero_eq_one_I, one_eq_zero_I, a, ov, tt, fe]
    · rw [decide_eq_false z] at ov
      have lt : t.1 < Z.tm := by omega
      have dg : isDg (Z.T t.1) = false := by
        unfold digT at d
        rw [decide_eq_true lt, Bool.true_and] at d
        exact d
      obtain ⟨a1, a2, a3⟩ := x_at H lt
      simp only [F_X1_number, chk_true, bnd_some, ob_some, oc_some, oc_none, hl_eq, jn_eq, ix_0, ix_1, if_true, if_false, inb0_2, inb1_2, not_true_eq_false, not_false_eq_true, ite_true, ite_false, true_or, or_true, or_self, zero_eq_one_I, one_eq_zero_I, a, b', c', d', ov, tf, r3, a1, a2, x_isDg, dg, fe]
  rcases Bool.eq_false_or_eq_true (digT Z.T Z.tm t) with d | d
  · have lt : t.1 < Z.tm := by unfold digT at d; simp at d; exact d.1
    have dg : isDg (Z.T t.1) = true := by unfold digT at d; simp at d; exact d.2
    obtain ⟨a1, a2, a3⟩ := x_at H lt
    rw [decide_eq_false (by omega)] at ov
    have key := loopF (fun f i (s : Int32) => F_X1_number_L35 n K (x + 2) lo hi f (nI t.1 + i) s h) (t.2 - t.1) (fun i a => if 10 * a + Z.T (t.1 + i) - 48 < 1000 then 10 * a + Z.T (t.1 + i) - 48 else 1000) (fun s => F_X1_number_L35 n K (x + 2) lo hi 1 (nI t.2) s h) 0
      (by
        intro f k s hk
        obtain ⟨b1, b2, b3⟩ := x_at H (p := t.1 + k) (by omega)
        have e3 : (nI t.2 ≤ nI (t.1 + k)) = False := eq_false (nI_ge (by omega) (by omega))
        simp only [F_X1_number_L35, chk_true, bnd_some, ob_some, oc_some, oc_none, hl_eq, jn_eq, ix_0, ix_1, if_true, if_false, inb0_2, inb1_2, not_true_eq_false, not_false_eq_true, ite_true, ite_false, true_or, or_true, or_self, zero_eq_one_I, one_eq_zero_I, a, b', c', d', r2, nI_add, nI_1, b1, b2, e3, Nat.add_assoc])
      (by
        intro f s
        have e : t.1 + (t.2 - t.1) = t.2 := by omega
        have e3 : (nI t.2 ≤ nI t.2) = True := eq_true (nI_le (Nat.le_refl _) (by omega))
        simp only [F_X1_number_L35, nI_add, e, r2, e3, if_true]) n (by omega)
    have e0 : nI t.1 + 0 = nI t.1 := by rw [Int32.add_zero]
    simp only [e0] at key
    have e3 : (nI t.2 ≤ nI t.2) = True := eq_true (nI_le (Nat.le_refl _) (by omega))
    have ev : F_X1_number n K (x + 2) lo hi h = F_X1_number_L35 n K (x + 2) lo hi 1 (nI t.2) (nvX Z.T t.1 (t.2 - t.1)) h := by
      rw [show F_X1_number_L35 n K (x + 2) lo hi 1 (nI t.2) (nvX Z.T t.1 (t.2 - t.1)) h = _ from key.symm]
      simp only [F_X1_number, chk_true, bnd_some, ob_some, oc_some, oc_none, hl_eq, jn_eq, ix_0, ix_1, if_true, if_false, inb0_2, inb1_2, not_true_eq_false, not_false_eq_true, ite_true, ite_false, true_or, or_true, or_self, zero_eq_one_I, one_eq_zero_I, a, b', c', d', ov, tf, tt, r3, a1, a2, x_isDg, dg]
    rw [ev]
    unfold numP
    rw [d, Bool.true_and]
    generalize nvX Z.T t.1 (t.2 - t.1) = v
    rcases Bool.eq_false_or_eq_true (inS v lo hi) with z | z
    · simp only [F_X1_number_L35, chk_true, bnd_some, ob_some, oc_some, oc_none, hl_eq, jn_eq, ix_0, ix_1, if_true, if_false, inb0_2, inb1_2, not_true_eq_false, not_false_eq_true, ite_true, ite_false, true_or, or_true, or_self, zero_eq_one_I, one_eq_zero_I, a, r2, e3, x_in, z, tt]
      unfold passP
      rw [if_pos rfl]
      have nx := x_next (n := n) hn R0 hc hs v
      rcases hq : adv true Z.T Z.tm v t with q | ⟨v', u⟩
      · rw [hq] at nx
        obtain ⟨aa, h', e1, q1⟩ := nx
        exact ⟨aa, h', by rw [e1, bndT_inl], q1⟩
      · rw [hq] at nx
        obtain ⟨rr, h', e1, q1, q2, q3⟩ := nx
        exact ⟨v, h', by rw [e1, bndT_inr], q1.symm, q2, q3⟩
    · rw [z]
      refine ⟨fa, fh, ?_, fq⟩
      simp only [F_X1_number_L35, chk_true, bnd_some, ob_some, oc_some, oc_none, hl_eq, jn_eq, ix_0, ix_1, if_true, if_false, inb0_2, inb1_2, not_true_eq_false, not_false_eq_true, ite_true, ite_false, true_or, or_true, or_self, zero_eq_one_I, one_eq_zero_I, a, r2, e3, x_in, z, tf, fe]
  · exact bad d
