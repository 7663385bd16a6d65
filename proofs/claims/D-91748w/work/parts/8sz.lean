/-! PURE PART SZ: the sheet's reader: sentences -/
set_option maxRecDepth 100000
theorem PB_assoc {α β γ : Type} (r : Rs α) (f : α → Tk → Rs β) (g : β → Tk → Rs γ) : PB (PB r f) g = PB r (fun b t => PB (f b t) g) := by
  rcases r with p | ⟨b, t⟩ <;> rfl
theorem XO_jn {α' α β : Type} {k : α'} {f : α' → Option ((Nat ⊕ α) × AH)} {sp : Rs β} {Fl : Nat → Nat → AH → Prop} {Ok : β → α → Tk → AH → Prop} (Pk : α' → Prop) (hk : Pk k) (H : ∀ k, Pk k → XO (f k) sp Fl Ok) : XO (jn k f) sp Fl Ok := H k hk
theorem XO_imp {α β : Type} {o : Option ((Nat ⊕ α) × AH)} {sp : Rs β} {Fl Fl' : Nat → Nat → AH → Prop} {Ok Ok' : β → α → Tk → AH → Prop} (H : XO o sp Fl Ok) (h0 : ∀ p a h', Fl p a h' → Fl' p a h') (h1 : ∀ b r u h', Ok b r u h' → Ok' b r u h') : XO o sp Fl' Ok' := by
  rcases sp with p | ⟨b, u⟩
  · obtain ⟨a, h', e, q⟩ := H; exact ⟨a, h', e, h0 p a h' q⟩
  · obtain ⟨r, h', e, q⟩ := H; exact ⟨r, h', e, h1 b r u h' q⟩
theorem TX_k2 {K : Nat → Nat} {x : Nat} {Z : Zt} {h0 h : AH} {cc ss : Nat} {e c : Nat → Nat} {E : Nat → Nat → Nat} {b : Nat} {t : Tk} (R : TX K x Z h0 cc ss e c E b t h) : h.kind (x + 2) = 2 := (BX_rd R.1).1.1
/-- the token where only other cells of the reader, and new cells, change -/
theorem TX_step {K : Nat → Nat} {x : Nat} {Z : Zt} {h0 h h' : AH} {cc ss c1 s1 : Nat} {e c : Nat → Nat} {E : Nat → Nat → Nat} {b : Nat} {t : Tk} (R : TX K x Z h0 cc ss e c E b t h) {W : Nat → Nat → Prop} (F : Fr c1 s1 W h h') (hW : ∀ a j, h.kind a ≠ 0 → W a j → a = x + 2 ∧ 4 ≤ j ∧ j ≠ 8 ∧ j ≠ 9) : TX K x Z h0 (cc + c1) (ss + s1) e c E b t h' := by
  have k2 := TX_k2 R
  obtain ⟨B, r2, r3, tk⟩ := R
  have f := F.2.2.2.2.2 (x + 2) (by omega)
  refine ⟨BX_step B F (fun a j ha w => by have := hW a j ha w; omega), ?_, ?_, tk⟩
  · rw [(f.2.2 2 (fun w => by have := hW _ _ (by omega) w; omega)).1]; exact r2
  · rw [(f.2.2 3 (fun w => by have := hW _ _ (by omega) w; omega)).1]; exact r3
theorem TX_mono {K : Nat → Nat} {x : Nat} {Z : Zt} {h0 : AH} {cc ss cc' ss' : Nat} {e c : Nat → Nat} {E : Nat → Nat → Nat} {b : Nat} {t : Tk} {h : AH} (R : TX K x Z h0 cc ss e c E b t h) (h1 : cc ≤ cc') (h2 : ss ≤ ss') : TX K x Z h0 cc' ss' e c E b t h := ⟨BX_mono R.1 h1 h2, R.2⟩
theorem RX_mono {K : Nat → Nat} {x : Nat} {Z : Zt} {h0 : AH} {cc ss cc' ss' : Nat} {P : PSt} {t : Tk} {h : AH} (R : RX K x Z h0 cc ss P t h) (h1 : cc ≤ cc') (h2 : ss ≤ ss') : RX K x Z h0 cc' ss' P t h := by
  obtain ⟨e, c, E, b, R, Q⟩ := R
  exact ⟨e, c, E, b, TX_mono R h1 h2, Q⟩
theorem x_semi {n : Nat} {K : Nat → Nat} {x : Nat} {Z : Zt} {h0 h : AH} {cc ss cM sM : Nat} {P : PSt} {t : Tk} (hn : 20000 < n) (R : RX K x Z h0 cc ss P t h) (hc : cc + 1 ≤ cM) (hs : ss + 7 ≤ sM) : XO (bndT (F_X1_needs n K (x + 2) 59 h) fun _ h21 => some (.inr (), h21)) (semiP true Z.T Z.tm P t) (FX K x Z h0 cM sM) (fun P' _ u h' => RX K x Z h0 cc ss P' u h') := by
  obtain ⟨e, c, E, b, R, Q⟩ := R
  have nx := x_needs (n := n) hn R hc hs 59 P
  unfold semiP
  rcases hq : passP true Z.T Z.tm (sgT Z.T Z.tm 59 t) P t with q | ⟨v', u⟩
  · rw [hq] at nx
    obtain ⟨aa, h', e1, q1⟩ := nx
    exact ⟨aa, h', by rw [e1, bndT_inl], q1⟩
  · rw [hq] at nx
    obtain ⟨rr, h', e1, q1, q2, q3⟩ := nx
    exact ⟨(), h', by rw [e1, bndT_inr], e, c, E, b, q2, by rw [q1]; exact QRx_kx Q (TX_k2 R) q3⟩
theorem QRx_set {x : Nat} {h : AH} {c : Nat → Nat} {E : Nat → Nat → Nat} {P : PSt} (Q : QRx x h c E P) (k2 : h.kind (x + 2) = 2) {j : Nat} {v : Int32} {q : Nat × Int32 × Int32 × Bool} (hf : (h.setI (x + 2) j v).I (x + 2) 4 = nI q.1 ∧ q.1 < 4 ∧ (h.setI (x + 2) j v).I (x + 2) 5 = q.2.1 ∧ (h.setI (x + 2) j v).I (x + 2) 6 = q.2.2.1 ∧ (h.setI (x + 2) j v).I (x + 2) 7 = bI q.2.2.2) : QRx x (h.setI (x + 2) j v) c E (P.1, q) := by
  obtain ⟨_, ⟨b1, b2, b3, b4⟩, ⟨c1, c2, c3⟩, bb, d1, d2, d3⟩ := Q
  have o : ∀ a, h.kind a ≠ 2 → ∀ k, (h.setI (x + 2) j v).I a k = h.I a k := fun a ha k => setI_O (fun z => ha (by rw [z.1]; exact k2))
  refine ⟨hf, ⟨b1, b2, fun w hw => ?_, b4⟩, ⟨c1, c2, fun p hp => ?_⟩, bb, d1, d2, ?_⟩
  · have g := b3 w hw
    simp only [o (E 0 w) (by omega)]
    exact g
  · have g := c3 p hp
    simp only [o (E 1 p) (by omega)]
    exact g
  · simp only [o bb (by omega)]
    exact d3
theorem QRx_pushV {x : Nat} {h : AH} {c : Nat → Nat} {E : Nat → Nat → Nat} {P : PSt} (Q : QRx x h c E P) (hv : P.1.nv < 15) {a : Nat} {p q w : Int32} (ka : h.kind a = 7 + P.2.1) (ia : h.I a 3 = p ∧ h.I a 4 = q ∧ h.I a 0 = w ∧ h.I a 1 = P.2.2.1 ∧ h.I a 2 = P.2.2.2.1) (da : ∀ v, v < P.1.nv → E 0 v ≠ a) : QRx x h (up1 c 0 (c 0 + 1)) (up1 E 0 (up1 (E 0) (c 0) a)) (P.1.pushV p q w P.2.1 P.2.2.1 P.2.2.2.1, P.2) := by
  obtain ⟨a0, ⟨b1, b2, b3, b4⟩, ⟨c1, c2, c3⟩, d⟩ := Q
  have m4 := a0.2.1
  have e0 : ∀ v, up1 E 0 (up1 (E 0) (c 0) a) 0 v = if v = P.1.nv then a else E 0 v := fun v => by
    show (if (0 : Nat) = 0 then up1 (E 0) (c 0) a else E 0) v = _
    rw [if_pos rfl, b1]; rfl
  have e1 : ∀ v, up1 E 0 (up1 (E 0) (c 0) a) 1 v = E 1 v := fun v => rfl
  have eV : ∀ v j, St.V (P.1.pushV p q w P.2.1 P.2.2.1 P.2.2.2.1) v j = if v = P.1.nv then (if j = 0 then p else if j = 1 then q else if j = 2 then w else if j = 3 then nI P.2.1 else if j = 4 then P.2.2.1 else P.2.2.2.1) else P.1.V v j := fun v j => rfl
  refine ⟨a0, ⟨?_, by show P.1.nv + 1 ≤ 15; omega, fun v hv' => ?_, fun v u hv' hu he => ?_⟩, ⟨c1, c2, fun r hr => c3 r hr⟩, d⟩
  · show c 0 + 1 = P.1.nv + 1
    rw [b1]
  · have hv2 : v < P.1.nv + 1 := hv'
    show (7 ≤ h.kind (up1 E 0 (up1 (E 0) (c 0) a) 0 v) ∧ h.kind (up1 E 0 (up1 (E 0) (c 0) a) 0 v) ≤ 10) ∧ St.V (P.1.pushV p q w P.2.1 P.2.2.1 P.2.2.2.1) v 3 = nI (h.kind (up1 E 0 (up1 (E 0) (c 0) a) 0 v) - 7) ∧ h.I (up1 E 0 (up1 (E 0) (c 0) a) 0 v) 3 = St.V (P.1.pushV p q w P.2.1 P.2.2.1 P.2.2.2.1) v 0 ∧ h.I (up1 E 0 (up1 (E 0) (c 0) a) 0 v) 4 = St.V (P.1.pushV p q w P.2.1 P.2.2.1 P.2.2.2.1) v 1 ∧ h.I (up1 E 0 (up1 (E 0) (c 0) a) 0 v) 0 = St.V (P.1.pushV p q w P.2.1 P.2.2.1 P.2.2.2.1) v 2 ∧ h.I (up1 E 0 (up1 (E 0) (c 0) a) 0 v) 1 = St.V (P.1.pushV p q w P.2.1 P.2.2.1 P.2.2.2.1) v 4 ∧ h.I (up1 E 0 (up1 (E 0) (c 0) a) 0 v) 2 = St.V (P.1.pushV p q w P.2.1 P.2.2.1 P.2.2.2.1) v 5
    rw [e0, eV, eV, eV, eV, eV, eV]
    by_cases z : v = P.1.nv
    · simp only [if_pos z]
      rw [ka]
      refine ⟨⟨by omega, by omega⟩, ?_, ia⟩
      show nI P.2.1 = nI (7 + P.2.1 - 7)
      congr 1; omega
    · simp only [if_neg z]
      exact b3 v (by omega)
  · have hv2 : v < P.1.nv + 1 := hv'
    have hu2 : u < P.1.nv + 1 := hu
    rw [e0, e0] at he
    by_cases z : v = P.1.nv
    · by_cases y : u = P.1.nv
      · rw [z, y]
      · rw [if_pos z, if_neg y] at he
        exact absurd he.symm (da u (by omega))
    · by_cases y : u = P.1.nv
      · rw [if_neg z, if_pos y] at he
        exact absurd he (da v (by omega))
      · rw [if_neg z, if_neg y] at he
        exact b4 v u (by omega) (by omega) he
theorem QRx_pushP {x : Nat} {h : AH} {c : Nat → Nat} {E : Nat → Nat → Nat} {P : PSt} (Q : QRx x h c E P) (hv : P.1.np < 20) {a : Nat} {p q : Int32} (ka : h.kind a = 11) (ia : h.I a 0 = p ∧ h.I a 1 = q) : QRx x h (up1 c 1 (c 1 + 1)) (up1 E 1 (up1 (E 1) (c 1) a)) (P.1.pushP p q, P.2) := by
  obtain ⟨a0, ⟨b1, b2, b3, b4⟩, ⟨c1, c2, c3⟩, d⟩ := Q
  have e1 : ∀ v, up1 E 1 (up1 (E 1) (c 1) a) 1 v = if v = P.1.np then a else E 1 v := fun v => by
    show (if (1 : Nat) = 1 then up1 (E 1) (c 1) a else E 1) v = _
    rw [if_pos rfl, c1]; rfl
  have eV : ∀ v j, St.P (P.1.pushP p q) v j = if v = P.1.np then (if j = 0 then p else q) else P.1.P v j := fun v j => rfl
  refine ⟨a0, ⟨b1, b2, fun v hv' => b3 v hv', fun v u => b4 v u⟩, ⟨?_, by show P.1.np + 1 ≤ 20; omega, fun r hr => ?_⟩, d⟩
  · show c 1 + 1 = P.1.np + 1
    rw [c1]
  · have hv2 : r < P.1.np + 1 := hr
    show h.kind (up1 E 1 (up1 (E 1) (c 1) a) 1 r) = 11 ∧ h.I (up1 E 1 (up1 (E 1) (c 1) a) 1 r) 0 = St.P (P.1.pushP p q) r 0 ∧ h.I (up1 E 1 (up1 (E 1) (c 1) a) 1 r) 1 = St.P (P.1.pushP p q) r 1
    rw [e1, eV, eV]
    by_cases z : r = P.1.np
    · simp only [if_pos z]
      exact ⟨ka, ia⟩
    · simp only [if_neg z]
      exact c3 r (by omega)
def votQ (c : Bool) (T : Nat → Int32) (tm : Nat) (P : PSt) (t : Tk) : Rs PSt := PB (numP c T tm 0 99 t) fun a t => PB (numP c T tm 0 99 t) fun b t => PB (byP c T tm t) fun w t => .inr ((P.1.pushV a b w P.2.1 P.2.2.1 P.2.2.2.1, P.2), t)
theorem votP_eq (c : Bool) (T : Nat → Int32) (tm : Nat) (P : PSt) (t : Tk) : votP c T tm P t = PB (votQ c T tm P t) (semiP c T tm) := by
  simp only [votP, votQ, PB_assoc]
  rfl
/-- a thing put: token and marks stay -/
theorem TX_add {n : Nat} {K : Nat → Nat} {x : Nat} {Z : Zt} {h0 h : AH} {cc ss : Nat} {e c : Nat → Nat} {E : Nat → Nat → Nat} {b : Nat} {t : Tk} (R : TX K x Z h0 cc ss e c E b t h) {i : Nat} (hi : i < 2) (hc : c i ≤ 20) {a : Nat} (ha : 7 ≤ h.kind a ∧ h.kind a ≤ 14) : ∃ e' h', F_J2_add n K (x + loL i) (some a) h = some (1, h') ∧ TX K x Z h0 (cc + 1) (ss + (10 + 2 * c i)) e' (up1 c i (c i + 1)) (up1 E i (up1 (E i) (c i) a)) b t h' ∧ Fr 1 (10 + 2 * c i) (fun b j => h.kind b = 3 ∨ h.kind b = 34) h h' := by
  have k2 := TX_k2 R
  obtain ⟨B, r2, r3, tk⟩ := R
  obtain ⟨e', h', q1, q2, q3⟩ := BX_add (n := n) B hi hc ha
  have f := q3.2.2.2.2.2 (x + 2) (by omega)
  refine ⟨e', h', q1, ⟨q2, ?_, ?_, tk⟩, q3⟩
  · rw [(f.2.2 2 (fun w => by omega)).1]; exact r2
  · rw [(f.2.2 3 (fun w => by omega)).1]; exact r3
theorem x_votr {n : Nat} {K : Nat → Nat} {x : Nat} {Z : Zt} {h0 h : AH} {cc ss cM sM : Nat} {P : PSt} {t : Tk} (hn : 20000 < n) (hv : P.1.nv < 15) (R : RX K x Z h0 cc ss P t h) (hc : cc + 3 ≤ cM) (hs : ss + 67 ≤ sM) : XO (F_X1_voter n K (x + 2) h) (votQ true Z.T Z.tm P t) (FX K x Z h0 cM sM) (fun P' _ u h' => RX K x Z h0 (cc + 2) (ss + 60) P' u h') := by
  obtain ⟨e, c, E, b, R, Q⟩ := R
  have k0 := TX_k2 R
  unfold votQ
  simp only [F_X1_voter, chk_true, bnd_some, ob_some, oc_some, oc_none, hl_eq, ix_0, ix_1, if_true, if_false, inb0_2, inb1_2, not_true_eq_false, not_false_eq_true, ite_true, ite_false, true_or, or_true, or_self, zero_eq_one_I, one_eq_zero_I, k0]
  refine XO_bnd (x_num hn R (by omega) (by omega) _ _) (fun a r1 u1 h1 _ q1 => ?_)
  obtain ⟨ea, R1, p1⟩ := q1
  subst ea
  have k1 := TX_k2 R1
  simp only [chk_true, bnd_some, ob_some, oc_some, oc_none, hl_eq, ix_0, ix_1, if_true, if_false, inb0_2, inb1_2, not_true_eq_false, not_false_eq_true, ite_true, ite_false, true_or, or_true, or_self, zero_eq_one_I, one_eq_zero_I, k1]
  refine XO_bnd (x_num hn R1 (by omega) (by omega) _ _) (fun a' r2 u2 h2 _ q2 => ?_)
  obtain ⟨ea', R2, p2⟩ := q2
  subst ea'
  have k2 := TX_k2 R2
  have Q2 := QRx_kx (QRx_kx Q k0 p1) k1 p2
  simp only [chk_true, bnd_some, ob_some, oc_some, oc_none, hl_eq, ix_0, ix_1, if_true, if_false, inb0_2, inb1_2, not_true_eq_false, not_false_eq_true, ite_true, ite_false, true_or, or_true, or_self, zero_eq_one_I, one_eq_zero_I, k2, x_word2 hn R2]
  refine XO_jn (fun k => ∀ w u h', TX K x Z h0 cc ss e c E b u h' → QRx x h' c E P → XO (k w h') (.inr ((P.1.pushV r1 r2 w P.2.1 P.2.2.1 P.2.2.2.1, P.2), u)) (FX K x Z h0 cM sM) (fun P' _ u h' => RX K x Z h0 (cc + 2) (ss + 60) P' u h')) (fun w u h' r q => ?_) (fun k hk => ?_)
  · have k3 := TX_k2 r
    obtain ⟨h4, m1, m2, m3, m4⟩ := x_made (n := n) (K := K) (BX_wf r.1) k3 q.1.2.1 q.1.1 r1 r2 w
    have wf := BX_wf r.1
    have r4 := TX_step r m2 (fun _ _ _ z => absurd z id)
    have q4 := QRx_fr q k3 m2 (fun _ _ _ z => absurd z id)
    have c0 : c 0 = P.1.nv := q.2.1.1
    have m4' := q.1.2.1
    obtain ⟨e', h5, a1, a2, a3⟩ := TX_add (n := n) r4 (i := 0) (by omega) (by omega) (a := h'.n) (by omega)
    have a1' : F_J2_add n K (x + 3) (some h'.n) h4 = some (1, h5) := a1
    have k4 := TX_k2 r4
    have f := a3.2.2.2.2.2 h'.n (by omega)
    have q5 : QRx x h5 c E P := QRx_fr q4 k4 a3 (fun _ _ _ z => Or.inr z)
    have nw : ∀ j : Nat, ¬ (h4.kind h'.n = 3 ∨ h4.kind h'.n = 34) := fun _ => by omega
    have r8 : h'.R (x + 2) 8 = some (x + 3) := xs_r2_8 r.1.2.1.2.2.2.2.1.1
    have k43 : h4.kind (x + 3) = 3 := xs_k3 r4.1.2.1.2.2.2.2.1.1
    refine ⟨(), h5, ?_, e', _, _, b, TX_mono a2 (by omega) (by omega), QRx_pushV q5 hv (by rw [f.1]; exact m3) ?_ (fun v hv' z => ?_)⟩
    · simp only [chk_true, bnd_some, ob_some, oc_some, oc_none, hl_eq, ix_0, ix_1, if_true, if_false, inb0_2, inb1_2, not_true_eq_false, not_false_eq_true, ite_true, ite_false, true_or, or_true, or_self, zero_eq_one_I, one_eq_zero_I, k3, m1, r8, k43, a1']
    · rw [(f.2.2 3 (nw 3)).1, (f.2.2 4 (nw 4)).1, (f.2.2 0 (nw 0)).1, (f.2.2 1 (nw 1)).1, (f.2.2 2 (nw 2)).1]
      exact ⟨m4.1, m4.2.1, m4.2.2.1, by rw [m4.2.2.2.1]; exact q.1.2.2.1, by rw [m4.2.2.2.2]; exact q.1.2.2.2.1⟩
    · have := (q.2.1.2.2.1 v hv').1.1
      rw [z, wf h'.n (Nat.le_refl _)] at this
      omega
  · unfold byP wO2
    rcases Bool.eq_false_or_eq_true (wdS Z.T Z.tm 11 u2) with y | y
    · have t0 : (nI 0 = 0) = True := eq_true rfl
      simp only [chk_true, bnd_some, ob_some, oc_some, oc_none, hl_eq, ix_0, ix_1, if_true, if_false, inb0_2, inb1_2, not_true_eq_false, not_false_eq_true, ite_true, ite_false, true_or, or_true, or_self, zero_eq_one_I, one_eq_zero_I, y, selS, t0]
      rw [PB_assoc]
      refine XO_bnd (x_next hn R2 (by omega) (by omega) ()) (fun _ _ u3 h3 _ q3 => ?_)
      obtain ⟨_, R3, p3⟩ := q3
      have k3 := TX_k2 R3
      simp only [chk_true, bnd_some, ob_some, oc_some, oc_none, hl_eq, ix_0, ix_1, if_true, if_false, inb0_2, inb1_2, not_true_eq_false, not_false_eq_true, ite_true, ite_false, true_or, or_true, or_self, zero_eq_one_I, one_eq_zero_I, k3]
      refine XO_bnd (x_num hn R3 (by omega) (by omega) _ _) (fun w r3 u4 h4 _ q4 => ?_)
      obtain ⟨ew, R4, p4⟩ := q4
      subst ew
      exact hk r3 u4 h4 R4 (QRx_kx (QRx_kx Q2 k2 p3) k3 p4)
    · have t0 : ((-1 : Int32) = 0) = False := eq_false (by decide)
      simp only [chk_true, bnd_some, ob_some, oc_some, oc_none, hl_eq, ix_0, ix_1, if_true, if_false, inb0_2, inb1_2, not_true_eq_false, not_false_eq_true, ite_true, ite_false, true_or, or_true, or_self, zero_eq_one_I, one_eq_zero_I, y, selS, t0, Bool.false_eq_true]
      exact hk 1 u2 h2 R2 Q2
