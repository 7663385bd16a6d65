/-! PURE PART TC: the sheet's reader: a sentence -/
set_option maxRecDepth 100000
theorem bndT_assoc {α β γ : Type} (o : Option ((Nat ⊕ α) × AH)) (f : α → AH → Option ((Nat ⊕ β) × AH)) (g : β → AH → Option ((Nat ⊕ γ) × AH)) : bndT (bndT o f) g = bndT o (fun r h => bndT (f r h) g) := by
  rcases o with _ | ⟨r | r, h⟩ <;> rfl
theorem bndT_bnd {α β γ : Type} (o : Option (α × AH)) (f : α → AH → Option ((Nat ⊕ β) × AH)) (g : β → AH → Option ((Nat ⊕ γ) × AH)) : bndT (bnd o f) g = bnd o (fun r h => bndT (f r h) g) := by
  rcases o with _ | ⟨r, h⟩ <;> rfl
theorem bndT_ob {β γ : Type} (o : Option Nat) (f : Nat → Option ((Nat ⊕ β) × AH)) (g : β → AH → Option ((Nat ⊕ γ) × AH)) : bndT (ob o f) g = ob o (fun r => bndT (f r) g) := by
  rcases o with _ | r <;> rfl
theorem bndT_chk {β γ : Type} {p : Prop} {d : Decidable p} (f : Option ((Nat ⊕ β) × AH)) (g : β → AH → Option ((Nat ⊕ γ) × AH)) : bndT (@chk _ p d f) g = @chk _ p d (bndT f g) := by
  by_cases z : p
  · rw [chk_pos z, chk_pos z]
  · unfold chk; rw [if_neg z, if_neg z]; rfl
def plaF (n : Nat) (K : Nat → Nat) (y : Nat) (h : AH) : Option ((Nat ⊕ Unit) × AH) := bndT (F_X1_number n K y (0 : Int32) (99 : Int32) h) fun r48 h49 => chk (h49.kind y = 2) <| hl (h49.new 11 0 2) fun h52 => chk (h52.kind y = 2) <| bndT (F_X1_number n K y (0 : Int32) (99 : Int32) h52) fun r54 h55 => bnd (F_X10_init n K h49.n r48 r54 h55) fun _ h58 => ob (h49.R y 9) fun a59 => chk (h58.kind a59 = 3) <| bnd (F_J2_add n K a59 (some h49.n) h58) fun _ h61 => some (.inr (), h61)
def strQ (T : Nat → Int32) (tm : Nat) (P : PSt) (t : Tk) : Rs PSt := PB (numP true T tm 1 9 t) fun a t => PB (numP true T tm 1 9 t) fun b t => .inr ((P.1, (P.2.1, a, b, P.2.2.2.2)), t)
def nearQ (T : Nat → Int32) (tm : Nat) (P : PSt) (t : Tk) : Rs PSt := PB (passP true T tm (meT T tm t).isSome ((meT T tm t).getD 0) t) fun k t => .inr ((P.1, (k, P.2.2)), t)
theorem strP_eq (T : Nat → Int32) (tm : Nat) (P : PSt) (t : Tk) : strP true T tm P t = PB (strQ T tm P t) (semiP true T tm) := by
  simp only [strP, strQ, PB_assoc]
  rfl
theorem nearP_eq (T : Nat → Int32) (tm : Nat) (P : PSt) (t : Tk) : nearP true T tm P t = PB (nearQ T tm P t) (semiP true T tm) := by
  unfold nearP nearQ
  rw [PB_assoc]
  cases meT T tm t with
  | none => rfl
  | some k => exact adv_map _ k t _ _ (fun u => rfl)
def strF (n : Nat) (K : Nat → Nat) (y : Nat) (h : AH) : Option ((Nat ⊕ Unit) × AH) := bndT (F_X1_number n K y (1 : Int32) (9 : Int32) h) fun r32 h33 => chk (h33.kind y = 2) <| hl (h33.setI y 5 r32) fun h36 => bndT (F_X1_number n K y (1 : Int32) (9 : Int32) h36) fun r38 h39 => chk (h39.kind y = 2) <| hl (h39.setI y 6 r38) fun h41 => some (.inr (), h41)
def nearF (n : Nat) (K : Nat → Nat) (y : Nat) (h : AH) : Option ((Nat ⊕ Unit) × AH) := bndT (F_X1_needsWord n K y (some (K 2)) h) fun r25 h26 => chk (h26.kind y = 2) <| hl (h26.setI y 4 r25) fun h29 => some (.inr (), h29)
theorem x_strQ {n : Nat} {K : Nat → Nat} {x : Nat} {Z : Zt} {h0 h : AH} {cc ss cM sM : Nat} {P : PSt} {t : Tk} (hn : 20000 < n) (R : RX K x Z h0 cc ss P t h) (hc : cc + 3 ≤ cM) (hs : ss + 67 ≤ sM) : XO (strF n K (x + 2) h) (strQ Z.T Z.tm P t) (FX K x Z h0 cM sM) (fun P' (_ : Unit) u h' => RX K x Z h0 (cc + 2) (ss + 60) P' u h') := by
  obtain ⟨e, c, E, b, R, Q⟩ := R
  have k0 := TX_k2 R
  unfold strQ strF
  refine XO_bnd (x_num hn R (by omega) (by omega) _ _) (fun a r1 u1 h1 _ q1 => ?_)
  obtain ⟨ea, R1, p1⟩ := q1
  subst ea
  have k1 := TX_k2 R1
  have Q1 := QRx_kx Q k0 p1
  have R1' : TX K x Z h0 cc ss e c E b u1 (h1.setI (x + 2) 5 r1) := TX_step R1 (Fr_setI (W := fun a j => a = x + 2 ∧ j = 5) _ _ _ _ (fun _ => ⟨rfl, rfl⟩)) (fun a j _ z => by omega)
  have Q1' : QRx x (h1.setI (x + 2) 5 r1) c E (P.1, (P.2.1, r1, P.2.2.2)) := QRx_set Q1 k1 ⟨by rw [setI_O (by omega)]; exact Q1.1.1, Q1.1.2.1, setI_I _ _ _ _, by rw [setI_O (by omega)]; exact Q1.1.2.2.2.1, by rw [setI_O (by omega)]; exact Q1.1.2.2.2.2⟩
  simp only [chk_true, bnd_some, ob_some, oc_some, oc_none, hl_eq, ix_0, ix_1, if_true, if_false, inb0_2, inb1_2, not_true_eq_false, not_false_eq_true, ite_true, ite_false, true_or, or_true, or_self, zero_eq_one_I, one_eq_zero_I, k1]
  refine XO_bnd (x_num hn R1' (by omega) (by omega) _ _) (fun a' r2 u2 h2 _ q2 => ?_)
  obtain ⟨ea', R2, p2⟩ := q2
  subst ea'
  have k2 := TX_k2 R2
  have Q2 := QRx_kx Q1' (TX_k2 R1') p2
  have R2' : TX K x Z h0 cc ss e c E b u2 (h2.setI (x + 2) 6 r2) := TX_step R2 (Fr_setI (W := fun a j => a = x + 2 ∧ j = 6) _ _ _ _ (fun _ => ⟨rfl, rfl⟩)) (fun a j _ z => by omega)
  have Q2' : QRx x (h2.setI (x + 2) 6 r2) c E (P.1, (P.2.1, r1, r2, P.2.2.2.2)) := QRx_set (P := (P.1, (P.2.1, r1, P.2.2.2))) Q2 k2 ⟨by rw [setI_O (by omega)]; exact Q2.1.1, Q2.1.2.1, by rw [setI_O (by omega)]; exact Q2.1.2.2.1, setI_I _ _ _ _, by rw [setI_O (by omega)]; exact Q2.1.2.2.2.2⟩
  refine ⟨(), _, ?_, e, c, E, b, TX_mono R2' (by omega) (by omega), Q2'⟩
  simp only [chk_true, bnd_some, ob_some, oc_some, oc_none, hl_eq, ix_0, ix_1, if_true, if_false, inb0_2, inb1_2, not_true_eq_false, not_false_eq_true, ite_true, ite_false, true_or, or_true, or_self, zero_eq_one_I, one_eq_zero_I, k2]
theorem x_nearQ {n : Nat} {K : Nat → Nat} {x : Nat} {Z : Zt} {h0 h : AH} {cc ss cM sM : Nat} {P : PSt} {t : Tk} (hn : 20000 < n) (R : RX K x Z h0 cc ss P t h) (hc : cc + 3 ≤ cM) (hs : ss + 67 ≤ sM) : XO (nearF n K (x + 2) h) (nearQ Z.T Z.tm P t) (FX K x Z h0 cM sM) (fun P' (_ : Unit) u h' => RX K x Z h0 (cc + 2) (ss + 60) P' u h') := by
  obtain ⟨e, c, E, b, R, Q⟩ := R
  have k0 := TX_k2 R
  unfold nearQ nearF
  refine XO_bnd (x_needsWord hn R (by omega) (by omega) (x_word1 hn R) (fun k hk => by have := me_lt hk; omega)) (fun k r1 u1 h1 _ q1 => ?_)
  obtain ⟨er, ek, R1, p1⟩ := q1
  subst er
  have k4 := me_lt ek
  have k1 := TX_k2 R1
  have Q1 := QRx_kx Q k0 p1
  have R1' : TX K x Z h0 cc ss e c E b u1 (h1.setI (x + 2) 4 (nI k)) := TX_step R1 (Fr_setI (W := fun a j => a = x + 2 ∧ j = 4) _ _ _ _ (fun _ => ⟨rfl, rfl⟩)) (fun a j _ z => by omega)
  have Q1' : QRx x (h1.setI (x + 2) 4 (nI k)) c E (P.1, (k, P.2.2)) := QRx_set Q1 k1 ⟨setI_I _ _ _ _, k4, by rw [setI_O (by omega)]; exact Q1.1.2.2.1, by rw [setI_O (by omega)]; exact Q1.1.2.2.2.1, by rw [setI_O (by omega)]; exact Q1.1.2.2.2.2⟩
  refine ⟨(), _, ?_, e, c, E, b, TX_mono R1' (by omega) (by omega), Q1'⟩
  simp only [chk_true, bnd_some, ob_some, oc_some, oc_none, hl_eq, ix_0, ix_1, if_true, if_false, inb0_2, inb1_2, not_true_eq_false, not_false_eq_true, ite_true, ite_false, true_or, or_true, or_self, zero_eq_one_I, one_eq_zero_I, k1]
/-- the end of a sentence -/
def endF (n : Nat) (K : Nat → Nat) (y : Nat) (h : AH) : Option ((Nat ⊕ Unit) × AH) := chk (h.kind y = 2) <| bndT (F_X1_needs n K y (59 : Int32) h) fun _ h21 => some (.inr (), h21)
theorem x_endF {n : Nat} {K : Nat → Nat} {x : Nat} {Z : Zt} {h0 h : AH} {cc ss cM sM : Nat} {P : PSt} {t : Tk} (hn : 20000 < n) (R : RX K x Z h0 cc ss P t h) (hc : cc + 1 ≤ cM) (hs : ss + 7 ≤ sM) : XO (endF n K (x + 2) h) (semiP true Z.T Z.tm P t) (FX K x Z h0 cM sM) (fun P' _ u h' => RX K x Z h0 cc ss P' u h') := by
  have k0 : h.kind (x + 2) = 2 := by obtain ⟨e, c, E, b, R, Q⟩ := R; exact TX_k2 R
  have s := x_semi (n := n) hn R hc hs
  unfold endF
  rw [chk_pos k0]
  exact s
/-- head, body, end -/
theorem x_sent {n : Nat} {K : Nat → Nat} {x : Nat} {Z : Zt} {h0 h : AH} {cc ss cM sM : Nat} {P : PSt} {t : Tk} (hn : 20000 < n) (R : RX K x Z h0 cc ss P t h) (hc : cc + 3 ≤ cM) (hs : ss + 67 ≤ sM) (P' : PSt) (body : AH → Option ((Nat ⊕ Unit) × AH)) (spec : PSt → Tk → Rs PSt) (hb : ∀ u h', RX K x Z h0 cc ss P u h' → XO (body h') (spec P' u) (FX K x Z h0 cM sM) (fun P' (_ : Unit) u h' => RX K x Z h0 (cc + 2) (ss + 60) P' u h')) : XO (bndT (F_X1_next n K (x + 2) h) fun _ h16 => chk (h16.kind (x + 2) = 2) <| bndT (body h16) fun _ h45 => endF n K (x + 2) h45) (PB (adv true Z.T Z.tm P' t) fun P u => PB (spec P u) (semiP true Z.T Z.tm)) (FX K x Z h0 cM sM) (fun P' (_ : Unit) u h' => RX K x Z h0 (cc + 2) (ss + 60) P' u h') := by
  obtain ⟨e, c, E, b, R, Q⟩ := R
  refine XO_bnd (x_next hn R (by omega) (by omega) P') (fun P1 _ u1 h1 _ q1 => ?_)
  obtain ⟨eP, R1, p1⟩ := q1
  subst eP
  have k1 := TX_k2 R1
  simp only [chk_true, bnd_some, ob_some, oc_some, oc_none, hl_eq, ix_0, ix_1, if_true, if_false, inb0_2, inb1_2, not_true_eq_false, not_false_eq_true, ite_true, ite_false, true_or, or_true, or_self, zero_eq_one_I, one_eq_zero_I, k1]
  refine XO_bnd (hb u1 h1 ⟨e, c, E, b, R1, QRx_kx Q (TX_k2 R) p1⟩) (fun P2 _ u2 h2 _ q2 => ?_)
  exact x_endF hn q2 (by omega) (by omega)
theorem x_tells {n : Nat} {K : Nat → Nat} {x : Nat} {Z : Zt} {h0 h : AH} {cc ss cM sM : Nat} {P : PSt} {t : Tk} (hn : 20000 < n) (R : RX K x Z h0 cc ss P t h) (hc : cc + 3 ≤ cM) (hs : ss + 67 ≤ sM) : XO (F_X1_tells n K (x + 2) h) (tellP true Z.T Z.tm P t) (FX K x Z h0 cM sM) (fun P' _ u h' => RX K x Z h0 (cc + 2) (ss + 60) P' u h') := by
  have R0 := R
  obtain ⟨e, c, E, b, R, Q⟩ := R
  have k0 := TX_k2 R
  have H := R.1.2.1.2.2.2.2.1.1
  have w0 := x_word0 (n := n) hn R
  have l0 : F_J2_size n K (x + 3) h = some (nI (c 0), h) := l_size (R.1.2.1.2.2.1.1 0 (by omega)).1
  have l1 : F_J2_size n K (x + 4) h = some (nI (c 1), h) := l_size (R.1.2.1.2.2.1.1 1 (by omega)).1
  have r8 := xs_r2_8 H
  have r9 := xs_r2_9 H
  have k3 := xs_k3 H
  have k4 := xs_k4 H
  obtain ⟨fa, fh, fe, fq⟩ := x_fail (n := n) R (cM := cM) (sM := sM) (by omega) (by omega)
  have n15 := Q.2.1.2.1
  have n20 := Q.2.2.1.2.1
  rw [Q.2.1.1] at l0
  rw [Q.2.2.1.1] at l1
  unfold tellP
  unfold wO0 at w0
  rcases Bool.eq_false_or_eq_true (wdS Z.T Z.tm 8 t) with c8 | c8
  · simp only [c8, if_true, selS] at w0 ⊢
    have key := x_sent (n := n) hn R0 hc hs P (nearF n K (x + 2)) (nearQ Z.T Z.tm) (fun u h' r => x_nearQ hn r hc hs)
    simp only [nearF, endF, bndT_assoc, bndT_chk, bndT_inr, hl_eq] at key
    have ev : (fun P u => PB (nearQ Z.T Z.tm P u) (semiP true Z.T Z.tm)) = nearP true Z.T Z.tm := funext fun P => funext fun u => (nearP_eq Z.T Z.tm P u).symm
    rw [ev] at key
    simp (decide := true) only [F_X1_tells, chk_true, bnd_some, ob_some, oc_some, oc_none, hl_eq, jn_eq, ix_0, ix_1, if_true, if_false, inb0_2, inb1_2, not_true_eq_false, not_false_eq_true, ite_true, ite_false, true_or, or_true, or_self, zero_eq_one_I, one_eq_zero_I, k0, w0]
    exact key
  · rcases Bool.eq_false_or_eq_true (wdS Z.T Z.tm 9 t) with c9 | c9
    · simp only [c8, c9, Bool.false_eq_true, if_false, if_true, selS] at w0 ⊢
      have key := x_sent (n := n) hn R0 hc hs P (strF n K (x + 2)) (strQ Z.T Z.tm) (fun u h' r => x_strQ hn r hc hs)
      simp only [strF, endF, bndT_assoc, bndT_chk, bndT_inr, hl_eq] at key
      have ev : (fun P u => PB (strQ Z.T Z.tm P u) (semiP true Z.T Z.tm)) = strP true Z.T Z.tm := funext fun P => funext fun u => (strP_eq Z.T Z.tm P u).symm
      rw [ev] at key
      simp (decide := true) only [F_X1_tells, chk_true, bnd_some, ob_some, oc_some, oc_none, hl_eq, jn_eq, ix_0, ix_1, if_true, if_false, inb0_2, inb1_2, not_true_eq_false, not_false_eq_true, ite_true, ite_false, true_or, or_true, or_self, zero_eq_one_I, one_eq_zero_I, k0, w0]
      exact key
    · rcases Bool.eq_false_or_eq_true (wdS Z.T Z.tm 10 t) with c10 | c10
      · simp only [c8, c9, c10, Bool.false_eq_true, if_false, if_true, selS] at w0 ⊢
        have z15 : (nI P.1.nv = 15) = (P.1.nv = 15) := by rw [show (15 : Int32) = nI 15 from rfl]; exact propext (nI_eq (by omega) (by omega))
        by_cases z : P.1.nv = 15
        · rw [decide_eq_false (show ¬ P.1.nv < 15 by omega)]
          refine ⟨fa, fh, ?_, fq⟩
          simp (decide := true) only [F_X1_tells, chk_true, bnd_some, ob_some, oc_some, oc_none, hl_eq, jn_eq, ix_0, ix_1, if_true, if_false, inb0_2, inb1_2, not_true_eq_false, not_false_eq_true, ite_true, ite_false, true_or, or_true, or_self, zero_eq_one_I, one_eq_zero_I, k0, w0, r8, k3, l0, z15, eq_true z, fe]
        · rw [decide_eq_true (show P.1.nv < 15 by omega)]
          have key := x_sent (n := n) hn R0 hc hs P (F_X1_voter n K (x + 2)) (votQ true Z.T Z.tm) (fun u h' r => x_votr hn (by omega) r hc hs)
          simp only [endF] at key
          have ev : (fun P u => PB (votQ true Z.T Z.tm P u) (semiP true Z.T Z.tm)) = votP true Z.T Z.tm := funext fun P => funext fun u => (votP_eq true Z.T Z.tm P u).symm
          rw [ev] at key
          simp (decide := true) only [F_X1_tells, chk_true, bnd_some, ob_some, oc_some, oc_none, hl_eq, jn_eq, ix_0, ix_1, if_true, if_false, inb0_2, inb1_2, not_true_eq_false, not_false_eq_true, ite_true, ite_false, true_or, or_true, or_self, zero_eq_one_I, one_eq_zero_I, k0, w0, r8, k3, l0, z15, eq_false z]
          exact key
      · rcases Bool.eq_false_or_eq_true (wdS Z.T Z.tm 12 t) with c12 | c12
        · simp only [c8, c9, c10, c12, Bool.false_eq_true, if_false, if_true, selS] at w0 ⊢
          have z20 : (nI P.1.np = 20) = (P.1.np = 20) := by rw [show (20 : Int32) = nI 20 from rfl]; exact propext (nI_eq (by omega) (by omega))
          by_cases z : P.1.np = 20
          · rw [decide_eq_false (show ¬ P.1.np < 20 by omega)]
            refine ⟨fa, fh, ?_, fq⟩
            simp (decide := true) only [F_X1_tells, chk_true, bnd_some, ob_some, oc_some, oc_none, hl_eq, jn_eq, ix_0, ix_1, if_true, if_false, inb0_2, inb1_2, not_true_eq_false, not_false_eq_true, ite_true, ite_false, true_or, or_true, or_self, zero_eq_one_I, one_eq_zero_I, k0, w0, r9, k4, l1, z20, eq_true z, fe]
          · rw [decide_eq_true (show P.1.np < 20 by omega)]
            have key := x_sent (n := n) hn R0 hc hs P (plaF n K (x + 2)) (plaQ true Z.T Z.tm) (fun u h' r => x_plaQ hn (by omega) r hc hs)
            simp only [plaF, endF, bndT_assoc, bndT_chk, bndT_bnd, bndT_ob, bndT_inr, hl_eq] at key
            have ev : (fun P u => PB (plaQ true Z.T Z.tm P u) (semiP true Z.T Z.tm)) = plaP true Z.T Z.tm := funext fun P => funext fun u => (plaP_eq true Z.T Z.tm P u).symm
            rw [ev] at key
            simp (decide := true) only [F_X1_tells, chk_true, bnd_some, ob_some, oc_some, oc_none, hl_eq, jn_eq, ix_0, ix_1, if_true, if_false, inb0_2, inb1_2, not_true_eq_false, not_false_eq_true, ite_true, ite_false, true_or, or_true, or_self, zero_eq_one_I, one_eq_zero_I, k0, w0, r9, k4, l1, z20, eq_false z]
            exact key
        · rcases Bool.eq_false_or_eq_true (wdS Z.T Z.tm 13 t) with c13 | c13
          · simp only [c8, c9, c10, c12, c13, Bool.false_eq_true, if_false, if_true, selS, Bool.true_and] at w0 ⊢
            have i7 := Q.1.2.2.2.2
            rcases Bool.eq_false_or_eq_true P.2.2.2.2 with y | y
            · rw [y] at i7 ⊢
              refine ⟨fa, fh, ?_, fq⟩
              have tt : (bI true = 0) = False := eq_false (by decide)
              simp (decide := true) only [F_X1_tells, chk_true, bnd_some, ob_some, oc_some, oc_none, hl_eq, jn_eq, ix_0, ix_1, if_true, if_false, inb0_2, inb1_2, not_true_eq_false, not_false_eq_true, ite_true, ite_false, true_or, or_true, or_self, zero_eq_one_I, one_eq_zero_I, k0, w0, i7, tt, fe]
            · rw [y] at i7 ⊢
              have tf : (bI false = 0) = True := eq_true (by decide)
              have ep : ((wonP P).1, ((wonP P).2.1, (wonP P).2.2.1, (wonP P).2.2.2.1, false)) = P := by
                obtain ⟨p1, p2, p3, p4, p5⟩ := P
                have : p5 = false := y
                rw [this]; rfl
              have key := x_sent (n := n) hn R0 hc hs (wonP P) (F_X1_win n K (x + 2)) (winQ Z.T Z.tm) (fun u h' r => x_win hn rfl (by rw [ep]; exact r) hc hs)
              simp only [endF] at key
              have ev : (fun P u => PB (winQ Z.T Z.tm P u) (semiP true Z.T Z.tm)) = winP true Z.T Z.tm := funext fun P => funext fun u => (winP_eq Z.T Z.tm P u).symm
              rw [ev] at key
              simp (decide := true) only [F_X1_tells, chk_true, bnd_some, ob_some, oc_some, oc_none, hl_eq, jn_eq, ix_0, ix_1, if_true, if_false, inb0_2, inb1_2, not_true_eq_false, not_false_eq_true, ite_true, ite_false, true_or, or_true, or_self, zero_eq_one_I, one_eq_zero_I, k0, w0, i7, tf]
              exact key
          · simp only [c8, c9, c10, c12, c13, Bool.false_eq_true, if_false, selS, Bool.false_and] at w0 ⊢
            refine ⟨fa, fh, ?_, fq⟩
            simp (decide := true) only [F_X1_tells, chk_true, bnd_some, ob_some, oc_some, oc_none, hl_eq, jn_eq, ix_0, ix_1, if_true, if_false, inb0_2, inb1_2, not_true_eq_false, not_false_eq_true, ite_true, ite_false, true_or, or_true, or_self, zero_eq_one_I, one_eq_zero_I, k0, w0, fe]
