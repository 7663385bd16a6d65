/-! PURE PART RY: round() of the sheet -/
set_option maxRecDepth 100000
theorem gcdL_ok {s : Int64 × Int64} (h : fB s) : lN (Int.gcd s.1.toInt s.2.toInt) = gcdL s.1 s.2 ∧ ¬ gcdL s.1 s.2 = 0 := by
  obtain ⟨a1, a2, a3, a4⟩ := h
  have hg : Int.gcd s.1.toInt s.2.toInt ≤ 2000000000 := gcd_leM (by omega) (by omega)
  have hp : 0 < (Int.gcd s.1.toInt s.2.toInt : Int) := sg_ne (Or.inr (by omega))
  have e : lN (Int.gcd s.1.toInt s.2.toInt) = gcdL s.1 s.2 := of_lN (by omega)
  refine ⟨e, fun z => ?_⟩
  rw [← e, lN_eq0 (by omega)] at z
  omega
theorem x_findRound {n : Nat} {K : Nat → Nat} {x : Nat} {h : AH} {e c : Nat → Nat} {E : Nat → Nat → Nat} {b : Nat} {Z : Zt} (hn : 20000 < n) (B : Bd Z.S) (I : XIn K x h e c E b Z) :
    ∃ e' c' E' h', F_X0_findRound n K x h = some ((), h') ∧ XIn K x h' e' c' E' b Z ∧ h'.I x 13 = 1 ∧ Fr 210 1200 (fun a _ => ¬ RgM (x + 29) a) h h' := by
  have k0 := xs_k0 I.2.2.2.2.1.1
  obtain ⟨_, _, _, iR0⟩ := XC_in I
  rcases iR0 with z | z
  · obtain ⟨e1, c1, E1, h4, r1, I4, r3, r4⟩ := x_findLines hn B I
    obtain ⟨C, iL, iM, iR⟩ := XC_in I4
    have H := C.2.2.2.2.1.1
    have k4 := xs_k0 H
    have iL' : c1 5 = (linesS Z.S).1 ∧ X3L h4 12 (c1 5) (E1 5) (linesS Z.S).2 := by
      rcases iL with y | y
      · rw [y] at r3; exact absurd r3 (by decide)
      · exact y.2
    obtain ⟨z1, z2⟩ := iL'
    have l5 : Ls K h4 (x + 9) (e1 5) (c1 5) (E1 5) := (C.2.2.1.1 5 (by omega)).1
    rw [z1] at z2 l5
    have F1 : Fr 0 0 (fun a j => a = x ∧ 13 ≤ j ∧ j ≤ 17) h4 ((h4.setI x 13 1).setL x 16 (-1)) :=
      Fr_trans (W := fun a j => a = x ∧ 13 ≤ j ∧ j ≤ 17) (Fr_setI (W := fun a j => a = x ∧ 13 ≤ j ∧ j ≤ 17) h4 x 13 1 (fun _ => ⟨rfl, by omega, by omega⟩)) (Fr_setL (W := fun a j => a = x ∧ 13 ≤ j ∧ j ≤ 17) (h4.setI x 13 1) x 16 (-1) (fun _ => ⟨rfl, by omega, by omega⟩)) (fun _ _ _ w => w) (fun _ _ _ w => w)
    have i13 : ((h4.setI x 13 1).setL x 16 (-1)).I x 13 = 1 := by rw [AH.I_setL, AH.I_setI, if_pos ⟨rfl, rfl⟩]
    have h16 : ((h4.setI x 13 1).setL x 16 (-1)).L x 16 = -1 := by rw [AH.L_setL, if_pos ⟨rfl, rfl⟩]
    have start : F_X0_findRound n K x h = F_X0_findRound_L26 n K x n 0 ((h4.setI x 13 1).setL x 16 (-1)) := by
      have hz : (h.I x 13 = 0) = True := eq_true z
      simp only [F_X0_findRound, chk_true, bnd_some, ob_some, oc_some, oc_none, hl_eq, jn_eq, ix_0, ix_1, if_true, if_false, inb0_2, inb1_2, not_true_eq_false, not_false_eq_true, ite_true, ite_false, true_or, or_true, or_self, zero_eq_one_I, one_eq_zero_I, k0, hz, r1, k4]
    have H8 : XSh x ((h4.setI x 13 1).setL x 16 (-1)) := H
    have l58 : Ls K ((h4.setI x 13 1).setL x 16 (-1)) (x + 9) (e1 5) (linesS Z.S).1 (E1 5) := Ls_fr l5 F1 (fun j _ w => by omega) (fun j _ w => by
      have := (Ls_kinds l5).2
      rw [w.1] at this; omega)
    have X38 : X3L ((h4.setI x 13 1).setL x 16 (-1)) 12 (linesS Z.S).1 (E1 5) (linesS Z.S).2 := X3L_fr (by omega) z2 F1 (fun v hv j w => by
      have := (z2 v hv).1
      rw [w.1] at this; omega)
    have all := x_rdAll (K := K) hn H8 B l58 X38 h16
    generalize hg8 : (h4.setI x 13 1).setL x 16 (-1) = h8 at *
    obtain ⟨rb1, rb2⟩ := rd_ok B
    obtain ⟨g1, g2⟩ := gcdL_ok rb2
    have hRe : hR h8 x Z.S 10000 = h8.rd x (rdS Z.S).2.1 (rdS Z.S).2.2 (nI ((rdS Z.S).1 / 100)) (nI ((rdS Z.S).1 % 100)) := by
      rw [rdS_P]
      exact hR_s h8 x Z.S 9999
    have gc := x_common (n := n) (K := K) (h := h8.rd x (rdS Z.S).2.1 (rdS Z.S).2.2 (nI ((rdS Z.S).1 / 100)) (nI ((rdS Z.S).1 % 100))) hn (a := (rdS Z.S).2.1) (b := (rdS Z.S).2.2) ⟨by have := rb2.1; omega, by have := rb2.2.1; omega⟩ ⟨by have := rb2.2.2.1; omega, by have := rb2.2.2.2; omega⟩
    rw [g1] at gc
    generalize hRR : rdS Z.S = R at *
    have L16 : ∀ (P Q : Int64) (u v : Int32), (h8.rd x P Q u v).L x 16 = P := fun P Q u v => by rw [rd_L, if_neg (by omega), if_pos ⟨rfl, rfl⟩]
    have L17 : ∀ (P Q : Int64) (u v : Int32), (h8.rd x P Q u v).L x 17 = Q := fun P Q u v => by rw [rd_L, if_pos ⟨rfl, rfl⟩]
    have M17 : ∀ (P Q W : Int64) (u v : Int32), ((h8.rd x P Q u v).setL x 16 W).L x 17 = Q := fun P Q W u v => by rw [AH.L_setL, if_neg (by omega), L17]
    have k8 : h8.kind x = 1 := xs_k0 H8
    have kr : ∀ (P Q : Int64) (u v : Int32), (h8.rd x P Q u v).kind = h8.kind := fun _ _ _ _ => rfl
    have g2' := eq_false g2
    have fin : F_X0_findRound_L26 n K x 1 (nI 100) (h8.rd x R.2.1 R.2.2 (nI (R.1 / 100)) (nI (R.1 % 100))) = some ((), ((h8.rd x R.2.1 R.2.2 (nI (R.1 / 100)) (nI (R.1 % 100))).setL x 16 (R.2.1 / gcdL R.2.1 R.2.2)).setL x 17 (R.2.2 / gcdL R.2.1 R.2.2)) := by
      have e3 : ((100 : Int32) ≤ nI 100) = True := eq_true (by decide)
      simp only [F_X0_findRound_L26, chk_true, bnd_some, ob_some, oc_some, oc_none, hl_eq, jn_eq, ix_0, ix_1, if_true, if_false, inb0_2, inb1_2, not_true_eq_false, not_false_eq_true, ite_true, ite_false, true_or, or_true, or_self, zero_eq_one_I, one_eq_zero_I, AH.n_setI, AH.n_setL, AH.n_setR, AH.sl_setI, AH.sl_setL, AH.sl_setR, AH.kind_setI, AH.kind_setL, AH.kind_setR, AH.len_setI, AH.len_setL, AH.len_setR, AH.I_setL, AH.I_setR, AH.L_setI, AH.L_setR, AH.R_setI, AH.R_setL, e3, kr, k8, L16, L17, M17, gc, g2']
    have Fr2 : Fr 0 0 (fun a j => a = x ∧ 13 ≤ j ∧ j ≤ 17) h8 (((h8.rd x R.2.1 R.2.2 (nI (R.1 / 100)) (nI (R.1 % 100))).setL x 16 (R.2.1 / gcdL R.2.1 R.2.2)).setL x 17 (R.2.2 / gcdL R.2.1 R.2.2)) :=
      Fr_trans (W := fun a j => a = x ∧ 13 ≤ j ∧ j ≤ 17) (Fr_trans (W := fun a j => a = x ∧ 13 ≤ j ∧ j ≤ 17) (rd_fr ..) (Fr_setL (W := fun a j => a = x ∧ 13 ≤ j ∧ j ≤ 17) _ x 16 _ (fun _ => ⟨rfl, by omega, by omega⟩)) (fun _ _ _ w => w) (fun _ _ _ w => w)) (Fr_setL (W := fun a j => a = x ∧ 13 ≤ j ∧ j ≤ 17) _ x 17 _ (fun _ => ⟨rfl, by omega, by omega⟩)) (fun _ _ _ w => w) (fun _ _ _ w => w)
    have Fa := Fr_trans (W := fun a j => a = x ∧ 13 ≤ j ∧ j ≤ 17) F1 Fr2 (fun _ _ _ w => w) (fun _ _ _ w => w)
    have iI : ∀ j, (((h8.rd x R.2.1 R.2.2 (nI (R.1 / 100)) (nI (R.1 % 100))).setL x 16 (R.2.1 / gcdL R.2.1 R.2.2)).setL x 17 (R.2.2 / gcdL R.2.1 R.2.2)).I x j = (h8.rd x R.2.1 R.2.2 (nI (R.1 / 100)) (nI (R.1 % 100))).I x j := fun _ => rfl
    have r13 : (((h8.rd x R.2.1 R.2.2 (nI (R.1 / 100)) (nI (R.1 % 100))).setL x 16 (R.2.1 / gcdL R.2.1 R.2.2)).setL x 17 (R.2.2 / gcdL R.2.1 R.2.2)).I x 13 = 1 := by
      rw [iI, rd_I, if_neg (by omega), if_neg (by omega)]; exact i13
    refine ⟨e1, c1, E1, _, by rw [start, all, hRe, fin], XIn_rd I4 Fa (Or.inr ⟨r13, ?_, ?_, ?_, ?_⟩), r13, ?_⟩
    · rw [hRR, iI, rd_I, if_neg (by omega), if_pos ⟨rfl, rfl⟩]
    · rw [hRR, iI, rd_I, if_pos ⟨rfl, rfl⟩]
    · rw [hRR, AH.L_setL, if_neg (by omega), AH.L_setL, if_pos ⟨rfl, rfl⟩]
    · rw [hRR, AH.L_setL, if_pos ⟨rfl, rfl⟩]
    · exact Fr_mono (Fr_trans (W := fun a _ => ¬ RgM (x + 29) a) r4 Fa (fun _ _ _ w => w) (fun a j _ w => by rintro ⟨w1, _⟩; omega)) (by omega) (by omega) (fun _ _ _ w => w)
  · refine ⟨e, c, E, h, ?_, I, z.1, Fr_mono (Fr_refl h) (by omega) (by omega) (fun _ _ _ w => w)⟩
    have hz : (h.I x 13 = 0) = False := eq_false (by rw [z.1]; decide)
    simp only [F_X0_findRound, chk_true, bnd_some, ob_some, oc_some, oc_none, hl_eq, jn_eq, ix_0, ix_1, if_true, if_false, inb0_2, inb1_2, not_true_eq_false, not_false_eq_true, ite_true, ite_false, true_or, or_true, or_self, zero_eq_one_I, one_eq_zero_I, k0, hz]
def roundS (S : St) (w : Int32) : Int32 := if S.nv = 0 then -1 else if inS w 0 3 = true then (if w = 0 then nI ((rdS S).1 / 100) else if w = 1 then nI ((rdS S).1 % 100) else if w = 2 then ((rdS S).2.1 / gcdL (rdS S).2.1 (rdS S).2.2).toInt32 else ((rdS S).2.2 / gcdL (rdS S).2.1 (rdS S).2.2).toInt32) else -1
theorem ox_round {n : Nat} {K : Nat → Nat} {x : Nat} {h : AH} {Z : Zt} (hn : 20000 < n) (bz : Bz Z) (I : InvX K x h Z) (w : Int32) : XOk K x 210 1200 Z (roundS Z.S w) (F_X0_round n K x w h) h := by
  obtain ⟨e0, c0, E0, b, I0⟩ := I
  have X0 := I0.2.2.2.2.1
  have k0 := xs_k0 X0.1
  have ie := l_isEmpty (n := n) X0.2.1.1
  have same : ∀ {o : Option (Int32 × AH)} {r : Int32}, o = some (r, h) → XOk K x 210 1200 Z r o h := fun e => ⟨h, e, ⟨e0, c0, E0, b, I0⟩, Fr_mono (Fr_refl h) (by omega) (by omega) (fun _ _ _ w => w)⟩
  unfold roundS
  by_cases nv0 : Z.S.nv = 0
  · rw [if_pos nv0]
    refine same ?_
    simp only [F_X0_round, chk_true, bnd_some, ob_some, oc_some, oc_none, hl_eq, jn_eq, ix_0, ix_1, if_true, if_false, inb0_2, inb1_2, not_true_eq_false, not_false_eq_true, ite_true, ite_false, true_or, or_true, or_self, zero_eq_one_I, one_eq_zero_I, xs_k0, xs_k1, xs_n1, xs_k2, xs_k3, xs_k4, xs_k5, xs_k6, xs_k7, xs_k8, xs_k9, xs_k10, xs_k11, xs_n11, xs_k12, xs_n12, xs_k13, xs_n13, xs_k14, xs_n14, xs_k15, xs_n15, xs_k16, xs_n16, xs_k17, xs_n17, xs_k18, xs_n18, xs_k27, xs_n27, xs_k28, xs_n28, xs_r0_0, xs_r0_1, xs_r2_8, xs_r2_9, xs_r0_2, xs_r0_3, xs_r0_4, xs_r0_8, xs_r0_9, xs_r0_10, xs_r0_18, xs_r0_19, xs_r0_20, xs_r0_21, xs_r0_22, xs_r0_25, xs_r0_26, xs_r0_27, xs_r0_28, X0.1, ie, nv0]
  · rw [if_neg nv0]
    cases hw : inS w 0 3
    · rw [if_neg (by decide)]
      refine same ?_
      simp only [F_X0_round, chk_true, bnd_some, ob_some, oc_some, oc_none, hl_eq, jn_eq, ix_0, ix_1, if_true, if_false, inb0_2, inb1_2, not_true_eq_false, not_false_eq_true, ite_true, ite_false, true_or, or_true, or_self, zero_eq_one_I, one_eq_zero_I, xs_k0, xs_k1, xs_n1, xs_k2, xs_k3, xs_k4, xs_k5, xs_k6, xs_k7, xs_k8, xs_k9, xs_k10, xs_k11, xs_n11, xs_k12, xs_n12, xs_k13, xs_n13, xs_k14, xs_n14, xs_k15, xs_n15, xs_k16, xs_n16, xs_k17, xs_n17, xs_k18, xs_n18, xs_k27, xs_n27, xs_k28, xs_n28, xs_r0_0, xs_r0_1, xs_r2_8, xs_r2_9, xs_r0_2, xs_r0_3, xs_r0_4, xs_r0_8, xs_r0_9, xs_r0_10, xs_r0_18, xs_r0_19, xs_r0_20, xs_r0_21, xs_r0_22, xs_r0_25, xs_r0_26, xs_r0_27, xs_r0_28, X0.1, ie, nv0, x_in, hw, bI_0]
    · rw [if_pos rfl]
      obtain ⟨e, c, E, h1, q1, I1, q3, q4⟩ := x_findRound hn bz.1 I0
      refine ⟨h1, ?_, ⟨e, c, E, b, I1⟩, q4⟩
      obtain ⟨C, _, _, iR⟩ := XC_in I1
      have k1 := xs_k0 C.2.2.2.2.1.1
      rcases iR with z | ⟨_, z1, z2, z3, z4⟩
      · rw [z] at q3; exact absurd q3 (by decide)
      · simp only [F_X0_round, chk_true, bnd_some, ob_some, oc_some, oc_none, hl_eq, jn_eq, ix_0, ix_1, if_true, if_false, inb0_2, inb1_2, not_true_eq_false, not_false_eq_true, ite_true, ite_false, true_or, or_true, or_self, zero_eq_one_I, one_eq_zero_I, xs_k0, xs_k1, xs_n1, xs_k2, xs_k3, xs_k4, xs_k5, xs_k6, xs_k7, xs_k8, xs_k9, xs_k10, xs_k11, xs_n11, xs_k12, xs_n12, xs_k13, xs_n13, xs_k14, xs_n14, xs_k15, xs_n15, xs_k16, xs_n16, xs_k17, xs_n17, xs_k18, xs_n18, xs_k27, xs_n27, xs_k28, xs_n28, xs_r0_0, xs_r0_1, xs_r2_8, xs_r2_9, xs_r0_2, xs_r0_3, xs_r0_4, xs_r0_8, xs_r0_9, xs_r0_10, xs_r0_18, xs_r0_19, xs_r0_20, xs_r0_21, xs_r0_22, xs_r0_25, xs_r0_26, xs_r0_27, xs_r0_28, X0.1, ie, nv0, x_in, hw, bI_0, Bool.true_eq_false, q1, k1, z1, z2, z3, z4]
        by_cases w0 : w = 0
        · simp [w0]
        · by_cases w1 : w = 1
          · simp [w1]
          · by_cases w2 : w = 2
            · simp [w2]
            · simp [w0, w1, w2]
