/-! PURE PART RW: the sheet's middles, all; middle(), proof() -/
set_option maxRecDepth 100000
theorem pr3_I (h : AH) (x i j q : Nat) (a k : Nat) : (h.pr3 x i j q).I a k = if a = x + 11 ∧ k = 2 then nI q else if a = x + 11 ∧ k = 1 then nI j else if a = x + 11 ∧ k = 0 then nI i else h.I a k := by
  unfold AH.pr3
  simp only [AH.I_setI]
theorem pr3_fr (h : AH) (x i j q : Nat) : Fr 0 0 (fun a _ => a = x + 11) h (h.pr3 x i j q) := Fr_of rfl rfl rfl rfl rfl (fun a k z => by
  rw [pr3_I, if_neg (fun y => z y.1), if_neg (fun y => z y.1), if_neg (fun y => z y.1)])
theorem XMb_done {K : Nat → Nat} {x : Nat} {h : AH} {e c : Nat → Nat} {E : Nat → Nat → Nat} {b : Nat} {Z : Zt} (I : XMb K x h e c E b Z (middlesS Z.S)) (hp : prS Z.S 0 = -1) : XIn K x h e c E b Z := by
  obtain ⟨C, i1, i2, i3, i4, i5, i6, i7, i8⟩ := I
  refine XIn_C C (Or.inr ⟨i1, i4, by rw [i4]; exact i5⟩) (Or.inr ⟨i2, i1, i7, by rw [i7]; exact i8, by rw [i6, hp], fun z => absurd hp z⟩) i3
theorem XMb_pr3 {K : Nat → Nat} {x : Nat} {h : AH} {e c : Nat → Nat} {E : Nat → Nat → Nat} {b : Nat} {Z : Zt} (I : XMb K x h e c E b Z (middlesS Z.S)) {i j q : Nat} (p0 : prS Z.S 0 = nI i) (p1 : prS Z.S 1 = nI j) (p2 : prS Z.S 2 = nI q) : XIn K x (h.pr3 x i j q) e c E b Z ∧ (h.pr3 x i j q).I x 12 = 1 := by
  obtain ⟨C, i1, i2, i3, i4, i5, i6, i7, i8⟩ := I
  have H := C.2.2.2.2.1.1
  have k0 := xs_k0 H
  have k11 := xs_k11 H
  have F := pr3_fr h x i j q
  have C2 : XC K x (h.pr3 x i j q) e c E b Z := XC_fr0 C F (by
    intro a k _ w
    rw [show a = x + 11 from w]
    exact ⟨Or.inr (Or.inr (Or.inr (Or.inr (Or.inr (Or.inr (Or.inl rfl)))))), by omega, by omega⟩)
  have nx : ∀ k, (h.pr3 x i j q).I x k = h.I x k := fun k => by
    rw [pr3_I, if_neg (by omega), if_neg (by omega), if_neg (by omega)]
  have r12 : (h.pr3 x i j q).I x 12 = 1 := by rw [nx]; exact i2
  refine ⟨XIn_C C2 (Or.inr ⟨by rw [nx]; exact i1, i4, ?_⟩) (Or.inr ⟨r12, by rw [nx]; exact i1, i7, ?_, ?_, fun _ => ⟨?_, ?_⟩⟩) (XCr_fr i3 F (by omega) (fun j _ _ w => by omega)), r12⟩
  · rw [i4]
    refine X3L_fr (by omega) i5 F (fun v hv k w => ?_)
    have := (i5 v hv).1
    rw [show E 5 v = x + 11 from w] at this
    omega
  · rw [i7]
    refine X3L_fr (by omega) i8 F (fun v hv k w => ?_)
    have := (i8 v hv).1
    rw [show E 6 v = x + 11 from w] at this
    omega
  · rw [pr3_I, if_neg (by omega), if_neg (by omega), if_pos ⟨rfl, rfl⟩, p0]
  · rw [pr3_I, if_neg (by omega), if_pos ⟨rfl, rfl⟩, p1]
  · rw [pr3_I, if_pos ⟨rfl, rfl⟩, p2]
theorem x_findMiddles {n : Nat} {K : Nat → Nat} {x : Nat} {h : AH} {e c : Nat → Nat} {E : Nat → Nat → Nat} {b : Nat} {Z : Zt} (hn : 20000 < n) (B : Bd Z.S) (I : XIn K x h e c E b Z) :
    ∃ e' c' E' h', F_X0_findMiddles n K x h = some ((), h') ∧ XIn K x h' e' c' E' b Z ∧ h'.I x 12 = 1 ∧ Fr 16620 77900 (fun a _ => ¬ RgM (x + 29) a) h h' := by
  have k0 := xs_k0 I.2.2.2.2.1.1
  obtain ⟨_, _, iM0, _⟩ := XC_in I
  rcases iM0 with z | z
  · obtain ⟨e1, c1, E1, h4, r1, I4, r3, r4⟩ := x_findLines hn B I
    obtain ⟨C, iL, iM, iR⟩ := XC_in I4
    have H := C.2.2.2.2.1.1
    have k4 := xs_k0 H
    have k11 := xs_k11 H
    have iL' : c1 5 = (linesS Z.S).1 ∧ X3L h4 12 (c1 5) (E1 5) (linesS Z.S).2 := by
      rcases iL with y | y
      · rw [y] at r3; exact absurd r3 (by decide)
      · exact y.2
    obtain ⟨z1, z2⟩ := iL'
    rw [z1] at z2
    have F1 := Fr_setI (W := fun a j => a = x ∧ j = 12) h4 x 12 1 (fun _ => ⟨rfl, rfl⟩)
    have C1 : XC K x (h4.setI x 12 1) e1 c1 E1 b Z := XC_fr0 C F1 (by
      rintro a j _ ⟨w1, w2⟩
      rw [w1]
      exact ⟨Or.inr (Or.inr (Or.inr (Or.inr (Or.inr (Or.inl ⟨rfl, by omega, by omega⟩))))), by omega, by omega⟩)
    obtain ⟨h2, q1, q2, F2⟩ := LL_clear hn C1.2.2.1 (i := 6) (by omega) (C1.2.2.2.1 6 (by omega))
    have kl : (h4.setI x 12 1).kind (x + loL 6) = 3 := (C1.2.2.1.1 6 (by omega)).1.1
    have hO : ∀ a j, (h4.setI x 12 1).kind a ≠ 0 → (a = x + loL 6 ∨ (a = e1 6 ∧ j < c1 6 ∧ (h4.setI x 12 1).kind (e1 6) = 34)) → (h4.setI x 12 1).kind a = 3 ∨ (h4.setI x 12 1).kind a = 34 := by
      rintro a j _ (w | ⟨w, _, w2⟩)
      · rw [w]; exact Or.inl kl
      · rw [w]; exact Or.inr w2
    have hO2 : ∀ a j, (h4.setI x 12 1).kind a ≠ 0 → (a = x + loL 6 ∨ (a = e1 6 ∧ j < c1 6 ∧ (h4.setI x 12 1).kind (e1 6) = 34)) → OkW x (h4.setI x 12 1) a j := by
      intro a j ha w
      rcases hO a j ha w with w | w
      · exact Or.inl w
      · exact Or.inr (Or.inl w)
    have k0' : (h4.setI x 12 1).kind x = 1 := k4
    have nx : ∀ j, ¬ (x = x + loL 6 ∨ (x = e1 6 ∧ j < c1 6 ∧ (h4.setI x 12 1).kind (e1 6) = 34)) := by
      intro j w
      have := hO x j (by omega) w
      omega
    obtain ⟨f1, f2, f3⟩ := F2.2.2.2.2.2 x (by omega)
    have C2 : XC K x h2 e1 (up1 c1 6 0) E1 b Z := XC_fr C1 F2 q2 (fun i hi => by
        unfold up1
        by_cases y : i = 6
        · rw [if_pos y]; omega
        · rw [if_neg y]; exact C.2.2.2.1 i hi) (fun i h2 h4 => ⟨rfl, if_neg (by omega), rfl⟩) hO2
    have H2 := C2.2.2.2.2.1.1
    have k02 := xs_k0 H2
    have k112 := xs_k11 H2
    have n112 := xs_n11 H2
    have F3 := Fr_setI (W := fun a _ => a = x + 11) h2 (x + 11) 0 (-1) (fun _ => rfl)
    have C3 : XC K x (h2.setI (x + 11) 0 (-1)) e1 (up1 c1 6 0) E1 b Z := XC_fr0 C2 F3 (by
      intro a k _ w
      rw [show a = x + 11 from w]
      exact ⟨Or.inr (Or.inr (Or.inr (Or.inr (Or.inr (Or.inr (Or.inl rfl)))))), by omega, by omega⟩)
    have X1 : X3L (h4.setI x 12 1) 12 (linesS Z.S).1 (E1 5) (linesS Z.S).2 := X3L_fr (by omega) z2 F1 (fun v hv k w => by
      have := (z2 v hv).1
      rw [show E1 5 v = x from w.1] at this
      omega)
    have X2 : X3L h2 12 (linesS Z.S).1 (E1 5) (linesS Z.S).2 := X3L_fr (by omega) X1 F2 (fun v hv k w => by
      have := (X1 v hv).1
      have := hO _ k (by omega) w
      omega)
    have X3 : X3L (h2.setI (x + 11) 0 (-1)) 12 (linesS Z.S).1 (E1 5) (linesS Z.S).2 := X3L_fr (by omega) X2 F3 (fun v hv k w => by
      have := (X2 v hv).1
      rw [show E1 5 v = x + 11 from w] at this
      omega)
    have I0 : XMb K x (h2.setI (x + 11) 0 (-1)) e1 (up1 c1 6 0) E1 b Z (md0 Z.S 0) := by
      refine ⟨C3, ?_, ?_, ?_, z1, X3, ?_, if_pos rfl, fun k hk => absurd hk (Nat.not_lt_zero k)⟩
      · rw [AH.I_setI, if_neg (by omega), (f3 11 (nx 11)).1, AH.I_setI, if_neg (by omega)]; exact r3
      · rw [AH.I_setI, if_neg (by omega), (f3 12 (nx 12)).1, AH.I_setI, if_pos ⟨rfl, rfl⟩]
      · exact XCr_fr (XCr_fr (XCr_fr iR F1 (by omega) (fun j h1 _ w => by omega)) F2 (by omega) (fun j _ _ => nx j)) F3 (by omega) (fun j _ _ w => by omega)
      · rw [AH.I_setI, if_pos ⟨rfl, rfl⟩]
    obtain ⟨e5, c5, E5, h5, s1, s2, s3, s4⟩ := x_md33 (K := K) hn B I0 (fun h48 => F_X0_findMiddles_L94 n K x n 0 h48)
    obtain ⟨e6, c6, E6, h6, t1, t2, t3, t4⟩ := x_md94 (K := K) hn B s2
    have Fa := Fr_trans (W := fun a _ => ¬ RgM (x + 29) a) (Fr_mono F1 (Nat.le_refl _) (Nat.le_refl _) (W' := fun a _ => ¬ RgM (x + 29) a) (fun a j _ w => by rintro ⟨w1, _⟩; omega)) F2 (fun _ _ _ w => w) (fun a j ha w => OkW_m C1.2.1 (hO2 a j ha w))
    have Fb := Fr_trans (W := fun a _ => ¬ RgM (x + 29) a) Fa (Fr_mono F3 (Nat.le_refl _) (Nat.le_refl _) (W' := fun a _ => ¬ RgM (x + 29) a) (fun a j _ w => by rintro ⟨w1, _⟩; omega)) (fun _ _ _ w => w) (fun _ _ _ w => w)
    have Fc := Fr_trans (W := fun a _ => ¬ RgM (x + 29) a) s3 t3 (fun _ _ _ w => w) (fun _ _ _ w => w)
    have Cc := Cp_end (Cp_trans s4 t4)
    have Fd := Fr_trans (W := fun a _ => ¬ RgM (x + 29) a) Fb (Fr_sharp Fc Cc) (fun _ _ _ w => w) (fun _ _ _ w => w)
    have Fe := Fr_trans (W := fun a _ => ¬ RgM (x + 29) a) r4 Fd (fun _ _ _ w => w) (fun _ _ _ w => w)
    have hz : (h.I x 12 = 0) = True := eq_true z
    have q1' : F_J2_clear n K (x + 10) (h4.setI x 12 1) = some ((), h2) := q1
    have i3 := inb_3.1
    have start : F_X0_findMiddles n K x h = F_X0_findMiddles_L94 n K x 1 (nI (linesS Z.S).1) h6 := by
      rw [← t1, ← s1]
      simp only [F_X0_findMiddles, chk_true, bnd_some, ob_some, oc_some, oc_none, hl_eq, jn_eq, ix_0, ix_1, if_true, if_false, inb0_2, inb1_2, not_true_eq_false, not_false_eq_true, ite_true, ite_false, true_or, or_true, or_self, zero_eq_one_I, one_eq_zero_I, AH.n_setI, AH.n_setL, AH.n_setR, AH.sl_setI, AH.sl_setL, AH.sl_setR, AH.kind_setI, AH.kind_setL, AH.kind_setR, AH.len_setI, AH.len_setL, AH.len_setR, AH.I_setL, AH.I_setR, AH.L_setI, AH.L_setR, AH.R_setI, AH.R_setL, xs_k0, xs_k1, xs_n1, xs_k2, xs_k3, xs_k4, xs_k5, xs_k6, xs_k7, xs_k8, xs_k9, xs_k10, xs_k11, xs_n11, xs_k12, xs_n12, xs_k13, xs_n13, xs_k14, xs_n14, xs_k15, xs_n15, xs_k16, xs_n16, xs_k17, xs_n17, xs_k18, xs_n18, xs_k27, xs_n27, xs_k28, xs_n28, xs_r0_0, xs_r0_1, xs_r2_8, xs_r2_9, xs_r0_2, xs_r0_3, xs_r0_4, xs_r0_8, xs_r0_9, xs_r0_10, xs_r0_18, xs_r0_19, xs_r0_20, xs_r0_21, xs_r0_22, xs_r0_25, xs_r0_26, xs_r0_27, xs_r0_28, k0, hz, r1, H, H2, q1', n112, i3]
    have H6 := t2.1.2.2.2.2.1.1
    have l5 := XMb_l5 t2
    have l6 := XMb_l6 t2
    have e3 : (nI (linesS Z.S).1 ≤ nI (linesS Z.S).1) = True := eq_true (nI_le (Nat.le_refl _) (by have := (lines_ok B).2; omega))
    by_cases em : (middlesS Z.S).1 = 0
    · have fin : F_X0_findMiddles_L94 n K x 1 (nI (linesS Z.S).1) h6 = bnd (F_X0_proves n K x h6) (fun _ h65 => some ((), h65)) := by
        simp only [F_X0_findMiddles_L94, chk_true, bnd_some, ob_some, oc_some, oc_none, hl_eq, jn_eq, ix_0, ix_1, if_true, if_false, inb0_2, inb1_2, not_true_eq_false, not_false_eq_true, ite_true, ite_false, true_or, or_true, or_self, zero_eq_one_I, one_eq_zero_I, xs_k0, xs_k1, xs_n1, xs_k2, xs_k3, xs_k4, xs_k5, xs_k6, xs_k7, xs_k8, xs_k9, xs_k10, xs_k11, xs_n11, xs_k12, xs_n12, xs_k13, xs_n13, xs_k14, xs_n14, xs_k15, xs_n15, xs_k16, xs_n16, xs_k17, xs_n17, xs_k18, xs_n18, xs_k27, xs_n27, xs_k28, xs_n28, xs_r0_0, xs_r0_1, xs_r2_8, xs_r2_9, xs_r0_2, xs_r0_3, xs_r0_4, xs_r0_8, xs_r0_9, xs_r0_10, xs_r0_18, xs_r0_19, xs_r0_20, xs_r0_21, xs_r0_22, xs_r0_25, xs_r0_26, xs_r0_27, xs_r0_28, H6, l_size l5, e3, l_isEmpty l6, em]
      rcases x_proves (K := K) hn B t2 with ⟨s, u1, u2, u3, u4⟩ | ⟨s, i, j, q, u1, u2, u3, u4, u5, u6⟩
      · have Ff := Fr_trans (W := fun a _ => ¬ RgM (x + 29) a) Fe u3 (fun _ _ _ w => w) (fun _ _ _ w => w)
        refine ⟨e6, c6, E6, s, by rw [start, fin, u1]; rfl, XMb_done u2 ?_, u2.2.2.1, Fr_mono Ff (by omega) (by omega) (fun _ _ _ w => w)⟩
        unfold prS
        rw [if_pos em, u4]; rfl
      · have p : ∀ w, prS Z.S w = if w = 0 then nI i else if w = 1 then nI j else nI q := by
          intro w
          unfold prS
          rw [if_pos em, u4]
          show selS (prJ Z.S i) _ _ = _
          rw [u5]
          show selS (prK Z.S i j) _ _ = _
          rw [u6]
          rfl
        obtain ⟨v1, v2⟩ := XMb_pr3 u2 (p 0) (p 1) (p 2)
        have Ff := Fr_trans (W := fun a _ => ¬ RgM (x + 29) a) Fe u3 (fun _ _ _ w => w) (fun _ _ _ w => w)
        have Fg := Fr_trans (W := fun a _ => ¬ RgM (x + 29) a) Ff (pr3_fr s x i j q) (fun _ _ _ w => w) (fun a j _ w => by rintro ⟨w1, _⟩; omega)
        exact ⟨e6, c6, E6, s.pr3 x i j q, by rw [start, fin, u1]; rfl, v1, v2, Fr_mono Fg (by omega) (by omega) (fun _ _ _ w => w)⟩
    · refine ⟨e6, c6, E6, h6, ?_, XMb_done t2 ?_, t2.2.2.1, Fr_mono Fe (by omega) (by omega) (fun _ _ _ w => w)⟩
      · rw [start]
        simp only [F_X0_findMiddles_L94, chk_true, bnd_some, ob_some, oc_some, oc_none, hl_eq, jn_eq, ix_0, ix_1, if_true, if_false, inb0_2, inb1_2, not_true_eq_false, not_false_eq_true, ite_true, ite_false, true_or, or_true, or_self, zero_eq_one_I, one_eq_zero_I, xs_k0, xs_k1, xs_n1, xs_k2, xs_k3, xs_k4, xs_k5, xs_k6, xs_k7, xs_k8, xs_k9, xs_k10, xs_k11, xs_n11, xs_k12, xs_n12, xs_k13, xs_n13, xs_k14, xs_n14, xs_k15, xs_n15, xs_k16, xs_n16, xs_k17, xs_n17, xs_k18, xs_n18, xs_k27, xs_n27, xs_k28, xs_n28, xs_r0_0, xs_r0_1, xs_r2_8, xs_r2_9, xs_r0_2, xs_r0_3, xs_r0_4, xs_r0_8, xs_r0_9, xs_r0_10, xs_r0_18, xs_r0_19, xs_r0_20, xs_r0_21, xs_r0_22, xs_r0_25, xs_r0_26, xs_r0_27, xs_r0_28, H6, l_size l5, e3, l_isEmpty l6, em]
      · unfold prS
        rw [if_neg em]
  · refine ⟨e, c, E, h, ?_, I, z.1, Fr_mono (Fr_refl h) (by omega) (by omega) (fun _ _ _ w => w)⟩
    have hz : (h.I x 12 = 0) = False := eq_false (by rw [z.1]; decide)
    simp only [F_X0_findMiddles, chk_true, bnd_some, ob_some, oc_some, oc_none, hl_eq, jn_eq, ix_0, ix_1, if_true, if_false, inb0_2, inb1_2, not_true_eq_false, not_false_eq_true, ite_true, ite_false, true_or, or_true, or_self, zero_eq_one_I, one_eq_zero_I, k0, hz]
def middleS (S : St) (v w : Int32) : Int32 := if v = -1 then nI (middlesS S).1 else if inS v 0 (nI (middlesS S).1 - 1) = true then (if inS w 0 2 = true then Int32.ofInt (cp3 ((middlesS S).2 (ix v)) w) else -2147483648) else -2147483648
theorem ox_middle {n : Nat} {K : Nat → Nat} {x : Nat} {h : AH} {Z : Zt} (hn : 20000 < n) (bz : Bz Z) (I : InvX K x h Z) (v w : Int32) : XOk K x 16620 77900 Z (middleS Z.S v w) (F_X0_middle n K x v w h) h := by
  obtain ⟨e0, c0, E0, b, I0⟩ := I
  have k0 := xs_k0 I0.2.2.2.2.1.1
  obtain ⟨e, c, E, h1, q1, I1, q3, q4⟩ := x_findMiddles hn bz.1 I0
  refine ⟨h1, ?_, ⟨e, c, E, b, I1⟩, q4⟩
  obtain ⟨C, _, iM, _⟩ := XC_in I1
  have H := C.2.2.2.2.1.1
  have hb := (middles_ok bz.1).2
  have iM' : c 6 = (middlesS Z.S).1 ∧ X3L h1 13 (c 6) (E 6) (middlesS Z.S).2 := by
    rcases iM with z | z
    · rw [z] at q3; exact absurd q3 (by decide)
    · exact ⟨z.2.2.1, z.2.2.2.1⟩
  have l6 : Ls K h1 (x + 10) (e 6) (c 6) (E 6) := (C.2.2.1.1 6 (by omega)).1
  obtain ⟨z1, z2⟩ := iM'
  rw [z1] at l6 z2
  simp only [F_X0_middle, chk_true, bnd_some, ob_some, oc_some, oc_none, hl_eq, jn_eq, ix_0, ix_1, if_true, if_false, inb0_2, inb1_2, not_true_eq_false, not_false_eq_true, ite_true, ite_false, true_or, or_true, or_self, zero_eq_one_I, one_eq_zero_I, xs_k0, xs_k1, xs_n1, xs_k2, xs_k3, xs_k4, xs_k5, xs_k6, xs_k7, xs_k8, xs_k9, xs_k10, xs_k11, xs_n11, xs_k12, xs_n12, xs_k13, xs_n13, xs_k14, xs_n14, xs_k15, xs_n15, xs_k16, xs_n16, xs_k17, xs_n17, xs_k18, xs_n18, xs_k27, xs_n27, xs_k28, xs_n28, xs_r0_0, xs_r0_1, xs_r2_8, xs_r2_9, xs_r0_2, xs_r0_3, xs_r0_4, xs_r0_8, xs_r0_9, xs_r0_10, xs_r0_18, xs_r0_19, xs_r0_20, xs_r0_21, xs_r0_22, xs_r0_25, xs_r0_26, xs_r0_27, xs_r0_28, H, k0, q1, l_size l6, x_in, bI_0, middleS]
  by_cases c1 : v = -1
  · simp only [c1, chk_true, bnd_some, ob_some, oc_some, oc_none, hl_eq, jn_eq, ix_0, ix_1, if_true, if_false, inb0_2, inb1_2, not_true_eq_false, not_false_eq_true, ite_true, ite_false, true_or, or_true, or_self, zero_eq_one_I, one_eq_zero_I]
  · simp only [c1, chk_true, bnd_some, ob_some, oc_some, oc_none, hl_eq, jn_eq, ix_0, ix_1, if_true, if_false, inb0_2, inb1_2, not_true_eq_false, not_false_eq_true, ite_true, ite_false, true_or, or_true, or_self, zero_eq_one_I, one_eq_zero_I]
    cases c2 : inS v 0 (nI (middlesS Z.S).1 - 1)
    · simp
    · obtain ⟨k, hk, rfl⟩ := (inS_nI (by omega)).1 c2
      obtain ⟨g1, g2, g3, g4⟩ := z2 k hk
      have e1 : ix (nI k) = k := ix_nI (by omega)
      simp only [chk_true, bnd_some, ob_some, oc_some, oc_none, hl_eq, jn_eq, ix_0, ix_1, if_true, if_false, inb0_2, inb1_2, not_true_eq_false, not_false_eq_true, ite_true, ite_false, true_or, or_true, or_self, zero_eq_one_I, one_eq_zero_I, xs_k0, xs_k1, xs_n1, xs_k2, xs_k3, xs_k4, xs_k5, xs_k6, xs_k7, xs_k8, xs_k9, xs_k10, xs_k11, xs_n11, xs_k12, xs_n12, xs_k13, xs_n13, xs_k14, xs_n14, xs_k15, xs_n15, xs_k16, xs_n16, xs_k17, xs_n17, xs_k18, xs_n18, xs_k27, xs_n27, xs_k28, xs_n28, xs_r0_0, xs_r0_1, xs_r2_8, xs_r2_9, xs_r0_2, xs_r0_3, xs_r0_4, xs_r0_8, xs_r0_9, xs_r0_10, xs_r0_18, xs_r0_19, xs_r0_20, xs_r0_21, xs_r0_22, xs_r0_25, xs_r0_26, xs_r0_27, xs_r0_28, H, l_get l6 hk, g1, g2, g3, g4, l_toI, Bool.true_eq_false, e1]
      cases c3 : inS w 0 2
      · simp
      · unfold cp3
        by_cases w0 : w = 0
        · simp [w0]
        · by_cases w1 : w = 1
          · simp [w1]
          · simp [w0, w1]
def proofS (S : St) (w : Int32) : Int32 := if inS w 0 2 = true then prS S (ix w) else -1
theorem pr_m1 {S : St} (B : Bd S) (h : prS S 0 = -1) (w : Nat) : prS S w = -1 := by
  unfold prS at *
  split at h
  · rename_i c
    rw [if_pos c]
    cases hi : prI S with
    | none => rfl
    | some i =>
      rw [hi] at h
      have hi' := (findS_some hi).2.2.1
      cases hj : prJ S i with
      | none => rw [hj] at hi'; cases hi'
      | some j =>
        have hj' := (findS_some hj).2.2.1
        cases hk : prK S i j with
        | none => rw [hk] at hj'; cases hj'
        | some k =>
          exfalso
          have h2 : selS (prJ S i) (fun j => selS (prK S i j) (fun k => if 0 = 0 then nI i else if 0 = 1 then nI j else nI k) (-1)) (-1) = (-1 : Int32) := h
          rw [hj] at h2
          have h3 : selS (prK S i j) (fun k => if 0 = 0 then nI i else if 0 = 1 then nI j else nI k) (-1) = (-1 : Int32) := h2
          rw [hk] at h3
          have h4 : nI i = -1 := h3
          have hb := (findS_some hi).2.1
          exact nI_n1 (by have := (lines_ok B).2; omega) h4
  · rename_i c
    rw [if_neg c]
theorem ox_proof {n : Nat} {K : Nat → Nat} {x : Nat} {h : AH} {Z : Zt} (hn : 20000 < n) (bz : Bz Z) (I : InvX K x h Z) (w : Int32) : XOk K x 16620 77900 Z (proofS Z.S w) (F_X0_proof n K x w h) h := by
  obtain ⟨e0, c0, E0, b, I0⟩ := I
  have k0 := xs_k0 I0.2.2.2.2.1.1
  obtain ⟨e, c, E, h1, q1, I1, q3, q4⟩ := x_findMiddles hn bz.1 I0
  refine ⟨h1, ?_, ⟨e, c, E, b, I1⟩, q4⟩
  obtain ⟨C, _, iM, _⟩ := XC_in I1
  have H := C.2.2.2.2.1.1
  have k11 := xs_k11 H
  have n11 := xs_n11 H
  obtain ⟨b0, b1, b2⟩ := inb_3
  have iM' : h1.I (x + 11) 0 = prS Z.S 0 ∧ (prS Z.S 0 ≠ -1 → h1.I (x + 11) 1 = prS Z.S 1 ∧ h1.I (x + 11) 2 = prS Z.S 2) := by
    rcases iM with z | z
    · rw [z] at q3; exact absurd q3 (by decide)
    · exact z.2.2.2.2
  obtain ⟨p0, p12⟩ := iM'
  have j2 : ix (2 : Int32) = 2 := by decide
  simp only [F_X0_proof, chk_true, bnd_some, ob_some, oc_some, oc_none, hl_eq, jn_eq, ix_0, ix_1, if_true, if_false, inb0_2, inb1_2, not_true_eq_false, not_false_eq_true, ite_true, ite_false, true_or, or_true, or_self, zero_eq_one_I, one_eq_zero_I, xs_k0, xs_k1, xs_n1, xs_k2, xs_k3, xs_k4, xs_k5, xs_k6, xs_k7, xs_k8, xs_k9, xs_k10, xs_k11, xs_n11, xs_k12, xs_n12, xs_k13, xs_n13, xs_k14, xs_n14, xs_k15, xs_n15, xs_k16, xs_n16, xs_k17, xs_n17, xs_k18, xs_n18, xs_k27, xs_n27, xs_k28, xs_n28, xs_r0_0, xs_r0_1, xs_r2_8, xs_r2_9, xs_r0_2, xs_r0_3, xs_r0_4, xs_r0_8, xs_r0_9, xs_r0_10, xs_r0_18, xs_r0_19, xs_r0_20, xs_r0_21, xs_r0_22, xs_r0_25, xs_r0_26, xs_r0_27, xs_r0_28, H, k0, q1, x_in, bI_0, proofS, n11, b0, p0]
  cases c3 : inS w 0 2
  · simp
  · simp only [Bool.true_eq_false, chk_true, bnd_some, ob_some, oc_some, oc_none, hl_eq, jn_eq, ix_0, ix_1, if_true, if_false, inb0_2, inb1_2, not_true_eq_false, not_false_eq_true, ite_true, ite_false, true_or, or_true, or_self, zero_eq_one_I, one_eq_zero_I]
    by_cases cm : prS Z.S 0 = -1
    · simp only [cm, chk_true, bnd_some, ob_some, oc_some, oc_none, hl_eq, jn_eq, ix_0, ix_1, if_true, if_false, inb0_2, inb1_2, not_true_eq_false, not_false_eq_true, ite_true, ite_false, true_or, or_true, or_self, zero_eq_one_I, one_eq_zero_I, pr_m1 bz.1 cm]
    · obtain ⟨p1, p2⟩ := p12 cm
      have cm' := eq_false cm
      simp only [cm', chk_true, bnd_some, ob_some, oc_some, oc_none, hl_eq, jn_eq, ix_0, ix_1, if_true, if_false, inb0_2, inb1_2, not_true_eq_false, not_false_eq_true, ite_true, ite_false, true_or, or_true, or_self, zero_eq_one_I, one_eq_zero_I]
      rcases (in02 w).1 c3 with rfl | rfl | rfl
      · simp only [b0, chk_true, bnd_some, ob_some, oc_some, oc_none, hl_eq, jn_eq, ix_0, ix_1, if_true, if_false, inb0_2, inb1_2, not_true_eq_false, not_false_eq_true, ite_true, ite_false, true_or, or_true, or_self, zero_eq_one_I, one_eq_zero_I, p0]
      · simp only [b1, chk_true, bnd_some, ob_some, oc_some, oc_none, hl_eq, jn_eq, ix_0, ix_1, if_true, if_false, inb0_2, inb1_2, not_true_eq_false, not_false_eq_true, ite_true, ite_false, true_or, or_true, or_self, zero_eq_one_I, one_eq_zero_I, p1]
      · simp only [b2, chk_true, bnd_some, ob_some, oc_some, oc_none, hl_eq, jn_eq, ix_0, ix_1, if_true, if_false, inb0_2, inb1_2, not_true_eq_false, not_false_eq_true, ite_true, ite_false, true_or, or_true, or_self, zero_eq_one_I, one_eq_zero_I, j2, p2]
