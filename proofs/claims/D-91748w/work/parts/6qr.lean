/-! PURE PART QR: propose -/
set_option maxRecDepth 100000
theorem spec_congr {S S' : St} (e : S'.1 = S.1) : linesS S' = linesS S ∧ middlesS S' = middlesS S ∧ (∀ w, prS S' w = prS S w) ∧ rdS S' = rdS S := by
  obtain ⟨p, q⟩ := S
  obtain ⟨p', q'⟩ := S'
  have e' : p' = p := e
  subst e'
  have a1 : ∀ t w k, sideW (p', q') t w k = sideW (p', q) t w k := by
    intro t w k
    induction k with
    | zero => rfl
    | succ k ih => rw [sideW, sideW, ih]; rfl
  have a2 : halvS (p', q') = halvS (p', q) := funext fun t => by
    unfold halvS
    rw [a1, a1]
    rfl
  have a3 : lnStep (p', q') = lnStep (p', q) := funext fun i => funext fun j => funext fun l => by
    unfold lnStep
    rw [a2]
    rfl
  have hl : linesS (p', q') = linesS (p', q) := by
    unfold linesS
    rw [a3]
    rfl
  have a4 : ∀ t k w u, arW (p', q') t k w u = arW (p', q) t k w u := by
    intro t k w u
    induction u with
    | zero => rfl
    | succ u ih => rw [arW, arW, ih]; rfl
  have a5 : midP (p', q') = midP (p', q) := funext fun t => funext fun k => by
    unfold midP
    simp only [a4]
    rfl
  have a6 : midS (p', q') = midS (p', q) := funext fun t => by
    unfold midS
    rw [a5]
    rfl
  have a7 : comeS (p', q') = comeS (p', q) := funext fun t => funext fun l => by
    unfold comeS
    rw [a6]
  have hm : middlesS (p', q') = middlesS (p', q) := by
    unfold middlesS
    rw [a7, hl]
    rfl
  refine ⟨hl, hm, fun w => ?_, ?_⟩
  · have h3 : ∀ i j, prK (p', q') i j = prK (p', q) i j := fun i j => by unfold prK; rw [hl]
    have h4 : ∀ i, prJ (p', q') i = prJ (p', q) i := fun i => by
      have : (fun j => (prK (p', q') i j).isSome) = fun j => (prK (p', q) i j).isSome := funext fun j => by rw [h3]
      unfold prJ; rw [this, hl]
    have h5 : prI (p', q') = prI (p', q) := by
      have : (fun i => (prJ (p', q') i).isSome) = fun i => (prJ (p', q) i).isSome := funext fun j => by rw [h4]
      unfold prI; rw [this, hl]
    unfold prS
    rw [hm, h5]
    simp only [h3, h4]
  · have h6 : l64 (p', q') = l64 (p', q) := funext fun k => by unfold l64; rw [hl]
    have h7 : farG (p', q') = farG (p', q) := by unfold farG; rw [h6]
    have h8 : farS (p', q') = farS (p', q) := funext fun k => by unfold farS; rw [h7, hl]
    have h9 : rdG (p', q') = rdG (p', q) := by unfold rdG; rw [h8]
    unfold rdS
    rw [h8, h9]
def St.addP (S : St) (a b : Int32) : St := (S.1, (S.2.1.1 + 1, fun p j => if p = S.2.1.1 then (if j = 0 then a else b) else S.2.1.2 p j), S.2.2)
def proOk (S : St) (a b : Int32) : Bool := !decide (S.nv = 0) && ptS a b && !decide (S.np = 20)
def proS (Z : Zt) (a b : Int32) : Int32 := if proOk Z.S a b = true then nI Z.S.np else -1
def proZ (Z : Zt) (a b : Int32) : Zt := if proOk Z.S a b = true then (Z.S.addP a b, Z.2) else Z
theorem Bz_pro {Z : Zt} (bz : Bz Z) (a b : Int32) : Bz (proZ Z a b) := by
  unfold proZ
  cases hp : proOk Z.S a b
  · rw [if_neg (by decide)]; exact bz
  · rw [if_pos rfl]
    unfold proOk at hp
    simp only [Bool.and_eq_true, Bool.not_eq_true', decide_eq_false_iff_not] at hp
    obtain ⟨⟨h1, h2⟩, h3⟩ := hp
    obtain ⟨⟨b1, b2, b3, b4, b5⟩, b6, b7, b8⟩ := bz
    refine ⟨⟨b1, fun p hp => ?_, b3, b4, ?_⟩, b6, b7, b8⟩
    · have hp' : p < Z.S.np + 1 := hp
      by_cases c : p = Z.S.np
      · obtain ⟨i, j, hi, hj, rfl, rfl⟩ := pt_iff.1 h2
        exact ⟨i, j, hi, hj, if_pos c, if_pos c⟩
      · obtain ⟨i, j, hi, hj, e1, e2⟩ := b2 p (by omega)
        exact ⟨i, j, hi, hj, (if_neg c).trans e1, (if_neg c).trans e2⟩
    · show Z.S.np + 1 ≤ 20
      omega
theorem ox_propose {n : Nat} {K : Nat → Nat} {x : Nat} {h : AH} {Z : Zt} (hn : 20000 < n) (bz : Bz Z) (I : InvX K x h Z) (a b : Int32) : XOk K x 2 60 (proZ Z a b) (proS Z a b) (F_X0_propose n K x a b h) h := by
  have I0 := I
  obtain ⟨e, c, E, bb, i1, MS, i3, i4, X, i6, i7, i8, i9, i10, i11, i12, i13, i14⟩ := I0
  have h20 := xnp hn X
  have H := X.1
  have k0 := xs_k0 H
  have k1 := xs_k1 H
  have k11 := xs_k11 H
  have e20 : (nI Z.S.np = 20) = (Z.S.np = 20) := propext (nI_eq (b := 20) (by omega) (by omega))
  unfold proZ proS
  cases hp : proOk Z.S a b
  · rw [if_neg (by decide), if_neg (by decide)]
    have : XOk K x 0 0 Z (-1) (F_X0_propose n K x a b h) h := by
      refine xok_same I ?_
      simp only [F_X0_propose, chk_true, bnd_some, ob_some, oc_some, oc_none, hl_eq, jn_eq, ix_0, ix_1, if_true, if_false, inb0_2, inb1_2, not_true_eq_false, not_false_eq_true, ite_true, ite_false, true_or, or_true, or_self, zero_eq_one_I, one_eq_zero_I, xs_k0, xs_k1, xs_n1, xs_k2, xs_k3, xs_k4, xs_k5, xs_k6, xs_k7, xs_k8, xs_k9, xs_k10, xs_k11, xs_n11, xs_k12, xs_n12, xs_k13, xs_n13, xs_k14, xs_n14, xs_k15, xs_n15, xs_k16, xs_n16, xs_k17, xs_n17, xs_k18, xs_n18, xs_k27, xs_n27, xs_k28, xs_n28, xs_r0_0, xs_r0_1, xs_r2_8, xs_r2_9, xs_r0_2, xs_r0_3, xs_r0_4, xs_r0_8, xs_r0_9, xs_r0_10, xs_r0_18, xs_r0_19, xs_r0_20, xs_r0_21, xs_r0_22, xs_r0_25, xs_r0_26, xs_r0_27, xs_r0_28, X.1, x_vempty hn X, bI_0, x_isPoint, x_psize hn X, e20]
      unfold proOk at hp
      by_cases c1 : Z.S.nv = 0
      · simp [c1]
      · cases c2 : ptS a b
        · simp [c1]
        · by_cases c3 : Z.S.np = 20
          · simp [c1, c3]
          · simp [c1, c2, c3] at hp
    obtain ⟨h1, t1, t2, t3⟩ := this
    exact ⟨h1, t1, t2, Fr_mono t3 (by omega) (by omega) (fun _ _ _ z => z)⟩
  · rw [if_pos rfl, if_pos rfl]
    unfold proOk at hp
    simp only [Bool.and_eq_true, Bool.not_eq_true', decide_eq_false_iff_not] at hp
    obtain ⟨⟨c1, c2⟩, c3⟩ := hp
    -- the new place
    have hn0 := i1 h.n (Nat.le_refl _)
    have FA : Fr 1 2 (fun _ _ => False) h (((h.new 11 0 2).setI h.n 0 a).setI h.n 1 b) := by
      have F1 := Fr_new (W := fun _ _ => False) i1 11 0 2
      have F2 := Fr_trans (W := fun _ _ => False) F1 (Fr_setI (W := fun b _ => b = h.n) _ h.n 0 a (fun _ => rfl)) (fun _ _ _ z => z) (fun b j hb z => absurd (show h.kind b = 0 by rw [show b = h.n from z]; exact hn0) hb)
      have F3 := Fr_trans (W := fun _ _ => False) F2 (Fr_setI (W := fun b _ => b = h.n) _ h.n 1 b (fun _ => rfl)) (fun _ _ _ z => z) (fun b j hb z => absurd (show h.kind b = 0 by rw [show b = h.n from z]; exact hn0) hb)
      exact Fr_mono F3 (by omega) (by omega) (fun _ _ _ z => z)
    generalize hA : ((h.new 11 0 2).setI h.n 0 a).setI h.n 1 b = g at FA
    have kn : g.kind h.n = 11 := by rw [← hA]; show (h.new 11 0 2).kind h.n = 11; rw [AH.kind_new, if_pos rfl]
    have n0 : g.I h.n 0 = a := by rw [← hA, AH.I_setI, if_neg (by omega), AH.I_setI, if_pos ⟨rfl, rfl⟩]
    have n1 : g.I h.n 1 = b := by rw [← hA, AH.I_setI, if_pos ⟨rfl, rfl⟩]
    have LA : LL K g x e c E := LL_fr i3 FA (fun _ _ _ _ z => z) (fun _ _ _ _ z => z)
    obtain ⟨e', h', q1, q2, q3⟩ := LL_add (n := n) (FA.1 i1) LA (i := 3) (by omega) (by rw [i7]; omega) (a := h.n) (by omega)
    have F := Fr_trans (W := fun b j => b = x + 6 ∨ (b = e 3 ∧ j = c 3 ∧ g.kind (e 3) = 34)) FA q3 (fun _ _ _ z => z.elim) (fun _ _ _ z => z)
    have ne : ∀ d j, h.kind d ≠ 3 → h.kind d ≠ 34 → h.kind d ≠ 0 → ¬ (d = x + 6 ∨ (d = e 3 ∧ j = c 3 ∧ g.kind (e 3) = 34)) := by
      rintro d j h1 h2 h3 (z | ⟨z, _, z2⟩)
      · rw [z] at h1; exact h1 (i3.1 3 (by omega)).1.1
      · rw [z] at h1 h2 h3
        rw [(FA.2.2.2.2.2 (e 3) h3).1] at z2
        exact h2 z2
    have l3 : Ls K h' (x + 6) e' (c 3 + 1) (up1 (E 3) (c 3) h.n) := (q2.1 3 (by omega)).1
    refine ⟨h', ?_, ⟨up1 e 3 e', up1 c 3 (c 3 + 1), up1 E 3 (up1 (E 3) (c 3) h.n), bb, ?_⟩, ?_⟩
    · have gx : g.kind (x + 6) = 3 := (LA.1 3 (by omega)).1.1
      have hx' : h'.kind x = 1 := by rw [(F.2.2.2.2.2 x (by omega)).1]; exact k0
      have hx6 : h'.R x 3 = some (x + 6) := by
        rw [((F.2.2.2.2.2 x (by omega)).2.2 3 (ne x 3 (by omega) (by omega) (by omega))).2.2]
        exact H.2.2 (0, 3, 6) (by decide)
      have kx6 : h'.kind (x + 6) = 3 := l3.1
      have k6' : (h.new 11 0 2).kind h.n = 11 := by rw [AH.kind_new, if_pos rfl]
      have l3' := l_size (n := n) l3
      have q1' : F_J2_add n K (x + 6) (some h.n) g = some (1, h') := q1
      simp only [F_X0_propose, F_X10_init, chk_true, bnd_some, ob_some, oc_some, oc_none, hl_eq, jn_eq, ix_0, ix_1, if_true, if_false, inb0_2, inb1_2, not_true_eq_false, not_false_eq_true, ite_true, ite_false, true_or, or_true, or_self, zero_eq_one_I, one_eq_zero_I, AH.n_setI, AH.n_setL, AH.n_setR, AH.sl_setI, AH.sl_setL, AH.sl_setR, AH.kind_setI, AH.kind_setL, AH.kind_setR, AH.len_setI, AH.len_setL, AH.len_setR, AH.I_setL, AH.I_setR, AH.L_setI, AH.L_setR, AH.R_setI, AH.R_setL, xs_k0, xs_k1, xs_n1, xs_k2, xs_k3, xs_k4, xs_k5, xs_k6, xs_k7, xs_k8, xs_k9, xs_k10, xs_k11, xs_n11, xs_k12, xs_n12, xs_k13, xs_n13, xs_k14, xs_n14, xs_k15, xs_n15, xs_k16, xs_n16, xs_k17, xs_n17, xs_k18, xs_n18, xs_k27, xs_n27, xs_k28, xs_n28, xs_r0_0, xs_r0_1, xs_r2_8, xs_r2_9, xs_r0_2, xs_r0_3, xs_r0_4, xs_r0_8, xs_r0_9, xs_r0_10, xs_r0_18, xs_r0_19, xs_r0_20, xs_r0_21, xs_r0_22, xs_r0_25, xs_r0_26, xs_r0_27, xs_r0_28, X.1, x_vempty hn X, bI_0, x_isPoint, x_psize hn X, e20, c1, c2, c3, decide_false, Bool.true_eq_false, k6', hA, gx, q1', hx', hx6, kx6, l3', i7, nI_pred]
    · refine ⟨Fr_wf F i1, ?_, q2, ?_, ⟨?_, ?_, ?_, ?_⟩, ?_, ?_, ?_, ?_, ?_, ?_, ?_, ?_, ?_⟩
      · refine MSh_fr MS F (fun p hp => ?_)
        have h1 : ∀ p, p ∈ mRs → p.1 < 94 := by decide
        have := mKs_kind MS (a := x + 29 + p.1) ⟨by omega, by have := h1 p hp; omega⟩
        exact ne _ _ (by omega) (by omega) (by omega)
      · intro i hi
        unfold up1
        by_cases z : i = 3
        · rw [if_pos z, i7]; omega
        · rw [if_neg z]; exact i4 i hi
      · refine XSh_fr H F (fun p hp => ?_)
        have h1 : ∀ p, p ∈ xRs → p.1 < 29 ∧ xKs.getD p.1 0 ≠ 3 ∧ xKs.getD p.1 0 ≠ 34 ∧ xKs.getD p.1 0 ≠ 0 := by decide
        have h2 := h1 p hp
        have h3 := H.1 p.1 h2.1
        exact ne _ _ (by rw [h3]; exact h2.2.1) (by rw [h3]; exact h2.2.2.1) (by rw [h3]; exact h2.2.2.2)
      · have hv := X.2.1
        have le2 : Ls K h' (x + 5) (e 2) (c 2) (E 2) := (q2.1 2 (by omega)).1
        rw [i6] at le2
        refine ⟨le2, hv.2.1, fun v hv' => ?_⟩
        have gg := hv.2.2 v hv'
        obtain ⟨f1, f2, f3⟩ := F.2.2.2.2.2 (E 2 v) (by omega)
        have f4 : ∀ j, h'.I (E 2 v) j = h.I (E 2 v) j := fun j => (f3 j (ne _ j (by omega) (by omega) (by omega))).1
        show (7 ≤ h'.kind (E 2 v) ∧ h'.kind (E 2 v) ≤ 10) ∧ Z.S.V v 3 = nI (h'.kind (E 2 v) - 7) ∧ h'.I (E 2 v) 3 = Z.S.V v 0 ∧ h'.I (E 2 v) 4 = Z.S.V v 1 ∧ h'.I (E 2 v) 0 = Z.S.V v 2 ∧ h'.I (E 2 v) 1 = Z.S.V v 4 ∧ h'.I (E 2 v) 2 = Z.S.V v 5
        rw [f1]
        simp only [f4]
        exact gg
      · have l3b := l3
        rw [i7] at l3b
        refine ⟨by show Ls K h' (x + 6) e' (Z.S.np + 1) (up1 (E 3) (c 3) h.n); rw [← i7]; exact l3, by show Z.S.np + 1 ≤ 20; omega, fun p hp => ?_⟩
        have hp' : p < Z.S.np + 1 := hp
        show h'.kind (up1 (E 3) (c 3) h.n p) = 11 ∧ h'.I (up1 (E 3) (c 3) h.n p) 0 = (if p = Z.S.np then (if (0 : Nat) = 0 then a else b) else Z.S.P p 0) ∧ h'.I (up1 (E 3) (c 3) h.n p) 1 = (if p = Z.S.np then (if (1 : Nat) = 0 then a else b) else Z.S.P p 1)
        unfold up1
        by_cases z : p = Z.S.np
        · have z2 : p = c 3 := by rw [i7]; exact z
          obtain ⟨f1, f2, f3⟩ := q3.2.2.2.2.2 h.n (by omega)
          have nw : ∀ j, ¬ (h.n = x + 6 ∨ (h.n = e 3 ∧ j = c 3 ∧ g.kind (e 3) = 34)) := by
            rintro j (w | ⟨w, _, w2⟩)
            · have := (i3.1 3 (by omega)).1.1
              have w' : h.n = x + loL 3 := w
              rw [← w'] at this; omega
            · rw [← w] at w2; omega
          rw [if_pos z2, if_pos z, if_pos z, f1, (f3 0 (nw 0)).1, (f3 1 (nw 1)).1]
          exact ⟨kn, n0, n1⟩
        · have z2 : ¬ p = c 3 := by rw [i7]; exact z
          have gg := X.2.2.1.2.2 p (by omega)
          obtain ⟨f1, f2, f3⟩ := F.2.2.2.2.2 (E 3 p) (by omega)
          rw [if_neg z2, if_neg z, if_neg z, f1, (f3 0 (ne _ 0 (by omega) (by omega) (by omega))).1, (f3 1 (ne _ 1 (by omega) (by omega) (by omega))).1]
          exact gg
      · have hb := X.2.2.2
        exact XB_fr hb F (by omega) (ne x 5 (by omega) (by omega) (by omega)) (ne x 7 (by omega) (by omega) (by omega)) (fun j => ne _ j (by have := hb.2.1; omega) (by have := hb.2.1; omega) (by have := hb.2.1; omega))
      · exact i6
      · show up1 c 3 (c 3 + 1) 3 = Z.S.np + 1
        rw [← i7]; exact if_pos rfl
      · exact i8
      · exact i9
      · exact show XMo h' Z.nm (E 4) Z.Mo from XMo_fr i10 F (fun v hv j => ne _ j (by have := (i10 v hv).1; omega) (by have := (i10 v hv).1; omega) (by have := (i10 v hv).1; omega))
      · exact XTx_fr i11 F (by omega) (by omega) (ne x 6 (by omega) (by omega) (by omega)) (fun j => ne _ j (by omega) (by omega) (by omega))
      · have t := XCl_fr i12 F (by omega) (ne x 11 (by omega) (by omega) (by omega)) (fun v hv j => by
          have := (i3.1 5 (by omega)).2.2 v hv
          exact ne _ j (by omega) (by omega) (by omega))
        show XCl x h' (up1 c 3 (c 3 + 1)) (up1 E 3 (up1 (E 3) (c 3) h.n)) (Z.S.addP a b)
        unfold XCl at t ⊢
        rw [(spec_congr (S := Z.S) (S' := Z.S.addP a b) rfl).1]
        exact t
      · have t := XCm_fr i13 F (by omega) (by omega) (ne x 11 (by omega) (by omega) (by omega)) (ne x 12 (by omega) (by omega) (by omega)) (fun v hv j => by
          have := (i3.1 6 (by omega)).2.2 v hv
          exact ne _ j (by omega) (by omega) (by omega)) (fun j => ne _ j (by omega) (by omega) (by omega))
        show XCm x h' (up1 c 3 (c 3 + 1)) (up1 E 3 (up1 (E 3) (c 3) h.n)) (Z.S.addP a b)
        unfold XCm at t ⊢
        obtain ⟨s1, s2, s3, s4⟩ := spec_congr (S := Z.S) (S' := Z.S.addP a b) rfl
        rw [s2, s3, s3, s3]
        exact t
      · have t := XCr_fr i14 F (by omega) (fun j _ _ => ne x j (by omega) (by omega) (by omega))
        show XCr x h' (Z.S.addP a b)
        unfold XCr at t ⊢
        rw [(spec_congr (S := Z.S) (S' := Z.S.addP a b) rfl).2.2.2]
        exact t
    · refine Fr_mono F (by omega) (by rw [i7]; omega) (fun d j hd z w => ?_)
      have := mKs_kind MS w
      exact ne d j (by omega) (by omega) (by omega) z
/-- only cells of voters, places, bars are other -/
theorem InvM_va {m : Nat} {h h' : AH} {Z : Zt} {S' : St} (I : InvM m h Z) (bz : Z.nm ≤ 40) (hL : h'.L = h.L) (hI : ∀ i, i = 0 ∨ i = 1 ∨ 31 ≤ i → i < 94 → h'.I (m + i) = h.I (m + i)) (MA' : MA m h' S') (e : S'.1 = Z.S.1) : InvM m h' (S', Z.2) := by
  obtain ⟨M, m2, m3, m4⟩ := I
  have r0 := hI 0 (by omega) (by omega)
  have r0' : h'.I m = h.I m := r0
  refine ⟨MA', ⟨?_, ?_⟩, ⟨?_, ?_⟩, ?_⟩
  · rw [r0']; exact m2.1
  · intro k hk j hj
    have hk' : k < Z.nm := hk
    rw [show m + 54 + k = m + (54 + k) by omega, hI (54 + k) (by omega) (by omega), show m + (54 + k) = m + 54 + k by omega]
    exact m2.2 k hk j hj
  · rw [r0']; exact m3.1
  · intro j hj; rw [hI 1 (by omega) (by omega)]; exact m3.2 j hj
  · show MCa m h' S'
    unfold MCa M3I M3L
    obtain ⟨s1, s2, _, _⟩ := spec_congr (S := Z.S) (S' := S') e
    rw [s1, s2, r0', hL, hI 32 (by omega) (by omega), hI 33 (by omega) (by omega), hI 34 (by omega) (by omega)]
    exact m4
theorem om_propose {n : Nat} {K : Nat → Nat} {m : Nat} {h : AH} {Z : Zt} (hn : 20000 < n) (bz : Bz Z) (I : InvM m h Z) (a b : Int32) : MOk m (proZ Z a b) (proS Z a b) (F_X3_propose n K m a b h) h := by
  have M := I.1
  have h20 := mnp hn M
  have e20 : (nI Z.S.np = 20) = (Z.S.np = 20) := propext (nI_eq (b := 20) (by omega) (by omega))
  unfold proZ proS
  cases hp : proOk Z.S a b
  · rw [if_neg (by decide), if_neg (by decide)]
    refine mok_same bz I ?_
    simp only [F_X3_propose, chk_true, bnd_some, ob_some, oc_some, oc_none, hl_eq, jn_eq, ix_0, ix_1, if_true, if_false, inb0_2, inb1_2, not_true_eq_false, not_false_eq_true, ite_true, ite_false, true_or, or_true, or_self, zero_eq_one_I, one_eq_zero_I, ms_k0, ms_k1, ms_n1, ms_k2, ms_n2, ms_k3, ms_n3, ms_k4, ms_n4, ms_k5, ms_n5, ms_k6, ms_n6, ms_k7, ms_n7, ms_k8, ms_n8, ms_k9, ms_n9, ms_k10, ms_n10, ms_k11, ms_n11, ms_k12, ms_n12, ms_k13, ms_n13, ms_k14, ms_n14, ms_k15, ms_n15, ms_k16, ms_n16, ms_k17, ms_n17, ms_k18, ms_n18, ms_k19, ms_n19, ms_k20, ms_n20, ms_k21, ms_n21, ms_k22, ms_n22, ms_k23, ms_n23, ms_k24, ms_n24, ms_k25, ms_n25, ms_k26, ms_n26, ms_k27, ms_n27, ms_k28, ms_n28, ms_k29, ms_n29, ms_k30, ms_n30, ms_k31, ms_n31, ms_k32, ms_n32, ms_k33, ms_n33, ms_k34, ms_n34, ms_k35, ms_n35, ms_k36, ms_n36, ms_k37, ms_n37, ms_k38, ms_n38, ms_k39, ms_n39, ms_k40, ms_n40, ms_k41, ms_n41, ms_k50, ms_n50, ms_k51, ms_n51, ms_k52, ms_n52, ms_k53, ms_n53, ms_r0_0, ms_r0_6, ms_r2_0, ms_r2_1, ms_r0_7, ms_r5_0, ms_r5_1, ms_r0_8, ms_r8_0, ms_r8_1, ms_r0_9, ms_r11_0, ms_r11_1, ms_r0_10, ms_r14_0, ms_r14_1, ms_r0_11, ms_r17_0, ms_r17_1, ms_r0_12, ms_r20_0, ms_r20_1, ms_r0_13, ms_r23_0, ms_r23_1, ms_r0_14, ms_r0_15, ms_r0_16, ms_r0_17, ms_r0_18, ms_r0_23, ms_r0_24, ms_r0_25, ms_r0_26, ms_r0_30, ms_r0_31, ms_r0_32, ms_r0_35, ms_r0_36, ms_r0_39, ms_r0_40, ms_r0_41, ms_r0_42, ms_r0_43, ms_r0_47, M.1, m_votersA hn M, m_nv0 hn M, bI_0, m_isPoint, m_placesA hn M, e20]
    unfold proOk at hp
    by_cases c1 : Z.S.nv = 0
    · simp [c1]
    · cases c2 : ptS a b
      · simp [c1]
      · by_cases c3 : Z.S.np = 20
        · simp [c1, c3]
        · simp [c1, c2, c3] at hp
  · rw [if_pos rfl, if_pos rfl]
    unfold proOk at hp
    simp only [Bool.and_eq_true, Bool.not_eq_true', decide_eq_false_iff_not] at hp
    obtain ⟨⟨c1, c2⟩, c3⟩ := hp
    have e1 : ix (nI Z.S.np) = Z.S.np := ix_nI (by omega)
    have e2 : inb (nI Z.S.np) 20 = True := eq_true ((inb_nI (by omega)).2 (by omega))
    have rI : ∀ i, i ≠ 21 → i ≠ 24 → i ≠ 27 → (((h.setI (m + 21) Z.S.np a).setI (m + 24) Z.S.np b).setI (m + 27) 0 (nI (Z.S.np + 1))).I (m + i) = h.I (m + i) := by
      intro i i1 i2 i3
      funext j
      rw [AH.I_setI, if_neg (by omega), AH.I_setI, if_neg (by omega), AH.I_setI, if_neg (by omega)]
    have p1 : F_X3_places n K m (h.setI (m + 21) Z.S.np a) = some (nI Z.S.np, h.setI (m + 21) Z.S.np a) := by
      have t : (h.setI (m + 21) Z.S.np a).I (m + 27) 0 = nI Z.S.np := by rw [AH.I_setI, if_neg (by omega)]; exact M.2.2.1.1
      simp only [F_X3_places, chk_true, bnd_some, ob_some, oc_some, oc_none, hl_eq, jn_eq, ix_0, ix_1, if_true, if_false, inb0_2, inb1_2, not_true_eq_false, not_false_eq_true, ite_true, ite_false, true_or, or_true, or_self, zero_eq_one_I, one_eq_zero_I, AH.n_setI, AH.n_setL, AH.n_setR, AH.sl_setI, AH.sl_setL, AH.sl_setR, AH.kind_setI, AH.kind_setL, AH.kind_setR, AH.len_setI, AH.len_setL, AH.len_setR, AH.I_setL, AH.I_setR, AH.L_setI, AH.L_setR, AH.R_setI, AH.R_setL, ms_k0, ms_k1, ms_n1, ms_k2, ms_n2, ms_k3, ms_n3, ms_k4, ms_n4, ms_k5, ms_n5, ms_k6, ms_n6, ms_k7, ms_n7, ms_k8, ms_n8, ms_k9, ms_n9, ms_k10, ms_n10, ms_k11, ms_n11, ms_k12, ms_n12, ms_k13, ms_n13, ms_k14, ms_n14, ms_k15, ms_n15, ms_k16, ms_n16, ms_k17, ms_n17, ms_k18, ms_n18, ms_k19, ms_n19, ms_k20, ms_n20, ms_k21, ms_n21, ms_k22, ms_n22, ms_k23, ms_n23, ms_k24, ms_n24, ms_k25, ms_n25, ms_k26, ms_n26, ms_k27, ms_n27, ms_k28, ms_n28, ms_k29, ms_n29, ms_k30, ms_n30, ms_k31, ms_n31, ms_k32, ms_n32, ms_k33, ms_n33, ms_k34, ms_n34, ms_k35, ms_n35, ms_k36, ms_n36, ms_k37, ms_n37, ms_k38, ms_n38, ms_k39, ms_n39, ms_k40, ms_n40, ms_k41, ms_n41, ms_k50, ms_n50, ms_k51, ms_n51, ms_k52, ms_n52, ms_k53, ms_n53, ms_r0_0, ms_r0_6, ms_r2_0, ms_r2_1, ms_r0_7, ms_r5_0, ms_r5_1, ms_r0_8, ms_r8_0, ms_r8_1, ms_r0_9, ms_r11_0, ms_r11_1, ms_r0_10, ms_r14_0, ms_r14_1, ms_r0_11, ms_r17_0, ms_r17_1, ms_r0_12, ms_r20_0, ms_r20_1, ms_r0_13, ms_r23_0, ms_r23_1, ms_r0_14, ms_r0_15, ms_r0_16, ms_r0_17, ms_r0_18, ms_r0_23, ms_r0_24, ms_r0_25, ms_r0_26, ms_r0_30, ms_r0_31, ms_r0_32, ms_r0_35, ms_r0_36, ms_r0_39, ms_r0_40, ms_r0_41, ms_r0_42, ms_r0_43, ms_r0_47, M.1, t]
    have p2 : (((h.setI (m + 21) Z.S.np a).setI (m + 24) Z.S.np b)).I (m + 27) 0 = nI Z.S.np := by
      rw [AH.I_setI, if_neg (by omega), AH.I_setI, if_neg (by omega)]; exact M.2.2.1.1
    have p3 : F_X3_places n K m (((h.setI (m + 21) Z.S.np a).setI (m + 24) Z.S.np b).setI (m + 27) 0 (nI (Z.S.np + 1))) = some (nI (Z.S.np + 1), ((h.setI (m + 21) Z.S.np a).setI (m + 24) Z.S.np b).setI (m + 27) 0 (nI (Z.S.np + 1))) := by
      have t : (((h.setI (m + 21) Z.S.np a).setI (m + 24) Z.S.np b).setI (m + 27) 0 (nI (Z.S.np + 1))).I (m + 27) 0 = nI (Z.S.np + 1) := by rw [AH.I_setI, if_pos ⟨rfl, rfl⟩]
      simp only [F_X3_places, chk_true, bnd_some, ob_some, oc_some, oc_none, hl_eq, jn_eq, ix_0, ix_1, if_true, if_false, inb0_2, inb1_2, not_true_eq_false, not_false_eq_true, ite_true, ite_false, true_or, or_true, or_self, zero_eq_one_I, one_eq_zero_I, AH.n_setI, AH.n_setL, AH.n_setR, AH.sl_setI, AH.sl_setL, AH.sl_setR, AH.kind_setI, AH.kind_setL, AH.kind_setR, AH.len_setI, AH.len_setL, AH.len_setR, AH.I_setL, AH.I_setR, AH.L_setI, AH.L_setR, AH.R_setI, AH.R_setL, ms_k0, ms_k1, ms_n1, ms_k2, ms_n2, ms_k3, ms_n3, ms_k4, ms_n4, ms_k5, ms_n5, ms_k6, ms_n6, ms_k7, ms_n7, ms_k8, ms_n8, ms_k9, ms_n9, ms_k10, ms_n10, ms_k11, ms_n11, ms_k12, ms_n12, ms_k13, ms_n13, ms_k14, ms_n14, ms_k15, ms_n15, ms_k16, ms_n16, ms_k17, ms_n17, ms_k18, ms_n18, ms_k19, ms_n19, ms_k20, ms_n20, ms_k21, ms_n21, ms_k22, ms_n22, ms_k23, ms_n23, ms_k24, ms_n24, ms_k25, ms_n25, ms_k26, ms_n26, ms_k27, ms_n27, ms_k28, ms_n28, ms_k29, ms_n29, ms_k30, ms_n30, ms_k31, ms_n31, ms_k32, ms_n32, ms_k33, ms_n33, ms_k34, ms_n34, ms_k35, ms_n35, ms_k36, ms_n36, ms_k37, ms_n37, ms_k38, ms_n38, ms_k39, ms_n39, ms_k40, ms_n40, ms_k41, ms_n41, ms_k50, ms_n50, ms_k51, ms_n51, ms_k52, ms_n52, ms_k53, ms_n53, ms_r0_0, ms_r0_6, ms_r2_0, ms_r2_1, ms_r0_7, ms_r5_0, ms_r5_1, ms_r0_8, ms_r8_0, ms_r8_1, ms_r0_9, ms_r11_0, ms_r11_1, ms_r0_10, ms_r14_0, ms_r14_1, ms_r0_11, ms_r17_0, ms_r17_1, ms_r0_12, ms_r20_0, ms_r20_1, ms_r0_13, ms_r23_0, ms_r23_1, ms_r0_14, ms_r0_15, ms_r0_16, ms_r0_17, ms_r0_18, ms_r0_23, ms_r0_24, ms_r0_25, ms_r0_26, ms_r0_30, ms_r0_31, ms_r0_32, ms_r0_35, ms_r0_36, ms_r0_39, ms_r0_40, ms_r0_41, ms_r0_42, ms_r0_43, ms_r0_47, M.1, t]
    refine ⟨((h.setI (m + 21) Z.S.np a).setI (m + 24) Z.S.np b).setI (m + 27) 0 (nI (Z.S.np + 1)), ?_, ?_, ?_⟩
    · simp only [F_X3_propose, chk_true, bnd_some, ob_some, oc_some, oc_none, hl_eq, jn_eq, ix_0, ix_1, if_true, if_false, inb0_2, inb1_2, not_true_eq_false, not_false_eq_true, ite_true, ite_false, true_or, or_true, or_self, zero_eq_one_I, one_eq_zero_I, AH.n_setI, AH.n_setL, AH.n_setR, AH.sl_setI, AH.sl_setL, AH.sl_setR, AH.kind_setI, AH.kind_setL, AH.kind_setR, AH.len_setI, AH.len_setL, AH.len_setR, AH.I_setL, AH.I_setR, AH.L_setI, AH.L_setR, AH.R_setI, AH.R_setL, ms_k0, ms_k1, ms_n1, ms_k2, ms_n2, ms_k3, ms_n3, ms_k4, ms_n4, ms_k5, ms_n5, ms_k6, ms_n6, ms_k7, ms_n7, ms_k8, ms_n8, ms_k9, ms_n9, ms_k10, ms_n10, ms_k11, ms_n11, ms_k12, ms_n12, ms_k13, ms_n13, ms_k14, ms_n14, ms_k15, ms_n15, ms_k16, ms_n16, ms_k17, ms_n17, ms_k18, ms_n18, ms_k19, ms_n19, ms_k20, ms_n20, ms_k21, ms_n21, ms_k22, ms_n22, ms_k23, ms_n23, ms_k24, ms_n24, ms_k25, ms_n25, ms_k26, ms_n26, ms_k27, ms_n27, ms_k28, ms_n28, ms_k29, ms_n29, ms_k30, ms_n30, ms_k31, ms_n31, ms_k32, ms_n32, ms_k33, ms_n33, ms_k34, ms_n34, ms_k35, ms_n35, ms_k36, ms_n36, ms_k37, ms_n37, ms_k38, ms_n38, ms_k39, ms_n39, ms_k40, ms_n40, ms_k41, ms_n41, ms_k50, ms_n50, ms_k51, ms_n51, ms_k52, ms_n52, ms_k53, ms_n53, ms_r0_0, ms_r0_6, ms_r2_0, ms_r2_1, ms_r0_7, ms_r5_0, ms_r5_1, ms_r0_8, ms_r8_0, ms_r8_1, ms_r0_9, ms_r11_0, ms_r11_1, ms_r0_10, ms_r14_0, ms_r14_1, ms_r0_11, ms_r17_0, ms_r17_1, ms_r0_12, ms_r20_0, ms_r20_1, ms_r0_13, ms_r23_0, ms_r23_1, ms_r0_14, ms_r0_15, ms_r0_16, ms_r0_17, ms_r0_18, ms_r0_23, ms_r0_24, ms_r0_25, ms_r0_26, ms_r0_30, ms_r0_31, ms_r0_32, ms_r0_35, ms_r0_36, ms_r0_39, ms_r0_40, ms_r0_41, ms_r0_42, ms_r0_43, ms_r0_47, M.1, m_votersA hn M, m_nv0 hn M, bI_0, m_isPoint, m_placesA hn M, e20, c1, c2, c3, Bool.true_eq_false, e1, e2, p1, p2, nI_1, p3, nI_pred]
    · refine InvM_va I bz.2.2.1 rfl (fun i hi _ => rI i (by omega) (by omega) (by omega)) ⟨M.1, ?_, ⟨?_, ?_, ?_⟩, ?_⟩ rfl
      · unfold MV
        rw [rI 26 (by omega) (by omega) (by omega), rI 3 (by omega) (by omega) (by omega), rI 6 (by omega) (by omega) (by omega), rI 9 (by omega) (by omega) (by omega), rI 12 (by omega) (by omega) (by omega), rI 15 (by omega) (by omega) (by omega), rI 18 (by omega) (by omega) (by omega)]; exact M.2.1
      · rw [AH.I_setI, if_pos ⟨rfl, rfl⟩]; rfl
      · show Z.S.np + 1 ≤ 20; omega
      · intro p hp
        have hp' : p < Z.S.np + 1 := hp
        show _ = (if p = Z.S.np then (if (0 : Nat) = 0 then a else b) else Z.S.P p 0) ∧ _ = (if p = Z.S.np then (if (1 : Nat) = 0 then a else b) else Z.S.P p 1)
        by_cases z : p = Z.S.np
        · refine ⟨?_, ?_⟩
          · rw [AH.I_setI, if_neg (by omega), AH.I_setI, if_neg (by omega), AH.I_setI, if_pos ⟨rfl, z⟩, if_pos z]; rfl
          · rw [AH.I_setI, if_neg (by omega), AH.I_setI, if_pos ⟨rfl, z⟩, if_pos z]; rfl
        · obtain ⟨g1, g2⟩ := M.2.2.1.2.2 p (by omega)
          refine ⟨?_, ?_⟩
          · rw [AH.I_setI, if_neg (by omega), AH.I_setI, if_neg (by omega), AH.I_setI, if_neg (by omega), if_neg z]; exact g1
          · rw [AH.I_setI, if_neg (by omega), AH.I_setI, if_neg (by omega), AH.I_setI, if_neg (by omega), if_neg z]; exact g2
      · unfold MB
        rw [rI 28 (by omega) (by omega) (by omega), rI 29 (by omega) (by omega) (by omega), rI 30 (by omega) (by omega) (by omega)]; exact M.2.2.2
    · refine Fr_of rfl rfl rfl rfl rfl (fun d j z => ?_)
      have h1 : ∀ p, p ∈ mRs → p.1 ≠ 21 ∧ p.1 ≠ 24 ∧ p.1 ≠ 27 := by decide
      have d21 : d ≠ m + 21 := fun w => z ⟨⟨⟨by omega, by omega⟩, fun p hp y => by have := h1 p hp; omega⟩, by omega⟩
      have d24 : d ≠ m + 24 := fun w => z ⟨⟨⟨by omega, by omega⟩, fun p hp y => by have := h1 p hp; omega⟩, by omega⟩
      have d27 : d ≠ m + 27 := fun w => z ⟨⟨⟨by omega, by omega⟩, fun p hp y => by have := h1 p hp; omega⟩, by omega⟩
      rw [AH.I_setI, if_neg (by omega), AH.I_setI, if_neg (by omega), AH.I_setI, if_neg (by omega)]
