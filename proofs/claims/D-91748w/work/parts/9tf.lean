/-! PURE PART TF: the sheet takes a sheet: places, the end -/
set_option maxRecDepth 100000
theorem x_sheetP {n : Nat} {K : Nat → Nat} {x : Nat} {h0 h : AH} {cc ss : Nat} {P : PSt} (hn : 20000 < n) (D : DV K x h0 cc ss P P.1.nv 0 h) : ∃ h', DV K x h0 (cc + 20) (ss + 960) P P.1.nv P.1.np h' ∧ F_X0_sheet_L105 n K x n 0 h = F_X0_sheet_L105 n K x 1 (nI P.1.np) h' := by
  have n20 : P.1.np ≤ 20 := by obtain ⟨e, c, E, D, _⟩ := D; exact D.2.2.2.2.2.2.2.2.1.2.1
  refine loopU (fun f i h => F_X0_sheet_L105 n K x f i h) P.1.np (fun k h => DV K x h0 (cc + k) (ss + 48 * k) P P.1.nv k h) (fun o => ∃ h', DV K x h0 (cc + 20) (ss + 960) P P.1.nv P.1.np h' ∧ o = F_X0_sheet_L105 n K x 1 (nI P.1.np) h') ?_ ?_ P.1.np 0 h n (by omega) (by omega) D
  · intro f k h hk D
    right
    obtain ⟨e, c, E, D, c2, E2, c3, E3, c4, i7⟩ := D
    have H := D.2.2.2.2.2.1
    have Q := D.2.2.2.2.2.2
    have L := D.2.2.2.1
    have g := Q.2.2.1.2.2 k hk
    have l0 : Ls K h (x + 4) (e 1) P.1.np (E 1) := by have := (L.1 1 (by omega)).1; rw [Q.2.2.1.1] at this; exact this
    have e1 : (nI P.1.np ≤ nI k) = False := eq_false (nI_ge hk (by omega))
    have kk : h.kind (E 1 k) = 11 := g.1
    obtain ⟨e', h1, a1, D1, F1⟩ := DX_add (n := n) D (i := 3) (by omega) (by omega) (by omega) (a := E 1 k) (by omega)
    have a1' : F_J2_add n K (x + 6) (some (E 1 k)) h = some (1, h1) := a1
    have H1 := D1.2.2.2.2.2.1
    have c3' : up1 c 3 (c 3 + 1) 3 = k + 1 := by show c 3 + 1 = k + 1; rw [c3]
    have E3' : ∀ v, v < k + 1 → up1 E 3 (up1 (E 3) (c 3) (E 1 k)) 3 v = E 1 v := fun v hv => by
      show (if v = c 3 then E 1 k else E 3 v) = E 1 v
      rw [c3]
      by_cases z : v = k
      · rw [if_pos z, z]
      · rw [if_neg z]; exact E3 v (by omega)
    have kx := xs_k0 H
    have i71 : h1.I x 7 = totS P.1.V P.1.nv := by rw [((F1.2.2.2.2.2 x (by omega)).2.2 7 (by omega)).1]; exact i7
    refine ⟨h1, ⟨e', _, _, ⟨Fr_mono D1.1 (by omega) (by rw [c3]; omega) (fun _ _ _ z => z), D1.2⟩, c2, E2, c3', E3', c4, i71⟩, ?_⟩
    simp only [F_X0_sheet_L105, chk_true, bnd_some, ob_some, oc_some, oc_none, hl_eq, jn_eq, ix_0, ix_1, if_true, if_false, inb0_2, inb1_2, not_true_eq_false, not_false_eq_true, ite_true, ite_false, true_or, or_true, or_self, zero_eq_one_I, one_eq_zero_I, xs_k0, xs_k1, xs_n1, xs_k2, xs_k3, xs_k4, xs_k5, xs_k6, xs_k7, xs_k8, xs_k9, xs_k10, xs_k11, xs_n11, xs_k12, xs_n12, xs_k13, xs_n13, xs_k14, xs_n14, xs_k15, xs_n15, xs_k16, xs_n16, xs_k17, xs_n17, xs_k18, xs_n18, xs_k27, xs_n27, xs_k28, xs_n28, xs_r0_0, xs_r0_1, xs_r2_8, xs_r2_9, xs_r0_2, xs_r0_3, xs_r0_4, xs_r0_8, xs_r0_9, xs_r0_10, xs_r0_18, xs_r0_19, xs_r0_20, xs_r0_21, xs_r0_22, xs_r0_25, xs_r0_26, xs_r0_27, xs_r0_28, H, l_size l0, e1, l_get l0 hk, kk, a1', nI_1]
  · intro f h D
    refine ⟨h, ?_, ?_⟩
    · obtain ⟨e, c, E, D, r⟩ := D
      exact ⟨e, c, E, ⟨Fr_mono D.1 (by omega) (by omega) (fun _ _ _ z => z), D.2⟩, r⟩
    · obtain ⟨e, c, E, D, c2, E2, c3, E3, c4, i7⟩ := D
      have H := D.2.2.2.2.2.1
      have Q := D.2.2.2.2.2.2
      have l0 : Ls K h (x + 4) (e 1) P.1.np (E 1) := by have := (D.2.2.2.1.1 1 (by omega)).1; rw [Q.2.2.1.1] at this; exact this
      have e1 : (nI P.1.np ≤ nI P.1.np) = True := eq_true (nI_le (Nat.le_refl _) (by omega))
      simp only [F_X0_sheet_L105, chk_true, bnd_some, ob_some, oc_some, oc_none, hl_eq, jn_eq, ix_0, ix_1, if_true, if_false, inb0_2, inb1_2, not_true_eq_false, not_false_eq_true, ite_true, ite_false, true_or, or_true, or_self, zero_eq_one_I, one_eq_zero_I, xs_k0, xs_k1, xs_n1, xs_k2, xs_k3, xs_k4, xs_k5, xs_k6, xs_k7, xs_k8, xs_k9, xs_k10, xs_k11, xs_n11, xs_k12, xs_n12, xs_k13, xs_n13, xs_k14, xs_n14, xs_k15, xs_n15, xs_k16, xs_n16, xs_k17, xs_n17, xs_k18, xs_n18, xs_k27, xs_n27, xs_k28, xs_n28, xs_r0_0, xs_r0_1, xs_r2_8, xs_r2_9, xs_r0_2, xs_r0_3, xs_r0_4, xs_r0_8, xs_r0_9, xs_r0_10, xs_r0_18, xs_r0_19, xs_r0_20, xs_r0_21, xs_r0_22, xs_r0_25, xs_r0_26, xs_r0_27, xs_r0_28, H, l_size l0, e1]
theorem ox_sheet {n : Nat} {K : Nat → Nat} {x : Nat} {h : AH} {Z : Zt} (hn : 20000 < n) (bz : Bz Z) (I : InvX K x h Z) (C : CK K h) : XOk K x 1400 39000 (sheetZ Z) (sheetS Z) (F_X0_sheet n K x h) h := by
  have g := x_read (n := n) hn bz I C
  obtain ⟨e, c, E, b, I⟩ := I
  have H := I.2.2.2.2.1.1
  have kx := xs_k0 H
  have i6 : h.I x 6 = nI Z.tm := I.2.2.2.2.2.2.2.2.2.2.1.1
  have h6 := bz.2.1
  unfold sheetZ sheetS
  cases hq : textP Z.T Z.tm with
  | inl p =>
    rw [hq] at g
    obtain ⟨a, h', e', f1, f2, f3, f4, f5⟩ := g
    have ef : F_X0_fault n K x h = some (nI p, h') := by simp only [F_X0_fault, chk_true, bnd_some, ob_some, oc_some, oc_none, hl_eq, jn_eq, ix_0, ix_1, if_true, if_false, inb0_2, inb1_2, not_true_eq_false, not_false_eq_true, ite_true, ite_false, true_or, or_true, or_self, zero_eq_one_I, one_eq_zero_I, xs_k0 H, xs_r0_1 H, xs_r0_0 H, xs_k2 H, i6, e', f3, f4]
    have t : (nI p = -1) = False := nI_m1 (by omega)
    refine ⟨h', ?_, f2, Fr_mono f1 (by omega) (by omega) (fun _ _ _ z => z)⟩
    simp only [F_X0_sheet, chk_true, bnd_some, ob_some, oc_some, oc_none, hl_eq, jn_eq, ix_0, ix_1, if_true, if_false, inb0_2, inb1_2, not_true_eq_false, not_false_eq_true, ite_true, ite_false, true_or, or_true, or_self, zero_eq_one_I, one_eq_zero_I, kx, ef, t]
  | inr P =>
    rw [hq] at g
    obtain ⟨h1, e', u, e1, c1, E1, b1, R, Q⟩ := g
    have ef : F_X0_fault n K x h = some (-1, h1) := by simp only [F_X0_fault, chk_true, bnd_some, ob_some, oc_some, oc_none, hl_eq, jn_eq, ix_0, ix_1, if_true, if_false, inb0_2, inb1_2, not_true_eq_false, not_false_eq_true, ite_true, ite_false, true_or, or_true, or_self, zero_eq_one_I, one_eq_zero_I, xs_k0 H, xs_r0_1 H, xs_r0_0 H, xs_k2 H, i6, e']
    have J := R.1.2.1
    have H1 := J.2.2.2.2.1.1
    have D1 : DX K x h 1300 37000 P e1 c1 E1 h1 := ⟨R.1.1, J.1, J.2.1, J.2.2.1, J.2.2.2.1, H1, Q⟩
    obtain ⟨h2, a2, D2, F2⟩ := DX_clear (n := n) hn D1 (i := 2) (by omega) (by omega)
    have a2' : F_J2_clear n K (x + 5) h1 = some ((), h2) := a2
    obtain ⟨h3, a3, D3, F3⟩ := DX_clear (n := n) hn D2 (i := 3) (by omega) (by omega)
    have a3' : F_J2_clear n K (x + 6) h2 = some ((), h3) := a3
    obtain ⟨h4, a4, D4, F4⟩ := DX_clear (n := n) hn D3 (i := 4) (by omega) (by omega)
    have a4' : F_J2_clear n K (x + 7) h3 = some ((), h4) := a4
    have H2 := D2.2.2.2.2.2.1
    have H3 := D3.2.2.2.2.2.1
    have H4 := D4.2.2.2.2.2.1
    have k4 := xs_k0 H4
    have F5 : Fr 0 0 (fun a j => a = x ∧ j = 7) h4 (h4.setI x 7 0) := Fr_setI _ _ _ _ (fun _ => ⟨rfl, rfl⟩)
    have L5 : LL K (h4.setI x 7 0) x e1 (up1 (up1 (up1 c1 2 0) 3 0) 4 0) E1 := LL_fr D4.2.2.2.1 F5 (fun i j hi _ w => by have := (D4.2.2.2.1.1 i hi).1.1; rw [w.1] at this; omega) (fun i j hi _ w => by have := (Ls_kinds (D4.2.2.2.1.1 i hi).1).2; rw [w.1] at this; omega)
    have D5 := DX_step D4 F5 (fun a j _ w => Or.inl ⟨w.1, by omega⟩) L5 D4.2.2.2.2.1 ⟨rfl, rfl⟩ ⟨rfl, rfl⟩
    have V5 : DV K x h 1300 37000 P 0 0 (h4.setI x 7 0) := ⟨_, _, _, D5, rfl, fun v hv => absurd hv (Nat.not_lt_zero v), rfl, fun v hv => absurd hv (Nat.not_lt_zero v), rfl, setI_I _ _ _ _⟩
    obtain ⟨h6', V6, e6⟩ := x_sheetV (n := n) hn V5 (fun h57 => F_X0_sheet_L105 n K x n 0 h57)
    obtain ⟨h7, V7, e7⟩ := x_sheetP (n := n) hn V6
    have ev : F_X0_sheet n K x h = F_X0_sheet_L105 n K x 1 (nI P.1.np) h7 := by
      rw [← e7, ← e6]
      simp only [F_X0_sheet, chk_true, bnd_some, ob_some, oc_some, oc_none, hl_eq, jn_eq, ix_0, ix_1, if_true, if_false, inb0_2, inb1_2, not_true_eq_false, not_false_eq_true, ite_true, ite_false, true_or, or_true, or_self, zero_eq_one_I, one_eq_zero_I, kx, ef, xs_k0 H1, xs_r0_2 H1, xs_k5 H1, a2', xs_k0 H2, xs_r0_3 H2, xs_k6 H2, a3', xs_k0 H3, xs_r0_4 H3, xs_k7 H3, a4', xs_k0 H4]
    rw [ev]
    obtain ⟨e7', c7, E7, D7, c2, E2, c3, E3, c4, i7⟩ := V7
    obtain ⟨g1, wf7, MS7, L7, g5, H7, Q7⟩ := D7
    have k7 := xs_k0 H7
    have k72 := xs_k2 H7
    obtain ⟨bb, q1, q2, q3, q4, q5⟩ := Q7.2.2.2
    have n15 := Q7.2.1.2.1
    have n20 := Q7.2.2.1.2.1
    have l0 : Ls K h7 (x + 4) (e7' 1) P.1.np (E7 1) := by have := (L7.1 1 (by omega)).1; rw [Q7.2.2.1.1] at this; exact this
    have e1' : (nI P.1.np ≤ nI P.1.np) = True := eq_true (nI_le (Nat.le_refl _) (by omega))
    have F8 : Fr 0 0 (fun a j => a = x ∧ (j = 5 ∨ j = 6 ∨ j = 11 ∨ j = 12 ∨ j = 13)) h7 (((((h7.setR x 5 (some bb)).setI x 6 0).setI x 11 0).setI x 12 0).setI x 13 0) := by
      have st : ∀ {g g' : AH}, Fr 0 0 (fun a j => a = x ∧ (j = 5 ∨ j = 6 ∨ j = 11 ∨ j = 12 ∨ j = 13)) h7 g → Fr 0 0 (fun a j => a = x ∧ (j = 5 ∨ j = 6 ∨ j = 11 ∨ j = 12 ∨ j = 13)) g g' → Fr 0 0 (fun a j => a = x ∧ (j = 5 ∨ j = 6 ∨ j = 11 ∨ j = 12 ∨ j = 13)) h7 g' := fun F G => Fr_trans (W := fun a j => a = x ∧ (j = 5 ∨ j = 6 ∨ j = 11 ∨ j = 12 ∨ j = 13)) F G (fun _ _ _ z => z) (fun _ _ _ z => z)
      exact st (st (st (st (Fr_setR _ _ _ _ (fun _ => ⟨rfl, by omega⟩)) (Fr_setI _ _ _ _ (fun _ => ⟨rfl, by omega⟩))) (Fr_setI _ _ _ _ (fun _ => ⟨rfl, by omega⟩))) (Fr_setI _ _ _ _ (fun _ => ⟨rfl, by omega⟩))) (Fr_setI _ _ _ _ (fun _ => ⟨rfl, by omega⟩))
    have L8 := LL_fr L7 F8 (fun i j hi _ w => by have := (L7.1 i hi).1.1; rw [w.1] at this; omega) (fun i j hi _ w => by have := (Ls_kinds (L7.1 i hi).1).2; rw [w.1] at this; omega)
    have MS8 := MSh_fr MS7 F8 (fun r hr w => by
      have h1 : ∀ r, r ∈ mRs → r.1 < 94 := by decide
      have := h1 r hr
      omega)
    have H8 := XSh_fr H7 F8 (fun p hp w => by
      have h1 : ∀ p, p ∈ xRs → p.1 = 0 → p.2.1 ≠ 5 ∧ p.2.1 ≠ 6 ∧ p.2.1 ≠ 11 ∧ p.2.1 ≠ 12 ∧ p.2.1 ≠ 13 := by decide
      have := h1 p hp (by omega)
      omega)
    have nx : ∀ a j, h7.kind a ≠ 1 → h7.kind a ≠ 0 → (((((h7.setR x 5 (some bb)).setI x 6 0).setI x 11 0).setI x 12 0).setI x 13 0).I a j = h7.I a j := fun a j z1 z0 => ((F8.2.2.2.2.2 a z0).2.2 j (fun w => z1 (by rw [w.1]; exact k7))).1
    refine ⟨((((h7.setR x 5 (some bb)).setI x 6 0).setI x 11 0).setI x 12 0).setI x 13 0, ?_, ⟨e7', c7, E7, bb, Fr_wf F8 wf7, MS8, L8, g5, ⟨H8, ?_, ?_, ?_⟩, c2, c3, c4, ?_, fun v hv => absurd hv (Nat.not_lt_zero v), ⟨?_, fun v hv => absurd hv (Nat.not_lt_zero v)⟩, Or.inl ?_, Or.inl ?_, Or.inl (setI_I _ _ _ _)⟩, ?_⟩
    · have l2 : F_J2_size n K (x + 5) (((((h7.setR x 5 (some bb)).setI x 6 0).setI x 11 0).setI x 12 0).setI x 13 0) = some (nI P.1.nv, ((((h7.setR x 5 (some bb)).setI x 6 0).setI x 11 0).setI x 12 0).setI x 13 0) := by
        have := l_size (n := n) (L8.1 2 (by omega)).1
        rw [c2] at this
        exact this
      have r02 : (h7.setR x 5 (some bb)).R x 2 = some (x + 5) := by rw [AH.R_setR, if_neg (by omega)]; exact xs_r0_2 H7
      simp only [F_X0_sheet_L105, F_X0_stale, chk_true, bnd_some, ob_some, oc_some, oc_none, hl_eq, jn_eq, ix_0, ix_1, if_true, if_false, inb0_2, inb1_2, not_true_eq_false, not_false_eq_true, ite_true, ite_false, true_or, or_true, or_self, zero_eq_one_I, one_eq_zero_I, AH.n_setI, AH.n_setL, AH.n_setR, AH.sl_setI, AH.sl_setL, AH.sl_setR, AH.kind_setI, AH.kind_setL, AH.kind_setR, AH.len_setI, AH.len_setL, AH.len_setR, AH.I_setL, AH.I_setR, AH.L_setI, AH.L_setR, AH.R_setI, AH.R_setL, xs_k0, xs_k1, xs_n1, xs_k2, xs_k3, xs_k4, xs_k5, xs_k6, xs_k7, xs_k8, xs_k9, xs_k10, xs_k11, xs_n11, xs_k12, xs_n12, xs_k13, xs_n13, xs_k14, xs_n14, xs_k15, xs_n15, xs_k16, xs_n16, xs_k17, xs_n17, xs_k18, xs_n18, xs_k27, xs_n27, xs_k28, xs_n28, xs_r0_0, xs_r0_1, xs_r2_8, xs_r2_9, xs_r0_2, xs_r0_3, xs_r0_4, xs_r0_8, xs_r0_9, xs_r0_10, xs_r0_18, xs_r0_19, xs_r0_20, xs_r0_21, xs_r0_22, xs_r0_25, xs_r0_26, xs_r0_27, xs_r0_28, H7, l_size l0, e1', q1, r02, l2]
    · have l2 := (L8.1 2 (by omega)).1
      rw [c2] at l2
      refine ⟨l2, n15, fun v hv => ?_⟩
      have hv' : v < P.1.nv := hv
      have gg := Q7.2.1.2.2.1 v hv'
      rw [E2 v hv']
      have nn := fun j => nx (E7 0 v) j (by omega) (by omega)
      show (7 ≤ h7.kind (E7 0 v) ∧ h7.kind (E7 0 v) ≤ 10) ∧ _
      simp only [nn]
      exact gg
    · have l3 := (L8.1 3 (by omega)).1
      rw [c3] at l3
      refine ⟨l3, n20, fun v hv => ?_⟩
      have hv' : v < P.1.np := hv
      have gg := Q7.2.2.1.2.2 v hv'
      rw [E3 v hv']
      have nn := fun j => nx (E7 1 v) j (by omega) (by omega)
      show h7.kind (E7 1 v) = 11 ∧ _
      simp only [nn]
      exact gg
    · have nn := fun j => nx bb j (by omega) (by omega)
      refine ⟨?_, q2, ?_, ?_, ?_, ?_⟩
      · show (h7.setR x 5 (some bb)).R x 5 = some bb
        rw [AH.R_setR, if_pos ⟨rfl, rfl⟩]
      · rw [nn]; exact q3
      · rw [nn]; exact q4
      · rw [nn]; exact q5
      · rw [setI_O (by omega), setI_O (by omega), setI_O (by omega), setI_O (by omega)]
        exact i7
    · intro v w hv hw he
      have hv' : v < P.1.nv := hv
      have hw' : w < P.1.nv := hw
      rw [E2 v hv', E2 w hw'] at he
      exact Q7.2.1.2.2.2 v w hv' hw' he
    · rw [setI_O (by omega), setI_O (by omega), setI_O (by omega), setI_I]; rfl
    · rw [setI_O (by omega), setI_O (by omega), setI_I]
    · rw [setI_O (by omega), setI_I]
    · refine Fr_mono (Fr_trans (W := fun a _ => ¬ RgM (x + 29) a) g1 F8 (fun _ _ _ z => z) (fun a j _ z => ?_)) (by omega) (by omega) (fun _ _ _ z => z)
      rw [z.1]
      exact fun rg => by have := rg.1; omega
