/-! PURE PART QK: lists, adding -/
set_option maxRecDepth 100000
theorem l_add1 {n : Nat} {K : Nat → Nat} {h : AH} {l e c : Nat} {E : Nat → Nat} (wf : Wf h) (H : Ls K h l e c E) (h10 : h.kind e = 34 → 10 ≤ h.len e) (hE : ∀ k, k < c → 7 ≤ h.kind (E k) ∧ h.kind (E k) ≤ 14) (hc : c < 100000) {a : Nat} (ha : 7 ≤ h.kind a ∧ h.kind a ≤ 14) : ∃ e' h', F_J2_add n K l (some a) h = some (1, h') ∧ Ls K h' l e' (c + 1) (up1 E c a) ∧ h'.kind e' = 34 ∧ 10 ≤ h'.len e' ∧ Fr 1 (10 + 2 * c) (fun b j => b = l ∨ (b = e ∧ j = c ∧ h.kind e = 34)) h h' ∧ ((e' = e ∧ h.kind e = 34) ∨ e' = h.n) := by
  have H2 : Ls K (h.setI l 0 (h.I l 0 + 1)) l e c E := Ls_of H rfl rfl rfl (by rw [AH.I_setI, if_neg (by omega)])
  have i2 : (h.setI l 0 (h.I l 0 + 1)).I l 2 = nI c := H2.2.1
  obtain ⟨g1, g2, g3, g4, g5⟩ := H
  have hne : l ≠ a := by intro z; rw [← z] at ha; omega
  by_cases hfull : c = h.len e
  · obtain ⟨N, h3, q1, q2, q2', q3, q4, q5, q6, q7, q8, q9, q10⟩ := l_grow (n := n) (h := h.setI l 0 (h.I l 0 + 1)) wf H2 h10 hE hc hfull
    have hn0 := wf h.n (Nat.le_refl _)
    have ln : l ≠ h.n := by intro z; rw [z] at g1; omega
    have an : a ≠ h.n := by intro z; rw [z] at ha; omega
    have n2 : (h.setI l 0 (h.I l 0 + 1)).n = h.n := rfl
    rw [n2] at q1 q4 q6 q7 q8 q9 q10
    have F3 : Fr 1 N (fun b j => b = l) h h3 := by
      refine Fr_mono (W := fun b j => b = l) (c := 1) (s := N) ?_ (Nat.le_refl _) (Nat.le_refl _) (fun _ _ _ z => z)
      refine ⟨fun _ b hb => ?_, by omega, by omega, ?_, ?_, fun b hb => ?_⟩
      · rw [q6, if_neg (by omega)]; exact wf b (by omega)
      · rw [q5]; exact Nat.le_add_right _ _
      · rw [q5]; exact Nat.le_refl _
      · have hbn : b ≠ h.n := by intro z; rw [z] at hb; exact hb hn0
        refine ⟨by rw [q6, if_neg hbn]; rfl, by rw [q7, if_neg hbn]; rfl, fun j hj => ?_⟩
        obtain ⟨r1, r2, r3⟩ := q8 b hbn j
        refine ⟨by rw [r1, AH.I_setI, if_neg (fun z => hj z.1)], r2, r3 (fun z => hj z.1)⟩
    have kn : h3.kind h.n = 34 := by rw [q6, if_pos rfl]
    have ka : (7 ≤ h3.kind a ∧ h3.kind a ≤ 14) = True := eq_true (by rw [q6, if_neg an]; exact ha)
    have kl : h3.kind l = 3 := by rw [q6, if_neg ln]; exact g1
    have lnn : h3.len h.n = N := by rw [q7, if_pos rfl]
    have zf : (nI c = nI (h.len e)) = True := eq_true (by rw [hfull])
    have zi : inb (nI c) N = True := eq_true ((inb_nI (by omega)).2 q2)
    have zx : ix (nI c) = c := ix_nI (by omega)
    have zk : (h.kind e = 34 ∨ h.kind e = 44) = True := eq_true (Ls_kinds H2).2
    refine ⟨h.n, (h3.setR h.n c (some a)).setI l 2 (nI (c + 1)), ?_, ?_, ?_, ?_, ?_, Or.inr rfl⟩
    · simp only [F_J2_add, F_J2_add_2, g1, AH.n_setI, AH.n_setL, AH.n_setR, AH.sl_setI, AH.sl_setL, AH.sl_setR, AH.kind_setI, AH.kind_setL, AH.kind_setR, AH.len_setI, AH.len_setL, AH.len_setR, AH.I_setL, AH.I_setR, AH.L_setI, AH.L_setR, AH.R_setI, AH.R_setL, g4, i2, chk_true, bnd_some, ob_some, oc_some, oc_none, hl_eq, jn_eq, ix_0, ix_1, if_true, if_false, inb0_2, inb1_2, not_true_eq_false, not_false_eq_true, ite_true, ite_false, true_or, or_true, or_self, zero_eq_one_I, one_eq_zero_I, zk, zf, q1, kn, lnn, zi, zx, ka, kl, nI_1]
    · refine ⟨kl, by rw [AH.I_setI, if_pos ⟨rfl, rfl⟩], by omega, ?_, Or.inr ⟨kn, ?_, ?_, ?_⟩⟩
      · rw [AH.R_setI, AH.R_setR, if_neg (fun z => ln z.1)]; exact q9
      · rw [AH.len_setI, AH.len_setR, lnn]; omega
      · rw [AH.len_setI, AH.len_setR, lnn]; omega
      · intro i hi
        rw [AH.R_setI, AH.R_setR]
        unfold up1
        by_cases ci : i = c
        · rw [if_pos ⟨rfl, ci⟩, if_pos ci]
        · rw [if_neg (fun z => ci z.2), if_neg ci]; exact q10 i (by omega)
    · rw [AH.kind_setI, AH.kind_setR]; exact kn
    · rw [AH.len_setI, AH.len_setR, lnn]; exact q2'
    · have F5 := Fr_trans (W := fun b j => b = l) F3 (Fr_setR (W := fun b _ => b = h.n) h3 h.n c (some a) (fun _ => rfl)) (fun _ _ _ z => z) (fun b j hb z => absurd (show h.kind b = 0 by rw [show b = h.n from z]; exact hn0) hb)
      have F6 := Fr_trans (W := fun b j => b = l) F5 (Fr_setI (W := fun b _ => b = l) _ l 2 (nI (c + 1)) (fun _ => rfl)) (fun _ _ _ z => z) (fun _ _ _ z => z)
      exact Fr_mono F6 (by omega) (by omega) (fun b j _ z => Or.inl z)
  · have ke : h.kind e = 34 := by
      rcases g5 with ⟨c0, _, _, l0⟩ | ⟨g5, _⟩
      · omega
      · exact g5
    rcases g5 with ⟨_, _, z, _⟩ | ⟨_, g6, g7, g8⟩
    · omega
    have len10 := h10 ke
    have el : e ≠ l := by intro z; rw [z] at ke; omega
    have ea : e ≠ a := by intro z; rw [z] at ke; omega
    have ka : (7 ≤ h.kind a ∧ h.kind a ≤ 14) = True := eq_true ha
    have zf : (nI c = nI (h.len e)) = False := eq_false (fun z => hfull ((nI_eq (by omega) (by omega)).1 z))
    have zi : inb (nI c) (h.len e) = True := eq_true ((inb_nI (by omega)).2 (by omega))
    have zx : ix (nI c) = c := ix_nI (by omega)
    refine ⟨e, ((h.setI l 0 (h.I l 0 + 1)).setR e c (some a)).setI l 2 (nI (c + 1)), ?_, ?_, ke, len10, ?_, Or.inl ⟨rfl, ke⟩⟩
    · simp only [F_J2_add, F_J2_add_2, g1, AH.n_setI, AH.n_setL, AH.n_setR, AH.sl_setI, AH.sl_setL, AH.sl_setR, AH.kind_setI, AH.kind_setL, AH.kind_setR, AH.len_setI, AH.len_setL, AH.len_setR, AH.I_setL, AH.I_setR, AH.L_setI, AH.L_setR, AH.R_setI, AH.R_setL, g4, i2, chk_true, bnd_some, ob_some, oc_some, oc_none, hl_eq, jn_eq, ix_0, ix_1, if_true, if_false, inb0_2, inb1_2, not_true_eq_false, not_false_eq_true, ite_true, ite_false, true_or, or_true, or_self, zero_eq_one_I, one_eq_zero_I, ke, zf, zi, zx, ka, nI_1]
    · refine ⟨g1, by rw [AH.I_setI, if_pos ⟨rfl, rfl⟩], by omega, ?_, Or.inr ⟨ke, by show c + 1 ≤ h.len e; omega, g7, ?_⟩⟩
      · rw [AH.R_setI, AH.R_setR, if_neg (fun z => el z.1.symm)]; exact g4
      · intro i hi
        rw [AH.R_setI, AH.R_setR]
        unfold up1
        by_cases ci : i = c
        · rw [if_pos ⟨rfl, ci⟩, if_pos ci]
        · rw [if_neg (fun z => ci z.2), if_neg ci]; exact g8 i (by omega)
    · have F1 := Fr_setI (W := fun b j => b = l ∨ (b = e ∧ j = c ∧ h.kind e = 34)) h l 0 (h.I l 0 + 1) (fun _ => Or.inl rfl)
      have F2 := Fr_trans (W := fun b j => b = l ∨ (b = e ∧ j = c ∧ h.kind e = 34)) F1 (Fr_setR (W := fun b j => b = e ∧ j = c) _ e c (some a) (fun _ => ⟨rfl, rfl⟩)) (fun _ _ _ z => z) (fun b j _ z => Or.inr ⟨z.1, z.2, ke⟩)
      have F3 := Fr_trans (W := fun b j => b = l ∨ (b = e ∧ j = c ∧ h.kind e = 34)) F2 (Fr_setI (W := fun b _ => b = l) _ l 2 (nI (c + 1)) (fun _ => rfl)) (fun _ _ _ z => z) (fun b j _ z => Or.inl z)
      exact Fr_mono F3 (by omega) (by omega) (fun _ _ _ z => z)
theorem loL_inj {i j : Nat} (hi : i < 7) (hj : j < 7) (h : loL i = loL j) : i = j := by
  have : ∀ i, i < 7 → ∀ j, j < 7 → loL i = loL j → i = j := by decide
  exact this i hi j hj h
theorem LL_add {n : Nat} {K : Nat → Nat} {h : AH} {x : Nat} {e c : Nat → Nat} {E : Nat → Nat → Nat} (wf : Wf h) (H : LL K h x e c E) {i : Nat} (hi : i < 7) (hc : c i < 100000) {a : Nat} (ha : 7 ≤ h.kind a ∧ h.kind a ≤ 14) : ∃ e' h', F_J2_add n K (x + loL i) (some a) h = some (1, h') ∧ LL K h' x (up1 e i e') (up1 c i (c i + 1)) (up1 E i (up1 (E i) (c i) a)) ∧ Fr 1 (10 + 2 * c i) (fun b j => b = x + loL i ∨ (b = e i ∧ j = c i ∧ h.kind (e i) = 34)) h h' := by
  obtain ⟨g1, g2, g3⟩ := H.1 i hi
  obtain ⟨e', h', q1, q2, q3, q4, q5, q6⟩ := l_add1 (n := n) wf g1 g2 g3 hc ha
  refine ⟨e', h', q1, ⟨fun j hj => ?_, fun j1 j2 h1 h2 hne he => ?_⟩, q5⟩
  · by_cases c1 : j = i
    · subst c1
      have u1 : up1 e j e' j = e' := if_pos rfl
      have u2 : up1 c j (c j + 1) j = c j + 1 := if_pos rfl
      have u3 : up1 E j (up1 (E j) (c j) a) j = up1 (E j) (c j) a := if_pos rfl
      rw [u1, u2, u3]
      refine ⟨q2, fun _ => q4, fun k hk => ?_⟩
      unfold up1
      by_cases ck : k = c j
      · rw [if_pos ck, (q5.2.2.2.2.2 a (by omega)).1]; exact ha
      · rw [if_neg ck]
        have := g3 k (by omega)
        rw [(q5.2.2.2.2.2 (E j k) (by omega)).1]; exact this
    · have u1 : up1 e i e' j = e j := if_neg c1
      have u2 : up1 c i (c i + 1) j = c j := if_neg c1
      have u3 : up1 E i (up1 (E i) (c i) a) j = E j := if_neg c1
      rw [u1, u2, u3]
      obtain ⟨m1, m2, m3⟩ := H.1 j hj
      have ke := (Ls_kinds m1).2
      obtain ⟨b1, b2, b3⟩ := q5.2.2.2.2.2 (e j) (by omega)
      refine ⟨Ls_fr m1 q5 ?_ ?_, by rw [b1, b2]; exact m2, fun k hk => ?_⟩
      · rintro k hk (z | ⟨z, _, z2⟩)
        · exact c1 (loL_inj hj hi (by omega))
        · have := m1.1; rw [z] at this; omega
      · rintro k hk (z | ⟨z, _, z2⟩)
        · have := g1.1; rw [← z] at this; omega
        · have := H.2 j i hj hi c1 z
          rw [z] at this; omega
      · have := m3 k hk
        rw [(q5.2.2.2.2.2 (E j k) (by omega)).1]; exact this
  · have other : ∀ j, j < 7 → j ≠ i → e j = e' → h.kind (e j) = 44 := by
      intro j hj hji hej
      rcases q6 with ⟨z1, z2⟩ | z1
      · exact H.2 j i hj hi hji (hej.trans z1)
      · have ke := (Ls_kinds (H.1 j hj).1).2
        rw [hej, z1] at ke
        have := wf h.n (Nat.le_refl _)
        omega
    have kk : ∀ j, j < 7 → h'.kind (e j) = h.kind (e j) := fun j hj => (q5.2.2.2.2.2 (e j) (by have := (Ls_kinds (H.1 j hj).1).2; omega)).1
    by_cases c1 : j1 = i
    · subst c1
      have u1 : up1 e j1 e' j1 = e' := if_pos rfl
      have u2 : up1 e j1 e' j2 = e j2 := if_neg (fun z => hne z.symm)
      rw [u1, u2] at he
      have := other j2 h2 (fun z => hne z.symm) he.symm
      rw [u1, he, kk j2 h2]; exact this
    · have u1 : up1 e i e' j1 = e j1 := if_neg c1
      rw [u1] at he ⊢
      by_cases c2 : j2 = i
      · subst c2
        have u2 : up1 e j2 e' j2 = e' := if_pos rfl
        rw [u2] at he
        rw [kk j1 h1]; exact other j1 h1 c1 he
      · have u2 : up1 e i e' j2 = e j2 := if_neg c2
        rw [u2] at he
        rw [kk j1 h1]; exact H.2 j1 j2 h1 h2 hne he
