/-! PURE PART RC: lists, inserting -/
set_option maxRecDepth 100000
/-- the tail of an insertion, at an array with room -/
theorem l_insT {K : Nat → Nat} {g : AH} {l a12 c k : Nat} {E : Nat → Nat} (hc : c < 100000) (hk : k ≤ c) (gl : g.kind l = 3) (ka : g.kind a12 = 34) (hlen : c < g.len a12) (hE : ∀ i, i < c → g.R a12 i = some (E i)) (hK : ∀ i, i < c → 7 ≤ g.kind (E i) ∧ g.kind (E i) ≤ 14) {a : Nat} (ha : 7 ≤ g.kind a ∧ g.kind a ≤ 14) :
    (ob (some a12) fun a12 =>
    chk (g.kind a12 = 34) <|
    chk ((0 ≤ (nI k).toInt ∧ 0 ≤ (nI k + (1 : Int32)).toInt ∧ 0 ≤ (nI c - nI k).toInt) ∧ ix (nI k) + ix (nI c - nI k) ≤ g.len a12 ∧ ix (nI k + (1 : Int32)) + ix (nI c - nI k) ≤ g.len a12) <|
    chk (∀ i, i < ix (nI c - nI k) → okE g (g.R a12 (ix (nI k) + i)) = true) <|
    hl (g.cpyR a12 (ix (nI k)) a12 (ix (nI k + (1 : Int32))) (ix (nI c - nI k))) fun h16 =>
    chk (inb (nI k) (h16.len a12)) <|
    ob (some a) fun a19 =>
    chk (7 ≤ h16.kind a19 ∧ h16.kind a19 ≤ 14) <|
    hl (h16.setR a12 (ix (nI k)) (some a19)) fun h21 =>
    chk (h21.kind l = 3) <|
    hl (h21.setI l 2 (nI c + (1 : Int32))) fun h24 =>
    some ((), h24)) = some ((), ((g.cpyR a12 k a12 (k + 1) (c - k)).setR a12 k (some a)).setI l 2 (nI (c + 1))) := by
  have e1 : ix (nI k) = k := ix_nI (by omega)
  have e2 : nI k + 1 = nI (k + 1) := nI_1 k
  have e3 : ix (nI (k + 1)) = k + 1 := ix_nI (by omega)
  have e4 : nI c - nI k = nI (c - k) := pk_sub hk
  have e5 : ix (nI (c - k)) = c - k := ix_nI (by omega)
  have e6 : ((0 ≤ (nI k).toInt ∧ 0 ≤ (nI (k + 1)).toInt ∧ 0 ≤ (nI (c - k)).toInt) ∧ k + (c - k) ≤ g.len a12 ∧ k + 1 + (c - k) ≤ g.len a12) = True := eq_true (by
    rw [nI_toInt (by omega), nI_toInt (by omega), nI_toInt (by omega)]; omega)
  have e7 : (∀ i, i < c - k → okE g (g.R a12 (k + i)) = true) = True := eq_true (by
    intro i hi
    rw [hE (k + i) (by omega)]
    exact decide_eq_true (hK (k + i) (by omega)))
  have e8 : (7 ≤ g.kind a ∧ g.kind a ≤ 14) = True := eq_true ha
  by_cases hz : inb (nI k) (g.len a12)
  · have e9 : inb (nI k) (g.len a12) = True := eq_true hz
    simp only [chk_true, bnd_some, ob_some, oc_some, oc_none, hl_eq, jn_eq, ix_0, ix_1, if_true, if_false, inb0_2, inb1_2, not_true_eq_false, not_false_eq_true, ite_true, ite_false, true_or, or_true, or_self, zero_eq_one_I, one_eq_zero_I, AH.n_setI, AH.n_setL, AH.n_setR, AH.sl_setI, AH.sl_setL, AH.sl_setR, AH.kind_setI, AH.kind_setL, AH.kind_setR, AH.len_setI, AH.len_setL, AH.len_setR, AH.I_setL, AH.I_setR, AH.L_setI, AH.L_setR, AH.R_setI, AH.R_setL, ka, e1, e2, e3, e4, e5, e6, e7, AH.kind_cpyR, AH.len_cpyR, e8, e9, gl, nI_1]
  · exact absurd ((inb_nI (by omega)).2 (by omega)) hz
theorem ins_R {g : AH} {l a12 c k : Nat} {E : Nat → Nat} (hk : k ≤ c) (hE : ∀ i, i < c → g.R a12 i = some (E i)) (a : Nat) {i : Nat} (hi : i < c + 1) : (((g.cpyR a12 k a12 (k + 1) (c - k)).setR a12 k (some a)).setI l 2 (nI (c + 1))).R a12 i = some (insF k a E i) := by
  rw [AH.R_setI, AH.R_setR]
  unfold insF
  by_cases c1 : i = k
  · rw [if_pos ⟨rfl, c1⟩, if_neg (by omega), if_pos c1]
  · rw [if_neg (fun z => c1 z.2), AH.R_cpyR, if_pos rfl]
    by_cases c2 : i < k
    · rw [if_pos c2, pk_cpy_out (Or.inl (by omega))]; exact hE i (by omega)
    · rw [if_neg c2, if_neg c1, pk_cpy_in (by omega) (by omega), show k + (i - (k + 1)) = i - 1 by omega]
      exact hE (i - 1) (by omega)
theorem l_ins1 {n : Nat} {K : Nat → Nat} {h : AH} {l e c : Nat} {E : Nat → Nat} (wf : Wf h) (H : Ls K h l e c E) (h10 : h.kind e = 34 → 10 ≤ h.len e) (hE : ∀ k, k < c → 7 ≤ h.kind (E k) ∧ h.kind (E k) ≤ 14) (hc : c < 100000) {k : Nat} (hk : k ≤ c) {a : Nat} (ha : 7 ≤ h.kind a ∧ h.kind a ≤ 14) : ∃ e' h', F_J2_add_3 n K l (nI k) (some a) h = some ((), h') ∧ Ls K h' l e' (c + 1) (insF k a E) ∧ h'.kind e' = 34 ∧ 10 ≤ h'.len e' ∧ Fr 1 (10 + 2 * c) (fun b j => b = l ∨ (b = e ∧ h.kind e = 34)) h h' ∧ ((e' = e ∧ h.kind e = 34) ∨ e' = h.n) ∧ (h'.sl + 4 * h.len e ≤ h.sl + 4 * h'.len e' ∧ (h'.len e' ≤ h.len e ∨ h'.len e' ≤ 10 + 2 * c)) := by
  have H2 : Ls K (h.setI l 0 (h.I l 0 + 1)) l e c E := Ls_of H rfl rfl rfl (by rw [AH.I_setI, if_neg (by omega)])
  have i2 : (h.setI l 0 (h.I l 0 + 1)).I l 2 = nI c := H2.2.1
  obtain ⟨g1, g2, g3, g4, g5⟩ := H
  have rc : F_J2_rangeCheckForAdd n K l (nI k) h = some ((), h) := by
    have z1 : (nI c < nI k) = False := eq_false (nI_nlt hk (by omega))
    have z2 : (0 ≤ nI k) = True := eq_true (nI_pos' (by omega))
    simp only [F_J2_rangeCheckForAdd, chk_true, bnd_some, ob_some, oc_some, oc_none, hl_eq, jn_eq, ix_0, ix_1, if_true, if_false, inb0_2, inb1_2, not_true_eq_false, not_false_eq_true, ite_true, ite_false, true_or, or_true, or_self, zero_eq_one_I, one_eq_zero_I, g1, g2, z1, z2]
  have zk : (h.kind e = 34 ∨ h.kind e = 44) = True := eq_true (Ls_kinds H2).2
  by_cases hfull : c = h.len e
  · obtain ⟨N, h3, q1, q2, q2', q3, q4, q5, q6, q7, q8, q9, q10⟩ := l_grow (n := n) (h := h.setI l 0 (h.I l 0 + 1)) wf H2 h10 hE hc hfull
    have hn0 := wf h.n (Nat.le_refl _)
    have ln : l ≠ h.n := by intro z; rw [z] at g1; omega
    have an : a ≠ h.n := by intro z; rw [z] at ha; omega
    have n2 : (h.setI l 0 (h.I l 0 + 1)).n = h.n := rfl
    rw [n2] at q1 q4 q6 q7 q8 q9 q10
    have F3 : Fr 1 N (fun b j => b = l) h h3 := by
      refine ⟨fun _ b hb => ?_, by omega, by omega, ?_, ?_, fun b hb => ?_⟩
      · rw [q6, if_neg (by omega)]; exact wf b (by omega)
      · rw [q5]; exact Nat.le_add_right _ _
      · rw [q5]; exact Nat.le_refl _
      · have hbn : b ≠ h.n := by intro z; rw [z] at hb; exact hb hn0
        refine ⟨by rw [q6, if_neg hbn]; rfl, by rw [q7, if_neg hbn]; rfl, fun j hj => ?_⟩
        obtain ⟨r1, r2, r3⟩ := q8 b hbn j
        refine ⟨by rw [r1, AH.I_setI, if_neg (fun z => hj z.1)], r2, r3 (fun z => hj z.1)⟩
    have kn : h3.kind h.n = 34 := by rw [q6, if_pos rfl]
    have kl : h3.kind l = 3 := by rw [q6, if_neg ln]; exact g1
    have lnn : h3.len h.n = N := by rw [q7, if_pos rfl]
    have kE : ∀ i, i < c → 7 ≤ h3.kind (E i) ∧ h3.kind (E i) ≤ 14 := by
      intro i hi
      have := hE i hi
      rw [q6, if_neg (by intro z; rw [z] at this; omega)]; exact this
    have tail := l_insT (K := K) (g := h3) (l := l) (a12 := h.n) hc hk kl kn (by omega) q10 kE (a := a) (by rw [q6, if_neg an]; exact ha)
    have zf : (nI c = nI (h.len e)) = True := eq_true (by rw [hfull])
    refine ⟨h.n, ((h3.cpyR h.n k h.n (k + 1) (c - k)).setR h.n k (some a)).setI l 2 (nI (c + 1)), ?_, ⟨kl, by rw [AH.I_setI, if_pos ⟨rfl, rfl⟩], by omega, ?_, Or.inr ⟨kn, ?_, ?_, fun i hi => ins_R hk q10 a hi⟩⟩, kn, ?_, ?_, Or.inr rfl, ?_⟩
    · simp only [F_J2_add_3, g1, AH.n_setI, AH.n_setL, AH.n_setR, AH.sl_setI, AH.sl_setL, AH.sl_setR, AH.kind_setI, AH.kind_setL, AH.kind_setR, AH.len_setI, AH.len_setL, AH.len_setR, AH.I_setL, AH.I_setR, AH.L_setI, AH.L_setR, AH.R_setI, AH.R_setL, g4, i2, rc, chk_true, bnd_some, ob_some, oc_some, oc_none, hl_eq, jn_eq, ix_0, ix_1, if_true, if_false, inb0_2, inb1_2, not_true_eq_false, not_false_eq_true, ite_true, ite_false, true_or, or_true, or_self, zero_eq_one_I, one_eq_zero_I, zk, zf, q1]
      exact tail
    · rw [AH.R_setI, AH.R_setR, if_neg (fun z => ln z.1), AH.R_cpyR, if_neg ln]; exact q9
    · show c + 1 ≤ h3.len h.n; omega
    · show h3.len h.n < 1000000; omega
    · show 10 ≤ h3.len h.n; omega
    · have F4 := Fr_trans (W := fun b j => b = l) F3 (Fr_cpyR (W := fun b _ => b = h.n) h3 h.n k h.n (k + 1) (c - k) (fun _ _ => rfl)) (fun _ _ _ z => z) (fun b j hb z => absurd (show h.kind b = 0 by rw [show b = h.n from z]; exact hn0) hb)
      have F5 := Fr_trans (W := fun b j => b = l) F4 (Fr_setR (W := fun b _ => b = h.n) _ h.n k (some a) (fun _ => rfl)) (fun _ _ _ z => z) (fun b j hb z => absurd (show h.kind b = 0 by rw [show b = h.n from z]; exact hn0) hb)
      have F6 := Fr_trans (W := fun b j => b = l) F5 (Fr_setI (W := fun b _ => b = l) _ l 2 (nI (c + 1)) (fun _ => rfl)) (fun _ _ _ z => z) (fun _ _ _ z => z)
      exact Fr_mono F6 (by omega) (by omega) (fun b j _ z => Or.inl z)
    · have q3' : N + 4 * h.len e ≤ 4 * N := q3.2
      have q5' : h3.sl = h.sl + N := q5
      show h3.sl + 4 * h.len e ≤ h.sl + 4 * h3.len h.n ∧ (h3.len h.n ≤ h.len e ∨ h3.len h.n ≤ 10 + 2 * c)
      rw [lnn, q5']
      exact ⟨by omega, Or.inr q3.1⟩
  · have ke : h.kind e = 34 := by
      rcases g5 with ⟨c0, _, _, l0⟩ | ⟨g5, _⟩
      · omega
      · exact g5
    rcases g5 with ⟨_, _, z, _⟩ | ⟨_, g6, g7, g8⟩
    · omega
    have el : e ≠ l := by intro z; rw [z] at ke; omega
    have tail := l_insT (K := K) (g := h.setI l 0 (h.I l 0 + 1)) (l := l) (a12 := e) hc hk g1 ke (by show c < h.len e; omega) g8 hE ha
    have zf : (nI c = nI (h.len e)) = False := eq_false (fun z => hfull ((nI_eq (by omega) (by omega)).1 z))
    refine ⟨e, (((h.setI l 0 (h.I l 0 + 1)).cpyR e k e (k + 1) (c - k)).setR e k (some a)).setI l 2 (nI (c + 1)), ?_, ⟨g1, by rw [AH.I_setI, if_pos ⟨rfl, rfl⟩], by omega, ?_, Or.inr ⟨ke, ?_, g7, fun i hi => ins_R (g := h.setI l 0 (h.I l 0 + 1)) hk g8 a hi⟩⟩, ke, h10 ke, ?_, Or.inl ⟨rfl, ke⟩, Nat.le_refl _, Or.inl (Nat.le_refl _)⟩
    · simp only [F_J2_add_3, g1, AH.n_setI, AH.n_setL, AH.n_setR, AH.sl_setI, AH.sl_setL, AH.sl_setR, AH.kind_setI, AH.kind_setL, AH.kind_setR, AH.len_setI, AH.len_setL, AH.len_setR, AH.I_setL, AH.I_setR, AH.L_setI, AH.L_setR, AH.R_setI, AH.R_setL, g4, i2, rc, chk_true, bnd_some, ob_some, oc_some, oc_none, hl_eq, jn_eq, ix_0, ix_1, if_true, if_false, inb0_2, inb1_2, not_true_eq_false, not_false_eq_true, ite_true, ite_false, true_or, or_true, or_self, zero_eq_one_I, one_eq_zero_I, zk, zf]
      exact tail
    · rw [AH.R_setI, AH.R_setR, if_neg (fun z => el z.1.symm), AH.R_cpyR, if_neg (fun z => el z.symm)]; exact g4
    · show c + 1 ≤ h.len e; omega
    · have F1 := Fr_setI (W := fun b j => b = l ∨ (b = e ∧ h.kind e = 34)) h l 0 (h.I l 0 + 1) (fun _ => Or.inl rfl)
      have F2 := Fr_trans (W := fun b j => b = l ∨ (b = e ∧ h.kind e = 34)) F1 (Fr_cpyR (W := fun b _ => b = e) _ e k e (k + 1) (c - k) (fun _ _ => rfl)) (fun _ _ _ z => z) (fun b j _ z => Or.inr ⟨z, ke⟩)
      have F3 := Fr_trans (W := fun b j => b = l ∨ (b = e ∧ h.kind e = 34)) F2 (Fr_setR (W := fun b _ => b = e) _ e k (some a) (fun _ => rfl)) (fun _ _ _ z => z) (fun b j _ z => Or.inr ⟨z, ke⟩)
      have F4 := Fr_trans (W := fun b j => b = l ∨ (b = e ∧ h.kind e = 34)) F3 (Fr_setI (W := fun b _ => b = l) _ l 2 (nI (c + 1)) (fun _ => rfl)) (fun _ _ _ z => z) (fun b j _ z => Or.inl z)
      exact Fr_mono F4 (by omega) (by omega) (fun _ _ _ z => z)
