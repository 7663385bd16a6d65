/-! PURE PART QS: moves -/
set_option maxRecDepth 100000
def AH.putsX (h : AH) (x d : Nat) (a b : Int32) : AH := ((((h.setI d 3 a).setI d 4 b).setI x 11 0).setI x 12 0).setI x 13 0
theorem putsX_fr {x d : Nat} (h : AH) (a b : Int32) : Fr 0 0 (fun c j => (c = d ∧ (j = 3 ∨ j = 4)) ∨ (c = x ∧ 11 ≤ j ∧ j ≤ 13)) h (h.putsX x d a b) := by
  refine Fr_of rfl rfl rfl rfl rfl (fun c j z => ?_)
  unfold AH.putsX
  rw [AH.I_setI, if_neg (by omega), AH.I_setI, if_neg (by omega), AH.I_setI, if_neg (by omega), AH.I_setI, if_neg (by omega), AH.I_setI, if_neg (by omega)]
theorem x_puts {n : Nat} {K : Nat → Nat} {x : Nat} {h : AH} {ev ep b : Nat} {Ev Ep : Nat → Nat} {S : St} (hn : 20000 < n) (X : XA K x h ev Ev ep Ep b S) {v : Nat} (hv : v < S.nv) (a b' : Int32) : F_X0_puts n K x (nI v) a b' h = some ((), h.putsX x (Ev v) a b') := by
  have gk := x_vkind hn X hv
  have k5 := X.2.1.1.1
  have g2 : F_J2_get n K (x + 5) (nI v) (h.setI (Ev v) 3 a) = some (some (Ev v), h.setI (Ev v) 3 a) := by
    refine l_get (Ls_of (h' := h.setI (Ev v) 3 a) X.2.1.1 rfl rfl rfl ?_) hv
    rw [AH.I_setI, if_neg]
    intro z
    rw [z.1] at k5; omega
  simp only [F_X0_puts, F_X0_stale, chk_true, bnd_some, ob_some, oc_some, oc_none, hl_eq, jn_eq, ix_0, ix_1, if_true, if_false, inb0_2, inb1_2, not_true_eq_false, not_false_eq_true, ite_true, ite_false, true_or, or_true, or_self, zero_eq_one_I, one_eq_zero_I, AH.n_setI, AH.n_setL, AH.n_setR, AH.sl_setI, AH.sl_setL, AH.sl_setR, AH.kind_setI, AH.kind_setL, AH.kind_setR, AH.len_setI, AH.len_setL, AH.len_setR, AH.I_setL, AH.I_setR, AH.L_setI, AH.L_setR, AH.R_setI, AH.R_setL, xs_k0, xs_k1, xs_n1, xs_k2, xs_k3, xs_k4, xs_k5, xs_k6, xs_k7, xs_k8, xs_k9, xs_k10, xs_k11, xs_n11, xs_k12, xs_n12, xs_k13, xs_n13, xs_k14, xs_n14, xs_k15, xs_n15, xs_k16, xs_n16, xs_k17, xs_n17, xs_k18, xs_n18, xs_k27, xs_n27, xs_k28, xs_n28, xs_r0_0, xs_r0_1, xs_r2_8, xs_r2_9, xs_r0_2, xs_r0_3, xs_r0_4, xs_r0_8, xs_r0_9, xs_r0_10, xs_r0_18, xs_r0_19, xs_r0_20, xs_r0_21, xs_r0_22, xs_r0_25, xs_r0_26, xs_r0_27, xs_r0_28, X.1, x_vget hn X hv, gk, and_self, g2]
  rfl
theorem XIn_puts {K : Nat → Nat} {x : Nat} {h : AH} {e c : Nat → Nat} {E : Nat → Nat → Nat} {b : Nat} {Z : Zt} (I : XIn K x h e c E b Z) {v : Nat} (hv : v < Z.S.nv) (p q : Int32) : XIn K x (h.putsX x (E 2 v) p q) e c E b (Z.S.put v p q, Z.2) := by
  have F := putsX_fr (x := x) (d := E 2 v) h p q
  obtain ⟨i1, MS, i3, i4, X, i6, i7, i8, i9, i10, i11, i12, i13, i14⟩ := I
  have H := X.1
  have k0 := xs_k0 H
  have k1 := xs_k1 H
  have kv := (X.2.1.2.2 v hv).1
  have ne : ∀ d j, h.kind d ≠ 1 → (h.kind d < 7 ∨ 10 < h.kind d) → ¬ ((d = E 2 v ∧ (j = 3 ∨ j = 4)) ∨ (d = x ∧ 11 ≤ j ∧ j ≤ 13)) := by
    rintro d j h1 h2 (⟨z, _⟩ | ⟨z, _⟩)
    · rw [z] at h2; omega
    · rw [z] at h1; exact h1 k0
  have ex : ∀ j, (j < 11 ∨ 13 < j) → ¬ ((x = E 2 v ∧ (j = 3 ∨ j = 4)) ∨ (x = x ∧ 11 ≤ j ∧ j ≤ 13)) := by
    rintro j h1 (⟨z, _⟩ | ⟨_, z⟩)
    · rw [← z] at kv; omega
    · omega
  refine ⟨Fr_wf F i1, ?_, ?_, i4, ?_, i6, i7, i8, i9, ?_, ?_, ?_, ?_, ?_⟩
  · refine MSh_fr MS F (fun r hr => ?_)
    have h1 : ∀ r, r ∈ mRs → r.1 < 94 := by decide
    have := mKs_kind MS (a := x + 29 + r.1) ⟨by omega, by have := h1 r hr; omega⟩
    exact ne _ _ (by omega) (by omega)
  · exact LL_fr i3 F (fun i j hi _ => ne _ _ (by rw [(i3.1 i hi).1.1]; omega) (by rw [(i3.1 i hi).1.1]; omega)) (fun i j hi _ => ne _ _ (by have := (Ls_kinds (i3.1 i hi).1).2; omega) (by have := (Ls_kinds (i3.1 i hi).1).2; omega))
  · exact XA_setx (XA_setx (XA_setx (XA_put X i9 hv p q) (by omega) 0) (by omega) 0) (by omega) 0
  · exact XMo_fr i10 F (fun u hu j => ne _ _ (by have := (i10 u hu).1; omega) (by have := (i10 u hu).1; omega))
  · exact XTx_fr i11 F (by omega) (by omega) (ex 6 (by omega)) (fun j => ne _ _ (by omega) (by omega))
  · left; show (h.putsX x (E 2 v) p q).I x 11 = 0
    unfold AH.putsX
    rw [AH.I_setI, if_neg (by omega), AH.I_setI, if_neg (by omega), AH.I_setI, if_pos ⟨rfl, rfl⟩]
  · left; show (h.putsX x (E 2 v) p q).I x 12 = 0
    unfold AH.putsX
    rw [AH.I_setI, if_neg (by omega), AH.I_setI, if_pos ⟨rfl, rfl⟩]
  · left; show (h.putsX x (E 2 v) p q).I x 13 = 0
    unfold AH.putsX
    rw [AH.I_setI, if_pos ⟨rfl, rfl⟩]
/-- a move that is in no list -/
theorem XIn_14 {K : Nat → Nat} {x : Nat} {h : AH} {e c : Nat → Nat} {E : Nat → Nat → Nat} {b : Nat} {Z : Zt} (I : XIn K x h e c E b Z) {d : Nat} (hd : h.kind d = 14) (hne : ∀ k, k < Z.nm → E 4 k ≠ d) (jj : Nat) (v : Int32) : XIn K x (h.setI d jj v) e c E b Z := by
  have F := Fr_setI (W := fun c j => c = d) h d jj v (fun _ => rfl)
  obtain ⟨i1, MS, i3, i4, X, i6, i7, i8, i9, i10, i11, i12, i13, i14⟩ := I
  have H := X.1
  have k0 := xs_k0 H
  have k1 := xs_k1 H
  have k11 := xs_k11 H
  have ne : ∀ a, h.kind a ≠ 14 → ¬ (a = d) := by
    intro a h1 z
    rw [z] at h1; exact h1 hd
  have t12 : ∀ u, u < c 5 → h.I x 11 = 1 → h.kind (E 5 u) = 12 := by
    intro u hu z
    rcases i12 with z2 | ⟨_, _, z3⟩
    · rw [z2] at z; exact absurd z (by decide)
    · exact (z3 u hu).1
  have t13 : ∀ u, u < c 6 → h.I x 12 = 1 → h.kind (E 6 u) = 13 := by
    intro u hu z
    rcases i13 with z2 | ⟨_, _, _, z3, _⟩
    · rw [z2] at z; exact absurd z (by decide)
    · exact (z3 u hu).1
  have x11 : (h.setI d jj v).I x 11 = h.I x 11 := by rw [AH.I_setI, if_neg (fun z => ne x (by omega) z.1)]
  have x12 : (h.setI d jj v).I x 12 = h.I x 12 := by rw [AH.I_setI, if_neg (fun z => ne x (by omega) z.1)]
  refine ⟨Fr_wf F i1, MS, ?_, i4, ?_, i6, i7, i8, i9, ?_, ?_, ?_, ?_, ?_⟩
  · exact LL_fr i3 F (fun i j hi _ => ne _ (by rw [(i3.1 i hi).1.1]; omega)) (fun i j hi _ => ne _ (by have := (Ls_kinds (i3.1 i hi).1).2; omega))
  · refine XA_of X rfl rfl rfl (fun a h1 h2 _ => ?_) ?_
    · funext j; rw [AH.I_setI, if_neg (fun z => ne a (by omega) z.1)]
    · rw [AH.I_setI, if_neg (fun z => ne x (by omega) z.1)]
  · exact XMo_fr i10 F (fun u hu j => hne u hu)
  · exact XTx_fr i11 F (by omega) (by omega) (ne x (by omega)) (fun j => ne _ (by omega))
  · unfold XCl
    rw [x11]
    rcases i12 with z | ⟨z1, z2, z3⟩
    · exact Or.inl z
    · exact Or.inr ⟨z1, z2, X3L_fr (by omega) z3 F (fun u hu j => ne _ (by have := (z3 u hu).1; omega))⟩
  · unfold XCm
    rw [x11, x12]
    rcases i13 with z | ⟨z1, z2, z3, z4, z5, z6⟩
    · exact Or.inl z
    · refine Or.inr ⟨z1, z2, z3, X3L_fr (by omega) z4 F (fun u hu j => ne _ (by have := (z4 u hu).1; omega)), ?_, fun y => ?_⟩
      · rw [AH.I_setI, if_neg (fun z => ne _ (by omega) z.1)]; exact z5
      · rw [AH.I_setI, if_neg (fun z => ne _ (by omega) z.1), AH.I_setI, if_neg (fun z => ne _ (by omega) z.1)]; exact z6 y
  · exact XCr_fr i14 F (by omega) (fun j _ _ => ne x (by omega))
def moE (Mo : Nat → Nat → Int32) (k : Nat) (M' : Nat → Int32) : Nat → Nat → Int32 := fun i j => if i = k then M' j else Mo i j
theorem XIn_add4 {n : Nat} {K : Nat → Nat} {x : Nat} {h : AH} {e c : Nat → Nat} {E : Nat → Nat → Nat} {b : Nat} {Z : Zt} (I : XIn K x h e c E b Z) (h40 : Z.nm ≤ 40) {d : Nat} {M' : Nat → Int32} (hd : h.kind d = 14) (hm : h.I d 0 = M' 0 ∧ h.I d 1 = M' 1 ∧ h.I d 2 = M' 2 ∧ h.I d 3 = M' 3 ∧ h.I d 4 = M' 4 ∧ h.I d 5 = M' 5 ∧ h.I d 7 = M' 6 ∧ h.I d 6 = M' 7 ∧ h.I d 8 = M' 8) : ∃ e' c' E' h', F_J2_add n K (x + 7) (some d) h = some (1, h') ∧ XIn K x h' e' c' E' b (Z.1, Z.2.1, (Z.nm + 1, moE Z.Mo Z.nm M')) ∧ Fr 1 100 (fun a _ => ¬ RgM (x + 29) a) h h' := by
  obtain ⟨i1, MS, i3, i4, X, i6, i7, i8, i9, i10, i11, i12, i13, i14⟩ := I
  have H := X.1
  have k0 := xs_k0 H
  have k1 := xs_k1 H
  have k11 := xs_k11 H
  obtain ⟨e', h', q1, q2, F⟩ := LL_add (n := n) i1 i3 (i := 4) (by omega) (by rw [i8]; omega) (a := d) (by omega)
  have ne : ∀ a j, h.kind a ≠ 3 → h.kind a ≠ 34 → ¬ (a = x + loL 4 ∨ (a = e 4 ∧ j = c 4 ∧ h.kind (e 4) = 34)) := by
    rintro a j h1 h2 (z | ⟨z, _, z2⟩)
    · rw [z] at h1; exact h1 (i3.1 4 (by omega)).1.1
    · rw [z] at h2; exact h2 z2
  have rdI : ∀ a, h.kind a ≠ 3 → h.kind a ≠ 34 → h.kind a ≠ 0 → h'.kind a = h.kind a ∧ ∀ j, h'.I a j = h.I a j := by
    intro a h1 h2 h3
    obtain ⟨f1, f2, f3⟩ := F.2.2.2.2.2 a h3
    exact ⟨f1, fun j => (f3 j (ne a j h1 h2)).1⟩
  refine ⟨up1 e 4 e', up1 c 4 (c 4 + 1), up1 E 4 (up1 (E 4) (c 4) d), h', q1, ⟨Fr_wf F i1, ?_, q2, ?_, ⟨?_, ?_, ?_, ?_⟩, i6, i7, ?_, i9, ?_, ?_, ?_, ?_, ?_⟩, ?_⟩
  · refine MSh_fr MS F (fun r hr => ?_)
    have h1 : ∀ r, r ∈ mRs → r.1 < 94 := by decide
    have := mKs_kind MS (a := x + 29 + r.1) ⟨by omega, by have := h1 r hr; omega⟩
    exact ne _ _ (by omega) (by omega)
  · intro i hi
    unfold up1
    by_cases z : i = 4
    · rw [if_pos z, i8]; omega
    · rw [if_neg z]; exact i4 i hi
  · refine XSh_fr H F (fun p hp => ?_)
    have h1 : ∀ p, p ∈ xRs → p.1 < 29 ∧ xKs.getD p.1 0 ≠ 3 ∧ xKs.getD p.1 0 ≠ 34 := by decide
    have h2 := h1 p hp
    have h3 := H.1 p.1 h2.1
    exact ne _ _ (by rw [h3]; exact h2.2.1) (by rw [h3]; exact h2.2.2)
  · have le2 : Ls K h' (x + 5) (e 2) (c 2) (E 2) := (q2.1 2 (by omega)).1
    rw [i6] at le2
    refine ⟨le2, X.2.1.2.1, fun v hv' => ?_⟩
    have gg := X.2.1.2.2 v hv'
    obtain ⟨f1, f4⟩ := rdI (E 2 v) (by omega) (by omega) (by omega)
    show (7 ≤ h'.kind (E 2 v) ∧ h'.kind (E 2 v) ≤ 10) ∧ Z.S.V v 3 = nI (h'.kind (E 2 v) - 7) ∧ h'.I (E 2 v) 3 = Z.S.V v 0 ∧ h'.I (E 2 v) 4 = Z.S.V v 1 ∧ h'.I (E 2 v) 0 = Z.S.V v 2 ∧ h'.I (E 2 v) 1 = Z.S.V v 4 ∧ h'.I (E 2 v) 2 = Z.S.V v 5
    rw [f1]
    simp only [f4]
    exact gg
  · have le3 : Ls K h' (x + 6) (e 3) (c 3) (E 3) := (q2.1 3 (by omega)).1
    rw [i7] at le3
    refine ⟨le3, X.2.2.1.2.1, fun v hv' => ?_⟩
    have gg := X.2.2.1.2.2 v hv'
    obtain ⟨f1, f4⟩ := rdI (E 3 v) (by omega) (by omega) (by omega)
    show h'.kind (E 3 v) = 11 ∧ h'.I (E 3 v) 0 = Z.S.P v 0 ∧ h'.I (E 3 v) 1 = Z.S.P v 1
    rw [f1]
    simp only [f4]
    exact gg
  · have hb := X.2.2.2
    exact XB_fr hb F (by omega) (ne x 5 (by omega) (by omega)) (ne x 7 (by omega) (by omega)) (fun j => ne _ j (by have := hb.2.1; omega) (by have := hb.2.1; omega))
  · show up1 c 4 (c 4 + 1) 4 = Z.nm + 1
    rw [← i8]; exact if_pos rfl
  · show XMo h' (Z.nm + 1) (up1 (E 4) (c 4) d) (moE Z.Mo Z.nm M')
    intro k hk
    unfold moE up1
    rw [i8]
    by_cases z : k = Z.nm
    · simp only [if_pos z]
      obtain ⟨f1, f4⟩ := rdI d (by omega) (by omega) (by omega)
      rw [f1]
      simp only [f4]
      exact ⟨hd, hm⟩
    · simp only [if_neg z]
      have gg := i10 k (by omega)
      obtain ⟨f1, f4⟩ := rdI (E 4 k) (by omega) (by omega) (by omega)
      rw [f1]
      simp only [f4]
      exact gg
  · exact XTx_fr i11 F (by omega) (by omega) (ne x 6 (by omega) (by omega)) (fun j => ne _ j (by omega) (by omega))
  · exact show XCl x h' c E Z.S from XCl_fr i12 F (by omega) (ne x 11 (by omega) (by omega)) (fun v hv j => by
      have := (i3.1 5 (by omega)).2.2 v hv
      exact ne _ j (by omega) (by omega))
  · exact show XCm x h' c E Z.S from XCm_fr i13 F (by omega) (by omega) (ne x 11 (by omega) (by omega)) (ne x 12 (by omega) (by omega)) (fun v hv j => by
      have := (i3.1 6 (by omega)).2.2 v hv
      exact ne _ j (by omega) (by omega)) (fun j => ne _ j (by omega) (by omega))
  · exact XCr_fr i14 F (by omega) (fun j _ _ => ne x j (by omega) (by omega))
  · refine Fr_mono F (by omega) (by rw [i8]; omega) (fun a j hd z w => ?_)
    have := mKs_kind MS w
    exact ne a j (by omega) (by omega) z
/-- the last move goes -/
theorem XIn_pop {n : Nat} {K : Nat → Nat} {x : Nat} {h : AH} {e c : Nat → Nat} {E : Nat → Nat → Nat} {b : Nat} {Z : Zt} (I : XIn K x h e c E b Z) (h40 : Z.nm ≤ 40) {k : Nat} (hk : Z.nm = k + 1) : ∃ c' h', F_J2_remove n K (x + 7) (nI k) h = some (some (E 4 k), h') ∧ XIn K x h' e c' E b (Z.1, Z.2.1, (k, Z.Mo)) ∧ Fr 0 0 (fun a _ => ¬ RgM (x + 29) a) h h' ∧ h'.kind (E 4 k) = h.kind (E 4 k) ∧ ∀ j, h'.I (E 4 k) j = h.I (E 4 k) j := by
  obtain ⟨i1, MS, i3, i4, X, i6, i7, i8, i9, i10, i11, i12, i13, i14⟩ := I
  have H := X.1
  have k0 := xs_k0 H
  have k1 := xs_k1 H
  have k11 := xs_k11 H
  have l4 : Ls K h (x + 7) (e 4) (c 4) (E 4) := (i3.1 4 (by omega)).1
  rw [i8, hk] at l4
  obtain ⟨g1, g2, g3, g4, g5⟩ := l4
  have ke : h.kind (e 4) = 34 := by
    rcases g5 with ⟨z, _⟩ | ⟨z, _⟩
    · omega
    · exact z
  rcases g5 with ⟨z, _⟩ | ⟨_, g6, g7, g8⟩
  · omega
  have F : Fr 0 0 (fun a j => a = x + 7 ∨ (a = e 4 ∧ j = k)) h (((h.setI (x + 7) 0 (h.I (x + 7) 0 + 1)).setI (x + 7) 2 (nI k)).setR (e 4) k none) := by
    have F1 := Fr_setI (W := fun a j => a = x + 7 ∨ (a = e 4 ∧ j = k)) h (x + 7) 0 (h.I (x + 7) 0 + 1) (fun _ => Or.inl rfl)
    have F2 := Fr_trans (W := fun a j => a = x + 7 ∨ (a = e 4 ∧ j = k)) F1 (Fr_setI (W := fun a j => a = x + 7) _ (x + 7) 2 (nI k) (fun _ => rfl)) (fun _ _ _ z => z) (fun _ _ _ z => Or.inl z)
    exact Fr_trans (W := fun a j => a = x + 7 ∨ (a = e 4 ∧ j = k)) F2 (Fr_setR (W := fun a j => a = e 4 ∧ j = k) _ (e 4) k none (fun _ => ⟨rfl, rfl⟩)) (fun _ _ _ z => z) (fun _ _ _ z => Or.inr z)
  have ne : ∀ a j, h.kind a ≠ 3 → h.kind a ≠ 34 → ¬ (a = x + 7 ∨ (a = e 4 ∧ j = k)) := by
    rintro a j h1 h2 (z | ⟨z, _⟩)
    · rw [z] at h1; exact h1 g1
    · rw [z] at h2; exact h2 ke
  have rdI : ∀ a, h.kind a ≠ 3 → h.kind a ≠ 34 → h.kind a ≠ 0 → ∀ j, (((h.setI (x + 7) 0 (h.I (x + 7) 0 + 1)).setI (x + 7) 2 (nI k)).setR (e 4) k none).I a j = h.I a j := by
    intro a h1 h2 h3 j
    exact ((F.2.2.2.2.2 a h3).2.2 j (ne a j h1 h2)).1
  have kE := (i10 k (by omega)).1
  have w1 : (nI k < 0) = False := eq_false (nI_pos (by omega))
  have w2 : (nI k < nI (k + 1)) = True := eq_true (nI_lt (by omega) (by omega))
  have w3 : ix (nI k) = k := ix_nI (by omega)
  have w4 : inb (nI k) (h.len (e 4)) = True := eq_true ((inb_nI (by omega)).2 (by omega))
  have w5 : (nI k ≤ nI k) = True := eq_true (nI_le (Nat.le_refl _) (by omega))
  have w6 : (h.setI (x + 7) 0 (h.I (x + 7) 0 + 1)).I (x + 7) 2 = nI (k + 1) := by rw [AH.I_setI, if_neg (by omega)]; exact g2
  have ex7 : e 4 ≠ x + 7 := by intro z; rw [z] at ke; omega
  have FE : XIn K x (((h.setI (x + 7) 0 (h.I (x + 7) 0 + 1)).setI (x + 7) 2 (nI k)).setR (e 4) k none) e (up1 c 4 k) E b (Z.1, Z.2.1, (k, Z.Mo)) := by
    generalize hh' : ((h.setI (x + 7) 0 (h.I (x + 7) 0 + 1)).setI (x + 7) 2 (nI k)).setR (e 4) k none = h' at F rdI
    have LL' : LL K h' x e (up1 c 4 k) E := by
      refine ⟨fun i hi => ?_, fun i j hi hj hij he => ?_⟩
      · obtain ⟨m1, m2, m3⟩ := i3.1 i hi
        by_cases z : i = 4
        · subst z
          have u2 : up1 c 4 k 4 = k := if_pos rfl
          rw [u2]
          refine ⟨⟨?_, ?_, by omega, ?_, Or.inr ⟨?_, ?_, ?_, fun q hq => ?_⟩⟩, ?_, fun q hq => ?_⟩
          · rw [← hh']; exact g1
          · rw [← hh', AH.I_setR]
            show ((h.setI (x + 7) 0 (h.I (x + 7) 0 + 1)).setI (x + 7) 2 (nI k)).I (x + 7) 2 = nI k
            rw [AH.I_setI, if_pos ⟨rfl, rfl⟩]
          · rw [← hh']
            show (((h.setI (x + 7) 0 (h.I (x + 7) 0 + 1)).setI (x + 7) 2 (nI k)).setR (e 4) k none).R (x + 7) 1 = some (e 4)
            rw [AH.R_setR, if_neg (fun y => ex7 y.1.symm)]; exact g4
          · rw [← hh']; exact ke
          · rw [← hh']; show k ≤ h.len (e 4); omega
          · rw [← hh']; exact g7
          · rw [← hh', AH.R_setR, if_neg (by omega)]; exact g8 q (by omega)
          · rw [← hh']; exact m2
          · rw [← hh']; exact m3 q (by rw [i8]; omega)
        · have u2 : up1 c 4 k i = c i := if_neg z
          rw [u2]
          have ke' := (Ls_kinds m1).2
          obtain ⟨b1, b2, b3⟩ := F.2.2.2.2.2 (e i) (by omega)
          refine ⟨Ls_fr m1 F ?_ ?_, by rw [b1, b2]; exact m2, fun q hq => ?_⟩
          · rintro j hj (y | ⟨y, _⟩)
            · have y' : x + loL i = x + loL 4 := y
              exact z (loL_inj hi (by omega) (by omega))
            · have := m1.1; rw [y] at this; omega
          · rintro j hj (y | ⟨y, _⟩)
            · rw [← y] at g1; omega
            · have := i3.2 i 4 hi (by omega) z y
              rw [y] at this; omega
          · have := m3 q hq
            rw [(F.2.2.2.2.2 (E i q) (by omega)).1]; exact this
      · have ke' := (Ls_kinds (i3.1 i hi).1).2
        rw [(F.2.2.2.2.2 (e i) (by omega)).1]
        exact i3.2 i j hi hj hij he
    refine ⟨Fr_wf F i1, ?_, LL', ?_, ⟨?_, ?_, ?_, ?_⟩, i6, i7, if_pos rfl, i9, ?_, ?_, ?_, ?_, ?_⟩
    · refine MSh_fr MS F (fun r hr => ?_)
      have h1 : ∀ r, r ∈ mRs → r.1 < 94 := by decide
      have := mKs_kind MS (a := x + 29 + r.1) ⟨by omega, by have := h1 r hr; omega⟩
      exact ne _ _ (by omega) (by omega)
    · intro i hi
      unfold up1
      by_cases z : i = 4
      · rw [if_pos z]; omega
      · rw [if_neg z]; exact i4 i hi
    · refine XSh_fr H F (fun p hp => ?_)
      have h1 : ∀ p, p ∈ xRs → p.1 < 29 ∧ xKs.getD p.1 0 ≠ 3 ∧ xKs.getD p.1 0 ≠ 34 := by decide
      have h2 := h1 p hp
      have h3 := H.1 p.1 h2.1
      exact ne _ _ (by rw [h3]; exact h2.2.1) (by rw [h3]; exact h2.2.2)
    · have le2 : Ls K h' (x + 5) (e 2) (c 2) (E 2) := (LL'.1 2 (by omega)).1
      rw [i6] at le2
      refine ⟨le2, X.2.1.2.1, fun v hv' => ?_⟩
      have gg := X.2.1.2.2 v hv'
      have f4 := rdI (E 2 v) (by omega) (by omega) (by omega)
      have f1 := (F.2.2.2.2.2 (E 2 v) (by omega)).1
      show (7 ≤ h'.kind (E 2 v) ∧ h'.kind (E 2 v) ≤ 10) ∧ Z.S.V v 3 = nI (h'.kind (E 2 v) - 7) ∧ h'.I (E 2 v) 3 = Z.S.V v 0 ∧ h'.I (E 2 v) 4 = Z.S.V v 1 ∧ h'.I (E 2 v) 0 = Z.S.V v 2 ∧ h'.I (E 2 v) 1 = Z.S.V v 4 ∧ h'.I (E 2 v) 2 = Z.S.V v 5
      rw [f1]
      simp only [f4]
      exact gg
    · have le3 : Ls K h' (x + 6) (e 3) (c 3) (E 3) := (LL'.1 3 (by omega)).1
      rw [i7] at le3
      refine ⟨le3, X.2.2.1.2.1, fun v hv' => ?_⟩
      have gg := X.2.2.1.2.2 v hv'
      have f4 := rdI (E 3 v) (by omega) (by omega) (by omega)
      have f1 := (F.2.2.2.2.2 (E 3 v) (by omega)).1
      show h'.kind (E 3 v) = 11 ∧ h'.I (E 3 v) 0 = Z.S.P v 0 ∧ h'.I (E 3 v) 1 = Z.S.P v 1
      rw [f1]
      simp only [f4]
      exact gg
    · have hb := X.2.2.2
      exact XB_fr hb F (by omega) (ne x 5 (by omega) (by omega)) (ne x 7 (by omega) (by omega)) (fun j => ne _ j (by have := hb.2.1; omega) (by have := hb.2.1; omega))
    · show XMo h' k (E 4) Z.Mo
      refine XMo_fr (fun q hq => i10 q (by omega)) F (fun v hv j => ?_)
      have := (i10 v (by omega)).1
      exact ne _ j (by omega) (by omega)
    · exact XTx_fr i11 F (by omega) (by omega) (ne x 6 (by omega) (by omega)) (fun j => ne _ j (by omega) (by omega))
    · exact show XCl x h' c E Z.S from XCl_fr i12 F (by omega) (ne x 11 (by omega) (by omega)) (fun v hv j => by
        have := (i3.1 5 (by omega)).2.2 v hv
        exact ne _ j (by omega) (by omega))
    · exact show XCm x h' c E Z.S from XCm_fr i13 F (by omega) (by omega) (ne x 11 (by omega) (by omega)) (ne x 12 (by omega) (by omega)) (fun v hv j => by
        have := (i3.1 6 (by omega)).2.2 v hv
        exact ne _ j (by omega) (by omega)) (fun j => ne _ j (by omega) (by omega))
    · exact XCr_fr i14 F (by omega) (fun j _ _ => ne x j (by omega) (by omega))
  refine ⟨up1 c 4 k, _, ?_, FE, ?_, rfl, rdI _ (by omega) (by omega) (by omega)⟩
  · simp only [F_J2_remove, F_J2_fastRemove, F_J14_checkIndex, F_J10_checkIndex, chk_true, bnd_some, ob_some, oc_some, oc_none, hl_eq, jn_eq, ix_0, ix_1, if_true, if_false, inb0_2, inb1_2, not_true_eq_false, not_false_eq_true, ite_true, ite_false, true_or, or_true, or_self, zero_eq_one_I, one_eq_zero_I, AH.n_setI, AH.n_setL, AH.n_setR, AH.sl_setI, AH.sl_setL, AH.sl_setR, AH.kind_setI, AH.kind_setL, AH.kind_setR, AH.len_setI, AH.len_setL, AH.len_setR, AH.I_setL, AH.I_setR, AH.L_setI, AH.L_setR, AH.R_setI, AH.R_setL, g1, g2, g4, ke, w1, w2, w3, w4, w6, nI_pred, w5, g8 k (by omega)]
  · refine Fr_mono F (by omega) (by omega) (fun a j hd z w => ?_)
    have := mKs_kind MS w
    exact ne a j (by omega) (by omega) z
