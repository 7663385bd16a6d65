/-! PURE PART RL: the invariant without the caches -/
set_option maxRecDepth 100000
def XC (K : Nat → Nat) (x : Nat) (h : AH) (e c : Nat → Nat) (E : Nat → Nat → Nat) (b : Nat) (Z : Zt) : Prop :=
  Wf h ∧ MSh (x + 29) h ∧ LL K h x e c E ∧ (∀ i, i < 7 → c i ≤ 6000) ∧ XA K x h (e 2) (E 2) (e 3) (E 3) b Z.S ∧ c 2 = Z.S.nv ∧ c 3 = Z.S.np ∧ c 4 = Z.nm ∧ (∀ v w, v < Z.S.nv → w < Z.S.nv → E 2 v = E 2 w → v = w) ∧ XMo h Z.nm (E 4) Z.Mo ∧ XTx x h Z.tm Z.T
theorem XC_in {K : Nat → Nat} {x : Nat} {h : AH} {e c : Nat → Nat} {E : Nat → Nat → Nat} {b : Nat} {Z : Zt} (I : XIn K x h e c E b Z) : XC K x h e c E b Z ∧ XCl x h c E Z.S ∧ XCm x h c E Z.S ∧ XCr x h Z.S := by
  obtain ⟨i1, i2, i3, i4, i5, i6, i7, i8, i9, i10, i11, i12, i13, i14⟩ := I
  exact ⟨⟨i1, i2, i3, i4, i5, i6, i7, i8, i9, i10, i11⟩, i12, i13, i14⟩
theorem XIn_C {K : Nat → Nat} {x : Nat} {h : AH} {e c : Nat → Nat} {E : Nat → Nat → Nat} {b : Nat} {Z : Zt} (I : XC K x h e c E b Z) (i12 : XCl x h c E Z.S) (i13 : XCm x h c E Z.S) (i14 : XCr x h Z.S) : XIn K x h e c E b Z := by
  obtain ⟨i1, i2, i3, i4, i5, i6, i7, i8, i9, i10, i11⟩ := I
  exact ⟨i1, i2, i3, i4, i5, i6, i7, i8, i9, i10, i11, i12, i13, i14⟩
/-- where the core does not look -/
def OkW (x : Nat) (h : AH) (a j : Nat) : Prop := h.kind a = 3 ∨ h.kind a = 34 ∨ h.kind a = 12 ∨ h.kind a = 13 ∨ h.kind a = 6 ∨ (a = x ∧ 11 ≤ j ∧ j ≤ 17) ∨ a = x + 11 ∨ ScX x a j ∨ (a = x + 2 ∧ j ≠ 8 ∧ j ≠ 9)
theorem OkW_no {x : Nat} {h : AH} (H : XSh x h) {a : Nat} (ha : (7 ≤ h.kind a ∧ h.kind a ≤ 11) ∨ h.kind a = 14 ∨ h.kind a = 4 ∨ h.kind a = 31 ∨ h.kind a = 44) (j : Nat) : ¬ OkW x h a j := by
  have k0 := xs_k0 H
  have k2 := xs_k2 H
  have k11 := xs_k11 H
  rintro (z | z | z | z | z | ⟨z, _⟩ | z | z | ⟨z, _⟩)
  · omega
  · omega
  · omega
  · omega
  · omega
  · rw [z] at ha; omega
  · rw [z] at ha; omega
  · rcases z.1 with ⟨z1, z2⟩ | ⟨z1, _⟩
    · have := xKs_kind H z1 z2; omega
    · rw [z1] at ha; omega
  · rw [z] at ha; omega
theorem OkW_x {x : Nat} {h : AH} (H : XSh x h) {j : Nat} (hj : j < 11) : ¬ OkW x h x j := by
  have k0 := xs_k0 H
  rintro (z | z | z | z | z | ⟨_, z⟩ | z | z | ⟨z, _⟩)
  · omega
  · omega
  · omega
  · omega
  · omega
  · omega
  · omega
  · rcases z.1 with ⟨z1, z2⟩ | ⟨_, z1⟩
    · omega
    · omega
  · omega
theorem OkW_m {x : Nat} {h : AH} (H : MSh (x + 29) h) {a j : Nat} (z : OkW x h a j) : ¬ RgM (x + 29) a := by
  intro w
  have w1 := w.1
  have := mKs_kind H w
  rcases z with z | z | z | z | z | ⟨z, _⟩ | z | z | ⟨z, _⟩
  · omega
  · omega
  · omega
  · omega
  · omega
  · omega
  · omega
  · exact ScX_out z w
  · omega
theorem OkW_ref {x : Nat} {h : AH} (H : XSh x h) {p : Nat × Nat × Nat} (hp : p ∈ xRs) : ¬ OkW x h (x + p.1) p.2.1 := by
  have h1 : ∀ p, p ∈ xRs → p.1 < 29 ∧ (p.1 = 0 ∧ (p.2.1 < 11 ∨ 17 < p.2.1) ∨ p.1 = 2 ∧ (p.2.1 = 8 ∨ p.2.1 = 9) ∨ p.1 = 18) := by decide
  have h2 := h1 p hp
  have k0 := xs_k0 H
  have k2 := xs_k2 H
  have k18 := xs_k18 H
  have hk : h.kind (x + p.1) = 1 ∨ h.kind (x + p.1) = 2 ∨ h.kind (x + p.1) = 35 := by
    rcases h2.2 with ⟨z, _⟩ | ⟨z, _⟩ | z
    · rw [z]; exact Or.inl k0
    · rw [z]; exact Or.inr (Or.inl k2)
    · rw [z]; exact Or.inr (Or.inr k18)
  rintro (z | z | z | z | z | ⟨z, z2⟩ | z | z | ⟨z, z2⟩)
  · omega
  · omega
  · omega
  · omega
  · omega
  · omega
  · omega
  · exact z.2 p hp ⟨rfl, rfl⟩
  · omega
/-- the core under a piece of code that leaves voters, places, moves and text alone -/
theorem XC_fr {K : Nat → Nat} {x : Nat} {h h' : AH} {e c e' c' : Nat → Nat} {E E' : Nat → Nat → Nat} {b : Nat} {Z : Zt} {cc ss : Nat} {W : Nat → Nat → Prop} (I : XC K x h e c E b Z) (F : Fr cc ss W h h') (L' : LL K h' x e' c' E') (h6 : ∀ i, i < 7 → c' i ≤ 6000) (sm : ∀ i, 2 ≤ i → i ≤ 4 → e' i = e i ∧ c' i = c i ∧ E' i = E i) (hW : ∀ a j, h.kind a ≠ 0 → W a j → OkW x h a j) : XC K x h' e' c' E' b Z := by
  obtain ⟨i1, MS, i3, i4, X, i6, i7, i8, i9, i10, i11⟩ := I
  have H := X.1
  have k0 := xs_k0 H
  have k1 := xs_k1 H
  have ne : ∀ a j, ((7 ≤ h.kind a ∧ h.kind a ≤ 11) ∨ h.kind a = 14 ∨ h.kind a = 4 ∨ h.kind a = 31 ∨ h.kind a = 44) → ¬ W a j := fun a j ha w => OkW_no H ha j (hW a j (by omega) w)
  have nx : ∀ j, j < 11 → ¬ W x j := fun j hj w => OkW_x H hj (hW x j (by omega) w)
  have rdI : ∀ a, ((7 ≤ h.kind a ∧ h.kind a ≤ 11) ∨ h.kind a = 14 ∨ h.kind a = 4 ∨ h.kind a = 31 ∨ h.kind a = 44) → h'.kind a = h.kind a ∧ ∀ j, h'.I a j = h.I a j := by
    intro a ha
    obtain ⟨f1, f2, f3⟩ := F.2.2.2.2.2 a (by omega)
    exact ⟨f1, fun j => (f3 j (ne a j ha)).1⟩
  obtain ⟨s2, s2c, s2E⟩ := sm 2 (by omega) (by omega)
  obtain ⟨s3, s3c, s3E⟩ := sm 3 (by omega) (by omega)
  obtain ⟨s4, s4c, s4E⟩ := sm 4 (by omega) (by omega)
  have l2 : Ls K h' (x + 5) (e 2) (c 2) (E 2) := by have := (L'.1 2 (by omega)).1; rw [s2, s2c, s2E] at this; exact this
  have l3 : Ls K h' (x + 6) (e 3) (c 3) (E 3) := by have := (L'.1 3 (by omega)).1; rw [s3, s3c, s3E] at this; exact this
  rw [i6] at l2
  rw [i7] at l3
  refine ⟨Fr_wf F i1, ?_, L', h6, ?_, by rw [s2c]; exact i6, by rw [s3c]; exact i7, by rw [s4c]; exact i8, by rw [s2E]; exact i9, ?_, ?_⟩
  · refine MSh_fr MS F (fun r hr w => ?_)
    have h1 : ∀ r, r ∈ mRs → r.1 < 94 := by decide
    have rg : RgM (x + 29) (x + 29 + r.1) := ⟨by omega, by have := h1 r hr; omega⟩
    have := mKs_kind MS rg
    exact OkW_m MS (hW _ _ (by omega) w) rg
  · rw [s2, s2E, s3, s3E]
    refine ⟨?_, ⟨l2, X.2.1.2.1, fun v hv => ?_⟩, ⟨l3, X.2.2.1.2.1, fun v hv => ?_⟩, ?_⟩
    · refine XSh_fr H F (fun p hp w => ?_)
      have h1 : ∀ p, p ∈ xRs → p.1 < 29 ∧ xKs.getD p.1 0 ≠ 0 := by decide
      exact OkW_ref H hp (hW _ _ (by rw [H.1 p.1 (h1 p hp).1]; exact (h1 p hp).2) w)
    · have gg := X.2.1.2.2 v hv
      obtain ⟨f1, f4⟩ := rdI (E 2 v) (by omega)
      rw [f1]
      simp only [f4]
      exact gg
    · have gg := X.2.2.1.2.2 v hv
      obtain ⟨f1, f4⟩ := rdI (E 3 v) (by omega)
      rw [f1]
      simp only [f4]
      exact gg
    · have hb := X.2.2.2
      exact XB_fr hb F (by omega) (nx 5 (by omega)) (nx 7 (by omega)) (fun j => ne _ j (by have := hb.2.1; omega))
  · rw [s4E]
    exact XMo_fr i10 F (fun u hu j => ne _ _ (by have := (i10 u hu).1; omega))
  · exact XTx_fr i11 F (by omega) (by omega) (nx 6 (by omega)) (fun j => ne _ _ (by omega))
/-- the core where the lists stay -/
theorem XC_fr0 {K : Nat → Nat} {x : Nat} {h h' : AH} {e c : Nat → Nat} {E : Nat → Nat → Nat} {b : Nat} {Z : Zt} {cc ss : Nat} {W : Nat → Nat → Prop} (I : XC K x h e c E b Z) (F : Fr cc ss W h h') (hW : ∀ a j, h.kind a ≠ 0 → W a j → OkW x h a j ∧ h.kind a ≠ 3 ∧ h.kind a ≠ 34) : XC K x h' e c E b Z := by
  refine XC_fr I F ?_ I.2.2.2.1 (fun _ _ _ => ⟨rfl, rfl, rfl⟩) (fun a j ha w => (hW a j ha w).1)
  have i3 := I.2.2.1
  have H := I.2.2.2.2.1.1
  refine LL_fr i3 F (fun i j hi _ w => ?_) (fun i j hi _ w => ?_)
  · have k := (i3.1 i hi).1.1
    exact (hW _ _ (by omega) w).2.1 k
  · have k := (Ls_kinds (i3.1 i hi).1).2
    have w2 := hW _ _ (by omega) w
    rcases k with k | k
    · exact w2.2.2 k
    · exact OkW_no H (by omega) j w2.1
