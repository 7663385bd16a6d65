/-! PURE PART RD: the seven lists, inserting -/
set_option maxRecDepth 100000
theorem LL_ins {n : Nat} {K : Nat → Nat} {h : AH} {x : Nat} {e c : Nat → Nat} {E : Nat → Nat → Nat} (wf : Wf h) (H : LL K h x e c E) {i : Nat} (hi : i < 7) (hc : c i < 100000) {q : Nat} (hq : q ≤ c i) {a : Nat} (ha : 7 ≤ h.kind a ∧ h.kind a ≤ 14) : ∃ e' h', F_J2_add_3 n K (x + loL i) (nI q) (some a) h = some ((), h') ∧ LL K h' x (up1 e i e') (up1 c i (c i + 1)) (up1 E i (insF q a (E i))) ∧ Fr 1 (10 + 2 * c i) (fun b j => b = x + loL i ∨ (b = e i ∧ h.kind (e i) = 34)) h h' ∧ (h'.sl + 4 * h.len (e i) ≤ h.sl + 4 * h'.len e' ∧ (h'.len e' ≤ h.len (e i) ∨ h'.len e' ≤ 10 + 2 * c i)) := by
  obtain ⟨g1, g2, g3⟩ := H.1 i hi
  obtain ⟨e', h', q1, q2, q3, q4, q5, q6, q7⟩ := l_ins1 (n := n) wf g1 g2 g3 hc hq ha
  refine ⟨e', h', q1, ⟨fun j hj => ?_, fun j1 j2 h1 h2 hne he => ?_⟩, q5, q7⟩
  · by_cases c1 : j = i
    · subst c1
      have u1 : up1 e j e' j = e' := if_pos rfl
      have u2 : up1 c j (c j + 1) j = c j + 1 := if_pos rfl
      have u3 : up1 E j (insF q a (E j)) j = insF q a (E j) := if_pos rfl
      rw [u1, u2, u3]
      refine ⟨q2, fun _ => q4, fun k hk => ?_⟩
      unfold insF
      by_cases ck : k < q
      · rw [if_pos ck]
        have := g3 k (by omega)
        rw [(q5.2.2.2.2.2 (E j k) (by omega)).1]; exact this
      · rw [if_neg ck]
        by_cases ck2 : k = q
        · rw [if_pos ck2, (q5.2.2.2.2.2 a (by omega)).1]; exact ha
        · rw [if_neg ck2]
          have := g3 (k - 1) (by omega)
          rw [(q5.2.2.2.2.2 (E j (k - 1)) (by omega)).1]; exact this
    · have u1 : up1 e i e' j = e j := if_neg c1
      have u2 : up1 c i (c i + 1) j = c j := if_neg c1
      have u3 : up1 E i (insF q a (E i)) j = E j := if_neg c1
      rw [u1, u2, u3]
      obtain ⟨m1, m2, m3⟩ := H.1 j hj
      have ke := (Ls_kinds m1).2
      obtain ⟨b1, b2, b3⟩ := q5.2.2.2.2.2 (e j) (by omega)
      refine ⟨Ls_fr m1 q5 ?_ ?_, by rw [b1, b2]; exact m2, fun k hk => ?_⟩
      · rintro k hk (z | ⟨z, z2⟩)
        · exact c1 (loL_inj hj hi (by omega))
        · have := m1.1; rw [z] at this; omega
      · rintro k hk (z | ⟨z, z2⟩)
        · have := g1.1; rw [← z] at this; omega
        · have := H.2 j i hj hi c1 z
          rw [z] at this; omega
      · have := m3 k hk
        rw [(q5.2.2.2.2.2 (E j k) (by omega)).1]; exact this
  · have other : ∀ j, j < 7 → j ≠ i → e j = e' → h.kind (e j) = 44 := by
      intro j hj hji hej
      rcases q6 with ⟨z1, z2⟩ | z1
      · exact H.2 j i hj hi hji (hej.trans z1)
      · have ke := (Ls_kinds (H.1 j hj).1).2
        rw [hej, z1] at ke
        have := wf h.n (Nat.le_refl _)
        omega
    have kk : ∀ j, j < 7 → h'.kind (e j) = h.kind (e j) := fun j hj => (q5.2.2.2.2.2 (e j) (by have := (Ls_kinds (H.1 j hj).1).2; omega)).1
    by_cases c1 : j1 = i
    · subst c1
      have u1 : up1 e j1 e' j1 = e' := if_pos rfl
      have u2 : up1 e j1 e' j2 = e j2 := if_neg (fun z => hne z.symm)
      rw [u1, u2] at he
      have := other j2 h2 (fun z => hne z.symm) he.symm
      rw [u1, he, kk j2 h2]; exact this
    · have u1 : up1 e i e' j1 = e j1 := if_neg c1
      rw [u1] at he ⊢
      by_cases c2 : j2 = i
      · subst c2
        have u2 : up1 e j2 e' j2 = e' := if_pos rfl
        rw [u2] at he
        rw [kk j1 h1]; exact other j1 h1 c1 he
      · have u2 : up1 e i e' j2 = e j2 := if_neg c2
        rw [u2] at he
        rw [kk j1 h1]; exact H.2 j1 j2 h1 h2 hne he
