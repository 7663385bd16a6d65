/-! PURE PART RB: lists that are cleared -/
set_option maxRecDepth 100000
def AH.clr (h : AH) (e : Nat) (k : Nat) : AH := foldS (fun k g => AH.setR g e k none) h k
theorem clr_s (h : AH) (e k : Nat) : h.clr e (k + 1) = (h.clr e k).setR e k none := rfl
theorem clr_1 (h : AH) (e : Nat) : ∀ k, (h.clr e k).1 = h.1 := by
  intro k
  induction k with
  | zero => rfl
  | succ k ih => rw [clr_s]; exact ih
theorem clr_kind (h : AH) (e : Nat) : ∀ k, (h.clr e k).kind = h.kind := by
  intro k
  induction k with
  | zero => rfl
  | succ k ih => rw [clr_s, AH.kind_setR]; exact ih
theorem clr_len (h : AH) (e : Nat) : ∀ k, (h.clr e k).len = h.len := by
  intro k
  induction k with
  | zero => rfl
  | succ k ih => rw [clr_s, AH.len_setR]; exact ih
theorem clr_I (h : AH) (e : Nat) : ∀ k, (h.clr e k).I = h.I := by
  intro k
  induction k with
  | zero => rfl
  | succ k ih => rw [clr_s, AH.I_setR]; exact ih
theorem clr_L (h : AH) (e : Nat) : ∀ k, (h.clr e k).L = h.L := by
  intro k
  induction k with
  | zero => rfl
  | succ k ih => rw [clr_s, AH.L_setR]; exact ih
theorem clr_R (h : AH) (e b j : Nat) : ∀ k, (h.clr e k).R b j = if b = e ∧ j < k then none else h.R b j := by
  intro k
  induction k with
  | zero => rw [if_neg (by omega)]; rfl
  | succ k ih =>
    rw [clr_s, AH.R_setR, ih]
    by_cases c : b = e ∧ j = k
    · rw [if_pos c, if_pos ⟨c.1, by omega⟩]
    · rw [if_neg c]
      by_cases c2 : b = e ∧ j < k
      · rw [if_pos c2, if_pos ⟨c2.1, by omega⟩]
      · rw [if_neg c2, if_neg (by omega)]
theorem l_clear {n : Nat} {K : Nat → Nat} {h : AH} {l e c : Nat} {E : Nat → Nat} (hn : 20000 < n) (H : Ls K h l e c E) (hc : c ≤ 6000) : F_J2_clear n K l h = some ((), ((h.setI l 0 (h.I l 0 + 1)).setI l 2 0).clr e c) := by
  obtain ⟨g1, g2, g3, g4, g5⟩ := H
  have i2 : (h.setI l 0 (h.I l 0 + 1)).I l 2 = nI c := by rw [AH.I_setI, if_neg (by omega)]; exact g2
  have key := loopU (fun f i (s : AH) => F_J2_clear_L27 n K (nI c) (some e) f i s) c (fun k s => s = ((h.setI l 0 (h.I l 0 + 1)).setI l 2 0).clr e k) (fun o => o = some ((), ((h.setI l 0 (h.I l 0 + 1)).setI l 2 0).clr e c))
    (by
      intro f k s hk hs
      right
      refine ⟨_, rfl, ?_⟩
      rcases g5 with ⟨z, _⟩ | ⟨ke, g6, g7, g8⟩
      · omega
      have e1 : ix (nI k) = k := ix_nI (by omega)
      have e2 : inb (nI k) (h.len e) = True := eq_true ((inb_nI (by omega)).2 (by omega))
      have e3 : (nI c ≤ nI k) = False := eq_false (nI_ge hk (by omega))
      have k1 : s.kind e = 34 := by rw [hs, clr_kind]; exact ke
      have k2 : s.len e = h.len e := by rw [hs, clr_len]; rfl
      rw [clr_s, ← hs]
      simp only [F_J2_clear_L27, chk_true, bnd_some, ob_some, oc_some, oc_none, hl_eq, jn_eq, ix_0, ix_1, if_true, if_false, inb0_2, inb1_2, not_true_eq_false, not_false_eq_true, ite_true, ite_false, true_or, or_true, or_self, zero_eq_one_I, one_eq_zero_I, e1, e2, e3, k1, k2, nI_1])
    (by
      intro f s hs
      have e3 : (nI c ≤ nI c) = True := eq_true (nI_le (Nat.le_refl _) (by omega))
      simp only [F_J2_clear_L27, chk_true, bnd_some, ob_some, oc_some, oc_none, hl_eq, jn_eq, ix_0, ix_1, if_true, if_false, inb0_2, inb1_2, not_true_eq_false, not_false_eq_true, ite_true, ite_false, true_or, or_true, or_self, zero_eq_one_I, one_eq_zero_I, e3, hs])
  have k := key c 0 _ n (by omega) (by omega) rfl
  simp only [F_J2_clear, chk_true, bnd_some, ob_some, oc_some, oc_none, hl_eq, jn_eq, ix_0, ix_1, if_true, if_false, inb0_2, inb1_2, not_true_eq_false, not_false_eq_true, ite_true, ite_false, true_or, or_true, or_self, zero_eq_one_I, one_eq_zero_I, AH.n_setI, AH.n_setL, AH.n_setR, AH.sl_setI, AH.sl_setL, AH.sl_setR, AH.kind_setI, AH.kind_setL, AH.kind_setR, AH.len_setI, AH.len_setL, AH.len_setR, AH.I_setL, AH.I_setR, AH.L_setI, AH.L_setR, AH.R_setI, AH.R_setL, g1, g4, i2]
  exact k
theorem LL_clear {n : Nat} {K : Nat → Nat} {h : AH} {x : Nat} {e c : Nat → Nat} {E : Nat → Nat → Nat} (hn : 20000 < n) (H : LL K h x e c E) {i : Nat} (hi : i < 7) (hc : c i ≤ 6000) : ∃ h', F_J2_clear n K (x + loL i) h = some ((), h') ∧ LL K h' x e (up1 c i 0) E ∧ Fr 0 0 (fun b j => b = x + loL i ∨ (b = e i ∧ j < c i ∧ h.kind (e i) = 34)) h h' := by
  obtain ⟨g1, g2, g3⟩ := H.1 i hi
  have el : e i ≠ x + loL i := by
    intro z
    have a := (Ls_kinds g1).2
    have b := g1.1
    rw [← z] at b; omega
  have F : Fr 0 0 (fun b j => b = x + loL i ∨ (b = e i ∧ j < c i ∧ h.kind (e i) = 34)) h (((h.setI (x + loL i) 0 (h.I (x + loL i) 0 + 1)).setI (x + loL i) 2 0).clr (e i) (c i)) := by
    refine ⟨fun w a ha => ?_, ?_, ?_, ?_, ?_, fun a ha => ⟨?_, ?_, fun j hj => ⟨?_, ?_, ?_⟩⟩⟩
    · rw [clr_kind]
      have t : (((h.setI (x + loL i) 0 (h.I (x + loL i) 0 + 1)).setI (x + loL i) 2 0).clr (e i) (c i)).n = h.n := congrArg Prod.fst (clr_1 _ (e i) (c i))
      exact w a (by omega)
    · have t : (((h.setI (x + loL i) 0 (h.I (x + loL i) 0 + 1)).setI (x + loL i) 2 0).clr (e i) (c i)).n = h.n := congrArg Prod.fst (clr_1 _ (e i) (c i))
      omega
    · have t : (((h.setI (x + loL i) 0 (h.I (x + loL i) 0 + 1)).setI (x + loL i) 2 0).clr (e i) (c i)).n = h.n := congrArg Prod.fst (clr_1 _ (e i) (c i))
      omega
    · have t : (((h.setI (x + loL i) 0 (h.I (x + loL i) 0 + 1)).setI (x + loL i) 2 0).clr (e i) (c i)).sl = h.sl := congrArg Prod.snd (clr_1 _ (e i) (c i))
      omega
    · have t : (((h.setI (x + loL i) 0 (h.I (x + loL i) 0 + 1)).setI (x + loL i) 2 0).clr (e i) (c i)).sl = h.sl := congrArg Prod.snd (clr_1 _ (e i) (c i))
      omega
    · rw [clr_kind]; rfl
    · rw [clr_len]; rfl
    · rw [clr_I, AH.I_setI, if_neg (fun z => hj (Or.inl z.1)), AH.I_setI, if_neg (fun z => hj (Or.inl z.1))]
    · rw [clr_L]; rfl
    · rw [clr_R, if_neg]
      · rfl
      · rintro ⟨z1, z2⟩
        refine hj (Or.inr ⟨z1, z2, ?_⟩)
        rcases g1.2.2.2.2 with ⟨y, _⟩ | ⟨y, _⟩
        · omega
        · exact y
  refine ⟨_, l_clear hn g1 hc, ⟨fun j hj => ?_, fun j1 j2 h1 h2 hne he => ?_⟩, F⟩
  · obtain ⟨m1, m2, m3⟩ := H.1 j hj
    by_cases z : j = i
    · subst z
      have u2 : up1 c j 0 j = 0 := if_pos rfl
      rw [u2]
      refine ⟨⟨?_, ?_, by omega, ?_, ?_⟩, ?_, fun k hk => by omega⟩
      · rw [clr_kind]; exact g1.1
      · rw [clr_I, AH.I_setI, if_pos ⟨rfl, rfl⟩]; rfl
      · rw [clr_R, if_neg (fun y => el y.1.symm)]; exact g1.2.2.2.1
      · rw [clr_kind, clr_len]
        rcases g1.2.2.2.2 with ⟨y1, y2, y3, y4⟩ | ⟨y1, y2, y3, y4⟩
        · exact Or.inl ⟨rfl, y2, y3, y4⟩
        · exact Or.inr ⟨y1, Nat.zero_le _, y3, fun k hk => by omega⟩
      · rw [clr_kind, clr_len]; exact m2
    · have u2 : up1 c i 0 j = c j := if_neg z
      rw [u2]
      have ke := (Ls_kinds m1).2
      obtain ⟨b1, b2, b3⟩ := F.2.2.2.2.2 (e j) (by omega)
      refine ⟨Ls_fr m1 F ?_ ?_, by rw [b1, b2]; exact m2, fun k hk => ?_⟩
      · rintro k hk (y | ⟨y, _, y2⟩)
        · exact z (loL_inj hj hi (by omega))
        · have := m1.1; rw [y] at this; omega
      · rintro k hk (y | ⟨y, _, y2⟩)
        · have := g1.1; rw [← y] at this; omega
        · have := H.2 j i hj hi z y
          rw [y] at this; omega
      · have := m3 k hk
        rw [(F.2.2.2.2.2 (E j k) (by omega)).1]; exact this
  · have ke := (Ls_kinds (H.1 j1 h1).1).2
    rw [(F.2.2.2.2.2 (e j1) (by omega)).1]
    exact H.2 j1 j2 h1 h2 hne he
