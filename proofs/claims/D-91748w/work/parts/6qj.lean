/-! PURE PART QJ: frames; lists that grow -/
set_option maxRecDepth 100000
def Wf (h : AH) : Prop := ∀ a, h.n ≤ a → h.kind a = 0
/-- what a piece of code leaves: at most c cells and s slots more; old cells are as they were but at W -/
def Fr (c s : Nat) (W : Nat → Nat → Prop) (h h' : AH) : Prop := (Wf h → Wf h') ∧ h.n ≤ h'.n ∧ h'.n ≤ h.n + c ∧ h.sl ≤ h'.sl ∧ h'.sl ≤ h.sl + s ∧ ∀ a, h.kind a ≠ 0 → h'.kind a = h.kind a ∧ h'.len a = h.len a ∧ ∀ j, ¬ W a j → h'.I a j = h.I a j ∧ h'.L a j = h.L a j ∧ h'.R a j = h.R a j
theorem Fr_refl {W : Nat → Nat → Prop} (h : AH) : Fr 0 0 W h h := ⟨id, Nat.le_refl _, Nat.le_refl _, Nat.le_refl _, Nat.le_refl _, fun _ _ => ⟨rfl, rfl, fun _ _ => ⟨rfl, rfl, rfl⟩⟩⟩
theorem Fr_mono {c s c' s' : Nat} {W W' : Nat → Nat → Prop} {h h' : AH} (F : Fr c s W h h') (hc : c ≤ c') (hs : s ≤ s') (hW : ∀ a j, h.kind a ≠ 0 → W a j → W' a j) : Fr c' s' W' h h' := by
  obtain ⟨f1, f2, f3, f4, f5, f6⟩ := F
  refine ⟨f1, f2, by omega, f4, by omega, fun a ha => ?_⟩
  obtain ⟨g1, g2, g3⟩ := f6 a ha
  exact ⟨g1, g2, fun j hj => g3 j (fun z => hj (hW a j ha z))⟩
theorem Fr_trans {c1 s1 c2 s2 : Nat} {W1 W2 W : Nat → Nat → Prop} {h h1 h2 : AH} (F1 : Fr c1 s1 W1 h h1) (F2 : Fr c2 s2 W2 h1 h2) (i1 : ∀ a j, h.kind a ≠ 0 → W1 a j → W a j) (i2 : ∀ a j, h.kind a ≠ 0 → W2 a j → W a j) : Fr (c1 + c2) (s1 + s2) W h h2 := by
  obtain ⟨f1, f2, f3, f4, f5, f6⟩ := F1
  obtain ⟨g1, g2, g3, g4, g5, g6⟩ := F2
  refine ⟨fun w => g1 (f1 w), by omega, by omega, by omega, by omega, fun a ha => ?_⟩
  obtain ⟨k1, k2, k3⟩ := f6 a ha
  obtain ⟨m1, m2, m3⟩ := g6 a (by rw [k1]; exact ha)
  refine ⟨m1.trans k1, m2.trans k2, fun j hj => ?_⟩
  obtain ⟨p1, p2, p3⟩ := k3 j (fun z => hj (i1 a j ha z))
  obtain ⟨q1, q2, q3⟩ := m3 j (fun z => hj (i2 a j ha z))
  exact ⟨q1.trans p1, q2.trans p2, q3.trans p3⟩
theorem Fr_setI {W : Nat → Nat → Prop} (h : AH) (a j : Nat) (v : Int32) (hw : h.kind a ≠ 0 → W a j) : Fr 0 0 W h (h.setI a j v) := by
  refine ⟨id, Nat.le_refl _, Nat.le_refl _, Nat.le_refl _, Nat.le_refl _, fun b hb => ⟨rfl, rfl, fun k hk => ⟨?_, rfl, rfl⟩⟩⟩
  rw [AH.I_setI, if_neg]
  rintro ⟨rfl, rfl⟩
  exact hk (hw hb)
theorem Fr_setL {W : Nat → Nat → Prop} (h : AH) (a j : Nat) (v : Int64) (hw : h.kind a ≠ 0 → W a j) : Fr 0 0 W h (h.setL a j v) := by
  refine ⟨id, Nat.le_refl _, Nat.le_refl _, Nat.le_refl _, Nat.le_refl _, fun b hb => ⟨rfl, rfl, fun k hk => ⟨rfl, ?_, rfl⟩⟩⟩
  rw [AH.L_setL, if_neg]
  rintro ⟨rfl, rfl⟩
  exact hk (hw hb)
theorem Fr_setR {W : Nat → Nat → Prop} (h : AH) (a j : Nat) (v : Option Nat) (hw : h.kind a ≠ 0 → W a j) : Fr 0 0 W h (h.setR a j v) := by
  refine ⟨id, Nat.le_refl _, Nat.le_refl _, Nat.le_refl _, Nat.le_refl _, fun b hb => ⟨rfl, rfl, fun k hk => ⟨rfl, rfl, ?_⟩⟩⟩
  rw [AH.R_setR, if_neg]
  rintro ⟨rfl, rfl⟩
  exact hk (hw hb)
theorem Fr_new {W : Nat → Nat → Prop} {h : AH} (wf : Wf h) (k m w : Nat) : Fr 1 w W h (h.new k m w) := by
  have h0 := wf h.n (Nat.le_refl _)
  refine ⟨fun _ a ha => ?_, Nat.le_succ _, Nat.le_refl _, Nat.le_add_right _ _, Nat.le_refl _, fun b hb => ?_⟩
  · rw [AH.n_new] at ha
    rw [AH.kind_new, if_neg (by omega)]
    exact wf a (by omega)
  · have hne : b ≠ h.n := by intro e; rw [e] at hb; exact hb h0
    rw [AH.kind_new, AH.len_new, if_neg hne, if_neg hne]
    refine ⟨rfl, rfl, fun j _ => ?_⟩
    rw [AH.I_new, AH.L_new, AH.R_new, if_neg hne, if_neg hne, if_neg hne]
    exact ⟨rfl, rfl, rfl⟩
theorem Fr_cpyR {W : Nat → Nat → Prop} (h : AH) (a sp b dp m : Nat) (hw : h.kind b ≠ 0 → ∀ j, W b j) : Fr 0 0 W h (h.cpyR a sp b dp m) := by
  refine ⟨id, Nat.le_refl _, Nat.le_refl _, Nat.le_refl _, Nat.le_refl _, fun c hc => ⟨rfl, rfl, fun k hk => ⟨rfl, rfl, ?_⟩⟩⟩
  rw [AH.R_cpyR, if_neg]
  rintro rfl
  exact hk (hw hc k)
/-- only ints are other -/
theorem Fr_of {W : Nat → Nat → Prop} {h h' : AH} (h1 : h'.1 = h.1) (hk : h'.kind = h.kind) (hl : h'.len = h.len) (hL : h'.L = h.L) (hR : h'.R = h.R) (hI : ∀ a j, ¬ W a j → h'.I a j = h.I a j) : Fr 0 0 W h h' := by
  have hn : h'.n = h.n := congrArg Prod.fst h1
  have hs : h'.sl = h.sl := congrArg Prod.snd h1
  refine ⟨fun w a ha => ?_, by omega, by omega, by omega, by omega, fun a _ => ⟨by rw [hk], by rw [hl], fun j hj => ⟨hI a j hj, by rw [hL], by rw [hR]⟩⟩⟩
  rw [hk]; exact w a (by omega)
theorem Fr_wf {c s : Nat} {W : Nat → Nat → Prop} {h h' : AH} (F : Fr c s W h h') (w : Wf h) : Wf h' := F.1 w
/-! the seven lists -/
def loL (i : Nat) : Nat := [3, 4, 5, 6, 7, 9, 10].getD i 0
def LL (K : Nat → Nat) (h : AH) (x : Nat) (e c : Nat → Nat) (E : Nat → Nat → Nat) : Prop :=
  (∀ i, i < 7 → Ls K h (x + loL i) (e i) (c i) (E i) ∧ (h.kind (e i) = 34 → 10 ≤ h.len (e i)) ∧ (∀ k, k < c i → 7 ≤ h.kind (E i k) ∧ h.kind (E i k) ≤ 14)) ∧ (∀ i j, i < 7 → j < 7 → i ≠ j → e i = e j → h.kind (e i) = 44)
theorem Ls_kinds {K : Nat → Nat} {h : AH} {l e c : Nat} {E : Nat → Nat} (H : Ls K h l e c E) : h.kind l = 3 ∧ (h.kind e = 34 ∨ h.kind e = 44) := by
  refine ⟨H.1, ?_⟩
  rcases H.2.2.2.2 with ⟨_, _, h1, _⟩ | ⟨h1, _⟩
  · exact Or.inr h1
  · exact Or.inl h1
theorem Ls_fr {K : Nat → Nat} {h h' : AH} {l e c : Nat} {E : Nat → Nat} {cc ss : Nat} {W : Nat → Nat → Prop} (H : Ls K h l e c E) (F : Fr cc ss W h h') (h1 : ∀ j, j < 3 → ¬ W l j) (h2 : ∀ j, j < c → ¬ W e j) : Ls K h' l e c E := by
  obtain ⟨k1, k2⟩ := Ls_kinds H
  obtain ⟨a1, a2, a3⟩ := F.2.2.2.2.2 l (by omega)
  obtain ⟨b1, b2, b3⟩ := F.2.2.2.2.2 e (by omega)
  obtain ⟨g1, g2, g3, g4, g5⟩ := H
  refine ⟨by rw [a1]; exact g1, by rw [(a3 2 (h1 2 (by omega))).1]; exact g2, g3, by rw [(a3 1 (h1 1 (by omega))).2.2]; exact g4, ?_⟩
  rw [b1, b2]
  rcases g5 with g5 | ⟨g5, g6, g7, g8⟩
  · exact Or.inl g5
  · refine Or.inr ⟨g5, g6, g7, fun i hi => ?_⟩
    rw [(b3 i (h2 i hi)).2.2]; exact g8 i hi
theorem LL_fr {K : Nat → Nat} {h h' : AH} {x : Nat} {e c : Nat → Nat} {E : Nat → Nat → Nat} {cc ss : Nat} {W : Nat → Nat → Prop} (H : LL K h x e c E) (F : Fr cc ss W h h') (h1 : ∀ i j, i < 7 → j < 3 → ¬ W (x + loL i) j) (h2 : ∀ i j, i < 7 → j < c i → ¬ W (e i) j) : LL K h' x e c E := by
  refine ⟨fun i hi => ?_, fun i j hi hj hne he => ?_⟩
  · obtain ⟨g1, g2, g3⟩ := H.1 i hi
    have ke := (Ls_kinds g1).2
    obtain ⟨b1, b2, b3⟩ := F.2.2.2.2.2 (e i) (by omega)
    refine ⟨Ls_fr g1 F (fun j hj => h1 i j hi hj) (fun j hj => h2 i j hi hj), by rw [b1, b2]; exact g2, fun k hk => ?_⟩
    have := g3 k hk
    rw [(F.2.2.2.2.2 (E i k) (by omega)).1]; exact this
  · have ke := (Ls_kinds (H.1 i hi).1).2
    rw [(F.2.2.2.2.2 (e i) (by omega)).1]
    exact H.2 i j hi hj hne he
/-! growing -/
theorem shr1 {k : Nat} (h : k < 2 ^ 31) : nI k >>> ((1 : Int32) &&& 31) = nI (k / 2) := by
  have := pk_shrN h ((1 : Int32) &&& 31) 1 (by decide)
  simpa using this
theorem l_grow {n : Nat} {K : Nat → Nat} {h : AH} {l e c : Nat} {E : Nat → Nat} (wf : Wf h) (H : Ls K h l e c E) (h10 : h.kind e = 34 → 10 ≤ h.len e) (hE : ∀ k, k < c → 7 ≤ h.kind (E k) ∧ h.kind (E k) ≤ 14) (hc : c < 100000) (hfull : c = h.len e) : ∃ N h', F_J2_grow n K l h = some (some h.n, h') ∧ c < N ∧ 10 ≤ N ∧ (N ≤ 10 + 2 * c ∧ N + 4 * h.len e ≤ 4 * N) ∧ h'.n = h.n + 1 ∧ h'.sl = h.sl + N ∧ (∀ b, h'.kind b = if b = h.n then 34 else h.kind b) ∧ (∀ b, h'.len b = if b = h.n then N else h.len b) ∧ (∀ b, b ≠ h.n → ∀ j, h'.I b j = h.I b j ∧ h'.L b j = h.L b j ∧ (¬ (b = l ∧ j = 1) → h'.R b j = h.R b j)) ∧ h'.R l 1 = some h.n ∧ ∀ i, i < c → h'.R h.n i = some (E i) := by
  have h0 := wf h.n (Nat.le_refl _)
  obtain ⟨g1, g2, g3, g4, g5⟩ := H
  have ln : l ≠ h.n := by intro z; rw [z] at g1; omega
  rcases g5 with ⟨c0, eK, ke, le⟩ | ⟨ke, g6, g7, g8⟩
  · subst c0
    subst eK
    have z1 : (0 < nI 0) = False := eq_false (by decide)
    have z2 : (if (10 : Int32) < nI 0 + 1 then nI 0 + 1 else 10) = nI 10 := by decide
    have z3 : ix (nI 10) = 10 := by decide
    have z4 : (0 ≤ (nI 10).toInt ∧ (nI 10).toInt ≤ 60000000) = True := eq_true (by decide)
    refine ⟨10, (h.new 34 10 10).setR l 1 (some h.n), ?_, by omega, by omega, by omega, rfl, rfl, ?_, ?_, ?_, ?_, fun i hi => by omega⟩
    · simp only [F_J2_grow, F_J2_grow_2, g1, g2, g4, ke, le, z1, z2, z3, z4, chk_true, bnd_some, ob_some, oc_some, oc_none, hl_eq, jn_eq, ix_0, ix_1, if_true, if_false, inb0_2, inb1_2, not_true_eq_false, not_false_eq_true, ite_true, ite_false, true_or, or_true, or_self, zero_eq_one_I, one_eq_zero_I, AH.kind_new, ln, or_true]
    · intro b; rw [AH.kind_setR, AH.kind_new]
    · intro b; rw [AH.len_setR, AH.len_new]
    · intro b hb j
      refine ⟨?_, ?_, ?_⟩
      · rw [AH.I_setR, AH.I_new, if_neg hb]
      · rw [AH.L_setR, AH.L_new, if_neg hb]
      · intro hj; rw [AH.R_setR, if_neg hj, AH.R_new, if_neg hb]
    · rw [AH.R_setR, if_pos ⟨rfl, rfl⟩]
  · have en : e ≠ h.n := by intro z; rw [z] at ke; omega
    have le10 := h10 ke
    have z1 : (0 < nI (h.len e)) = True := eq_true (by rw [← nI_0]; exact nI_lt (by omega) (by omega))
    have z2 : nI c + 1 - nI (h.len e) = nI 1 := by rw [nI_1, pk_sub (by omega)]; congr 1; omega
    have z3 : (if nI 1 < nI (h.len e / 2) then nI (h.len e / 2) else nI 1) = nI (h.len e / 2) := by
      rw [if_pos (nI_lt (by omega) (by omega))]
    have z4 : (nI (h.len e + h.len e / 2) ≤ 0) = False := eq_false (nI_nle (by omega) (by omega))
    have z5 : ((2147483639 : Int32) < nI (h.len e + h.len e / 2)) = False := eq_false (by
      rw [show (2147483639 : Int32) = nI 2147483639 from rfl, nI_ltI (by omega) (by omega)]; omega)
    have z6 : (0 ≤ (nI (h.len e + h.len e / 2)).toInt ∧ (nI (h.len e + h.len e / 2)).toInt ≤ 60000000) = True := eq_true (by
      rw [nI_toInt (by omega)]; omega)
    have z7 : ix (nI (h.len e + h.len e / 2)) = h.len e + h.len e / 2 := ix_nI (by omega)
    have z8 : (if nI (h.len e + h.len e / 2) < nI (h.len e) then nI (h.len e + h.len e / 2) else nI (h.len e)) = nI (h.len e) := if_neg (nI_nlt (by omega) (by omega))
    have z9 : ix (nI (h.len e)) = h.len e := ix_nI (by omega)
    have z10 : (0 : Int32).toInt = 0 := rfl
    have z11 : ((0 ≤ (0 : Int32).toInt ∧ 0 ≤ (0 : Int32).toInt ∧ 0 ≤ (nI (h.len e)).toInt) ∧ 0 + h.len e ≤ h.len e ∧ 0 + h.len e ≤ h.len e + h.len e / 2) = True := eq_true (by
      rw [nI_toInt (by omega), z10]; omega)
    have z12 : (∀ i, i < h.len e → okE (h.new 34 (h.len e + h.len e / 2) (h.len e + h.len e / 2)) ((h.new 34 (h.len e + h.len e / 2) (h.len e + h.len e / 2)).R e (0 + i)) = true) = True := eq_true (by
      intro i hi
      rw [AH.R_new, if_neg en, Nat.zero_add, g8 i (by omega)]
      have := hE i (by omega)
      show decide _ = true
      rw [AH.kind_new, if_neg (by intro z; rw [z] at this; omega)]
      exact decide_eq_true this)
    refine ⟨h.len e + h.len e / 2, ((h.new 34 (h.len e + h.len e / 2) (h.len e + h.len e / 2)).cpyR e 0 h.n 0 (h.len e)).setR l 1 (some h.n), ?_, by omega, by omega, by omega, rfl, rfl, ?_, ?_, ?_, ?_, ?_⟩
    · simp only [F_J2_grow, F_J2_grow_2, F_J12_newLength, F_J13_copyOf, F_J13_copyOf_2, g1, g2, g4, ke, chk_true, bnd_some, ob_some, oc_some, oc_none, hl_eq, jn_eq, ix_0, ix_1, if_true, if_false, inb0_2, inb1_2, not_true_eq_false, not_false_eq_true, ite_true, ite_false, true_or, or_true, or_self, zero_eq_one_I, one_eq_zero_I, shr1 (show h.len e < 2 ^ 31 by omega), z1, z2, z3, nI_add, z4, z5, z6, z7, AH.kind_new, AH.len_new, en, z8, z9, z11, z12, AH.kind_cpyR, ln, true_or]
    · intro b; rw [AH.kind_setR, AH.kind_cpyR, AH.kind_new]
    · intro b; rw [AH.len_setR, AH.len_cpyR, AH.len_new]
    · intro b hb j
      refine ⟨?_, ?_, ?_⟩
      · rw [AH.I_setR, AH.I_cpyR, AH.I_new, if_neg hb]
      · rw [AH.L_setR, AH.L_cpyR, AH.L_new, if_neg hb]
      · intro hj; rw [AH.R_setR, if_neg hj, AH.R_cpyR, if_neg hb, AH.R_new, if_neg hb]
    · rw [AH.R_setR, if_pos ⟨rfl, rfl⟩]
    · intro i hi
      rw [AH.R_setR, if_neg (by intro z; exact ln z.1.symm), AH.R_cpyR, if_pos rfl, pk_cpy_in (by omega) (by omega), AH.R_new, if_neg en]
      rw [show 0 + (i - 0) = i by omega]
      exact g8 i hi
