/-! PURE PART TE: the sheet takes a sheet -/
set_option maxRecDepth 100000
theorem QRx_fr2 {x : Nat} {h h' : AH} {c c' : Nat → Nat} {E E' : Nat → Nat → Nat} {P : PSt} {cc ss : Nat} {W : Nat → Nat → Prop} (Q : QRx x h c E P) (k2 : h.kind (x + 2) = 2) (F : Fr cc ss W h h') (hW : ∀ a j, h.kind a ≠ 0 → W a j → h.kind a = 1 ∨ h.kind a = 3 ∨ h.kind a = 34) (s0 : c' 0 = c 0 ∧ E' 0 = E 0) (s1 : c' 1 = c 1 ∧ E' 1 = E 1) : QRx x h' c' E' P := by
  obtain ⟨⟨a1, a2, a3, a4, a5⟩, ⟨b1, b2, b3, b4⟩, ⟨c1, c2, c3⟩, bb, d1, d2, d3, d4, d5⟩ := Q
  have ny : ∀ j, h'.I (x + 2) j = h.I (x + 2) j ∧ h'.R (x + 2) j = h.R (x + 2) j := fun j => by
    have f := (F.2.2.2.2.2 (x + 2) (by omega)).2.2 j (fun w => by rcases hW _ _ (by omega) w with z | z | z <;> omega)
    exact ⟨f.1, f.2.2⟩
  have ob : ∀ a, (h.kind a = 4 ∨ (7 ≤ h.kind a ∧ h.kind a ≤ 11)) → h'.kind a = h.kind a ∧ ∀ j, h'.I a j = h.I a j := fun a ha => by
    obtain ⟨f1, f2, f3⟩ := F.2.2.2.2.2 a (by omega)
    exact ⟨f1, fun j => (f3 j (fun w => by rcases hW _ _ (by omega) w with z | z | z <;> omega)).1⟩
  unfold QRx
  rw [s0.1, s0.2, s1.1, s1.2]
  refine ⟨⟨by rw [(ny 4).1]; exact a1, a2, by rw [(ny 5).1]; exact a3, by rw [(ny 6).1]; exact a4, by rw [(ny 7).1]; exact a5⟩, ⟨b1, b2, fun v hv => ?_, b4⟩, ⟨c1, c2, fun p hp => ?_⟩, bb, by rw [(ny 10).2]; exact d1, ?_⟩
  · have g := b3 v hv
    obtain ⟨f1, f2⟩ := ob (E 0 v) (by omega)
    rw [f1]
    simp only [f2]
    exact g
  · have g := c3 p hp
    obtain ⟨f1, f2⟩ := ob (E 1 p) (by omega)
    rw [f1]
    simp only [f2]
    exact g
  · obtain ⟨f1, f2⟩ := ob bb (by omega)
    rw [f1]
    simp only [f2]
    exact ⟨d2, d3, d4, d5⟩
/-- the sheet while it takes over what was read -/
def DX (K : Nat → Nat) (x : Nat) (h0 : AH) (cc ss : Nat) (P : PSt) (e c : Nat → Nat) (E : Nat → Nat → Nat) (h : AH) : Prop := Fr cc ss (fun a _ => ¬ RgM (x + 29) a) h0 h ∧ Wf h ∧ MSh (x + 29) h ∧ LL K h x e c E ∧ (∀ i, i < 7 → c i ≤ 6000) ∧ XSh x h ∧ QRx x h c E P
theorem DX_step {K : Nat → Nat} {x : Nat} {h0 h h' : AH} {cc ss c1 s1 : Nat} {P : PSt} {e c e' c' : Nat → Nat} {E E' : Nat → Nat → Nat} (D : DX K x h0 cc ss P e c E h) {W : Nat → Nat → Prop} (F : Fr c1 s1 W h h') (hW : ∀ a j, h.kind a ≠ 0 → W a j → (a = x ∧ 5 ≤ j ∧ j ≤ 7) ∨ h.kind a = 3 ∨ h.kind a = 34) (L' : LL K h' x e' c' E') (h6 : ∀ i, i < 7 → c' i ≤ 6000) (s0 : c' 0 = c 0 ∧ E' 0 = E 0) (s1' : c' 1 = c 1 ∧ E' 1 = E 1) : DX K x h0 (cc + c1) (ss + s1) P e' c' E' h' := by
  obtain ⟨d1, d2, MS, d4, d5, H, Q⟩ := D
  have k0 := xs_k0 H
  have out : ∀ a j, h.kind a ≠ 0 → W a j → ¬ RgM (x + 29) a := fun a j ha w rg => by
    have := mKs_kind MS rg
    rcases hW a j ha w with z | z | z
    · rw [z.1] at rg; have := rg.1; omega
    · omega
    · omega
  refine ⟨?_, Fr_wf F d2, ?_, L', h6, ?_, ?_⟩
  · exact Fr_trans (W := fun a _ => ¬ RgM (x + 29) a) d1 (Fr_mono F (Nat.le_refl _) (Nat.le_refl _) (W' := fun a j => ¬ RgM (x + 29) a) out) (fun _ _ _ z => z) (fun a j _ z => z)
  · refine MSh_fr MS F (fun r hr w => ?_)
    have h1 : ∀ r, r ∈ mRs → r.1 < 94 := by decide
    have rg : RgM (x + 29) (x + 29 + r.1) := ⟨by omega, by have := h1 r hr; omega⟩
    have := mKs_kind MS rg
    exact out _ _ (by omega) w rg
  · refine XSh_fr H F (fun p hp w => ?_)
    have h1 : ∀ p, p ∈ xRs → p.1 < 29 ∧ xKs.getD p.1 0 ≠ 0 ∧ xKs.getD p.1 0 ≠ 3 ∧ xKs.getD p.1 0 ≠ 34 ∧ (p.1 = 0 → ¬ (5 ≤ p.2.1 ∧ p.2.1 ≤ 7)) := by decide
    obtain ⟨g1, g2, g3, g4, g5⟩ := h1 p hp
    have kk := H.1 p.1 g1
    rcases hW _ _ (by rw [kk]; exact g2) w with z | z | z
    · exact g5 (by omega) (by omega)
    · exact g3 (by rw [← kk]; exact z)
    · exact g4 (by rw [← kk]; exact z)
  · exact QRx_fr2 Q (xs_k2 H) F (fun a j ha w => by
      rcases hW a j ha w with z | z | z
      · left; rw [z.1]; exact k0
      · exact Or.inr (Or.inl z)
      · exact Or.inr (Or.inr z)) s0 s1'
theorem DX_clear {n : Nat} {K : Nat → Nat} {x : Nat} {h0 h : AH} {cc ss : Nat} {P : PSt} {e c : Nat → Nat} {E : Nat → Nat → Nat} (hn : 20000 < n) (D : DX K x h0 cc ss P e c E h) {i : Nat} (h2 : 2 ≤ i) (h7 : i < 7) : ∃ h', F_J2_clear n K (x + loL i) h = some ((), h') ∧ DX K x h0 cc ss P e (up1 c i 0) E h' ∧ Fr 0 0 (fun b j => h.kind b = 3 ∨ h.kind b = 34) h h' := by
  have i3 := D.2.2.2.1
  have i4 := D.2.2.2.2.1
  obtain ⟨h', q1, q2, q3⟩ := LL_clear (n := n) hn i3 (i := i) (by omega) (i4 i (by omega))
  have kl := (i3.1 i (by omega)).1.1
  have F : Fr 0 0 (fun b j => h.kind b = 3 ∨ h.kind b = 34) h h' := Fr_mono q3 (Nat.le_refl _) (Nat.le_refl _) (fun a j _ z => by
    rcases z with z | z
    · left; rw [z]; exact kl
    · right; rw [z.1]; exact z.2.2)
  refine ⟨h', q1, DX_step D F (fun a j _ w => Or.inr w) q2 (fun j hj => ?_) ⟨?_, rfl⟩ ⟨?_, rfl⟩, F⟩
  · unfold up1
    by_cases z : j = i
    · rw [if_pos z]; omega
    · rw [if_neg z]; exact i4 j hj
  · unfold up1; rw [if_neg (by omega)]
  · unfold up1; rw [if_neg (by omega)]
theorem DX_add {n : Nat} {K : Nat → Nat} {x : Nat} {h0 h : AH} {cc ss : Nat} {P : PSt} {e c : Nat → Nat} {E : Nat → Nat → Nat} (D : DX K x h0 cc ss P e c E h) {i : Nat} (h2 : 2 ≤ i) (h7 : i < 7) (hc : c i ≤ 20) {a : Nat} (ha : 7 ≤ h.kind a ∧ h.kind a ≤ 14) : ∃ e' h', F_J2_add n K (x + loL i) (some a) h = some (1, h') ∧ DX K x h0 (cc + 1) (ss + (10 + 2 * c i)) P e' (up1 c i (c i + 1)) (up1 E i (up1 (E i) (c i) a)) h' ∧ Fr 1 (10 + 2 * c i) (fun b j => h.kind b = 3 ∨ h.kind b = 34) h h' := by
  have i3 := D.2.2.2.1
  have i4 := D.2.2.2.2.1
  obtain ⟨e', h', q1, q2, q3⟩ := LL_add (n := n) D.2.1 i3 (i := i) (by omega) (by omega) ha
  have kl := (i3.1 i (by omega)).1.1
  have F : Fr 1 (10 + 2 * c i) (fun b j => h.kind b = 3 ∨ h.kind b = 34) h h' := Fr_mono q3 (Nat.le_refl _) (Nat.le_refl _) (fun a j _ z => by
    rcases z with z | z
    · left; rw [z]; exact kl
    · right; rw [z.1]; exact z.2.2)
  refine ⟨up1 e i e', h', q1, DX_step D F (fun a j _ w => Or.inr w) q2 (fun j hj => ?_) ⟨?_, ?_⟩ ⟨?_, ?_⟩, F⟩
  · unfold up1
    by_cases z : j = i
    · rw [if_pos z]; omega
    · rw [if_neg z]; exact i4 j hj
  · unfold up1; rw [if_neg (by omega)]
  · unfold up1; rw [if_neg (by omega)]
  · unfold up1; rw [if_neg (by omega)]
  · unfold up1; rw [if_neg (by omega)]
/-- what the taking has done: k voters, p places -/
def DV (K : Nat → Nat) (x : Nat) (h0 : AH) (cc ss : Nat) (P : PSt) (k p : Nat) (h : AH) : Prop := ∃ e c E, DX K x h0 cc ss P e c E h ∧ c 2 = k ∧ (∀ v, v < k → E 2 v = E 0 v) ∧ c 3 = p ∧ (∀ v, v < p → E 3 v = E 1 v) ∧ c 4 = 0 ∧ h.I x 7 = totS P.1.V k
theorem x_sheetV {n : Nat} {K : Nat → Nat} {x : Nat} {h0 h : AH} {cc ss : Nat} {P : PSt} (hn : 20000 < n) (D : DV K x h0 cc ss P 0 0 h) (kt : AH → Option (Int32 × AH)) : ∃ h', DV K x h0 (cc + 15) (ss + 570) P P.1.nv 0 h' ∧ F_X0_sheet_L38 n K x n 0 h kt = kt h' := by
  have n15 : P.1.nv ≤ 15 := by obtain ⟨e, c, E, D, _⟩ := D; exact D.2.2.2.2.2.2.2.1.2.1
  refine loopU (fun f i h => F_X0_sheet_L38 n K x f i h kt) P.1.nv (fun k h => DV K x h0 (cc + k) (ss + 38 * k) P k 0 h) (fun o => ∃ h', DV K x h0 (cc + 15) (ss + 570) P P.1.nv 0 h' ∧ o = kt h') ?_ ?_ P.1.nv 0 h n (by omega) (by omega) D
  · intro f k h hk D
    right
    obtain ⟨e, c, E, D, c2, E2, c3, E3, c4, i7⟩ := D
    have H := D.2.2.2.2.2.1
    have Q := D.2.2.2.2.2.2
    have L := D.2.2.2.1
    have g := Q.2.1.2.2.1 k hk
    have l0 : Ls K h (x + 3) (e 0) P.1.nv (E 0) := by have := (L.1 0 (by omega)).1; rw [Q.2.1.1] at this; exact this
    have e1 : (nI P.1.nv ≤ nI k) = False := eq_false (nI_ge hk (by omega))
    have kk : (7 ≤ h.kind (E 0 k) ∧ h.kind (E 0 k) ≤ 10) = True := eq_true g.1
    obtain ⟨e', h1, a1, D1, F1⟩ := DX_add (n := n) D (i := 2) (by omega) (by omega) (by omega) (a := E 0 k) (by omega)
    have a1' : F_J2_add n K (x + 5) (some (E 0 k)) h = some (1, h1) := a1
    have H1 := D1.2.2.2.2.2.1
    have k0 := xs_k0 H1
    have f1 := F1.2.2.2.2.2 (E 0 k) (by omega)
    have kk1 : (7 ≤ h1.kind (E 0 k) ∧ h1.kind (E 0 k) ≤ 10) = True := by rw [f1.1]; exact kk
    have c2' : up1 c 2 (c 2 + 1) 2 = k + 1 := by show c 2 + 1 = k + 1; rw [c2]
    have E2' : ∀ v, v < k + 1 → up1 E 2 (up1 (E 2) (c 2) (E 0 k)) 2 v = E 0 v := fun v hv => by
      show (if v = c 2 then E 0 k else E 2 v) = E 0 v
      rw [c2]
      by_cases z : v = k
      · rw [if_pos z, z]
      · rw [if_neg z]; exact E2 v (by omega)
    have l2 : F_J2_get n K (x + 5) (nI k) h1 = some (some (E 0 k), h1) := by
      have ll := (D1.2.2.2.1.1 2 (by omega)).1
      have := l_get (n := n) ll (i := k) (by rw [c2']; omega)
      rw [E2' k (by omega)] at this
      exact this
    have i0 : h1.I (E 0 k) 0 = P.1.V k 2 := by rw [(f1.2.2 0 (by omega)).1]; exact g.2.2.2.2.1
    have kx := xs_k0 H
    have i71 : h1.I x 7 = totS P.1.V k := by rw [((F1.2.2.2.2.2 x (by omega)).2.2 7 (by omega)).1]; exact i7
    have F2 : Fr 0 0 (fun a j => a = x ∧ j = 7) h1 (h1.setI x 7 (totS P.1.V k + P.1.V k 2)) := Fr_setI _ _ _ _ (fun _ => ⟨rfl, rfl⟩)
    have L2 : LL K (h1.setI x 7 (totS P.1.V k + P.1.V k 2)) x e' (up1 c 2 (c 2 + 1)) (up1 E 2 (up1 (E 2) (c 2) (E 0 k))) := LL_fr D1.2.2.2.1 F2 (fun i j hi _ w => by have := (D1.2.2.2.1.1 i hi).1.1; rw [w.1] at this; omega) (fun i j hi _ w => by have := (Ls_kinds (D1.2.2.2.1.1 i hi).1).2; rw [w.1] at this; omega)
    have D2 := DX_step D1 F2 (fun a j _ w => Or.inl ⟨w.1, by omega⟩) L2 D1.2.2.2.2.1 ⟨rfl, rfl⟩ ⟨rfl, rfl⟩
    refine ⟨h1.setI x 7 (totS P.1.V k + P.1.V k 2), ⟨e', _, _, ⟨Fr_mono D2.1 (by omega) (by rw [c2]; omega) (fun _ _ _ z => z), D2.2⟩, c2', E2', c3, E3, c4, setI_I _ _ _ _⟩, ?_⟩
    simp only [F_X0_sheet_L38, chk_true, bnd_some, ob_some, oc_some, oc_none, hl_eq, jn_eq, ix_0, ix_1, if_true, if_false, inb0_2, inb1_2, not_true_eq_false, not_false_eq_true, ite_true, ite_false, true_or, or_true, or_self, zero_eq_one_I, one_eq_zero_I, xs_k0, xs_k1, xs_n1, xs_k2, xs_k3, xs_k4, xs_k5, xs_k6, xs_k7, xs_k8, xs_k9, xs_k10, xs_k11, xs_n11, xs_k12, xs_n12, xs_k13, xs_n13, xs_k14, xs_n14, xs_k15, xs_n15, xs_k16, xs_n16, xs_k17, xs_n17, xs_k18, xs_n18, xs_k27, xs_n27, xs_k28, xs_n28, xs_r0_0, xs_r0_1, xs_r2_8, xs_r2_9, xs_r0_2, xs_r0_3, xs_r0_4, xs_r0_8, xs_r0_9, xs_r0_10, xs_r0_18, xs_r0_19, xs_r0_20, xs_r0_21, xs_r0_22, xs_r0_25, xs_r0_26, xs_r0_27, xs_r0_28, H, H1, k0, l_size l0, e1, l_get l0 hk, kk, a1', l2, kk1, i71, i0, nI_1]
  · intro f h D
    refine ⟨h, ?_, ?_⟩
    · obtain ⟨e, c, E, D, r⟩ := D
      exact ⟨e, c, E, ⟨Fr_mono D.1 (by omega) (by omega) (fun _ _ _ z => z), D.2⟩, r⟩
    · obtain ⟨e, c, E, D, c2, E2, c3, E3, c4, i7⟩ := D
      have H := D.2.2.2.2.2.1
      have Q := D.2.2.2.2.2.2
      have l0 : Ls K h (x + 3) (e 0) P.1.nv (E 0) := by have := (D.2.2.2.1.1 0 (by omega)).1; rw [Q.2.1.1] at this; exact this
      have e1 : (nI P.1.nv ≤ nI P.1.nv) = True := eq_true (nI_le (Nat.le_refl _) (by omega))
      simp only [F_X0_sheet_L38, chk_true, bnd_some, ob_some, oc_some, oc_none, hl_eq, jn_eq, ix_0, ix_1, if_true, if_false, inb0_2, inb1_2, not_true_eq_false, not_false_eq_true, ite_true, ite_false, true_or, or_true, or_self, zero_eq_one_I, one_eq_zero_I, xs_k0, xs_k1, xs_n1, xs_k2, xs_k3, xs_k4, xs_k5, xs_k6, xs_k7, xs_k8, xs_k9, xs_k10, xs_k11, xs_n11, xs_k12, xs_n12, xs_k13, xs_n13, xs_k14, xs_n14, xs_k15, xs_n15, xs_k16, xs_n16, xs_k17, xs_n17, xs_k18, xs_n18, xs_k27, xs_n27, xs_k28, xs_n28, xs_r0_0, xs_r0_1, xs_r2_8, xs_r2_9, xs_r0_2, xs_r0_3, xs_r0_4, xs_r0_8, xs_r0_9, xs_r0_10, xs_r0_18, xs_r0_19, xs_r0_20, xs_r0_21, xs_r0_22, xs_r0_25, xs_r0_26, xs_r0_27, xs_r0_28, H, l_size l0, e1]
