/-! PURE PART RP: the sheet's lines, all; line() -/
set_option maxRecDepth 100000
def tri : Nat → Nat
  | 0 => 0
  | i + 1 => tri i + i
theorem tri_le {i : Nat} (h : i ≤ 15) : tri i ≤ 105 := by
  have : ∀ i, i < 16 → tri i ≤ 105 := by decide
  exact this i (by omega)
theorem tri_j {i j : Nat} (h : i < 15) (hj : j ≤ i) : tri i + j ≤ 105 := by
  have := tri_le (i := i + 1) (by omega)
  have e : tri (i + 1) = tri i + i := rfl
  omega
theorem put_ok {t : T3} {l : TL} (nt : NrmL t) (bt : LB t) (T : TLok l) : TLok (putS aheadL t l) ∧ (putS aheadL t l).1 ≤ l.1 + 1 := by
  refine ⟨⟨put_sort ordL nt T.1, ?_⟩, ?_⟩
  · cases hm : memS t l
    · rw [put_new hm]
      intro k hk
      have hk' : k < l.1 + 1 := hk
      have hp := pos_le aheadL t l
      show LB (insF (posS aheadL t l) t l.2 k)
      unfold insF
      split
      · exact T.2 k (by omega)
      · split
        · exact bt
        · exact T.2 (k - 1) (by omega)
    · rw [put_mem hm]; exact T.2
  · cases hm : memS t l
    · rw [put_new hm]; exact Nat.le_refl _
    · rw [put_mem hm]; omega
theorem lnStep_ok {S : St} (B : Bd S) {i j : Nat} (hi : i < S.nv) (hj : j < S.nv) {l : TL} (T : TLok l) : TLok (lnStep S i j l) ∧ (lnStep S i j l).1 ≤ l.1 + 1 := by
  unfold lnStep
  by_cases same : S.V i 0 = S.V j 0 ∧ S.V i 1 = S.V j 1
  · rw [if_pos same]; exact ⟨T, by omega⟩
  · rw [if_neg same]
    obtain ⟨nt, bt⟩ := lnT_ok B hi hj same
    split
    · exact put_ok nt bt T
    · exact ⟨T, by omega⟩
def lnP (S : St) (i : Nat) : TL := foldS (fun i l => foldS (lnStep S i) l i) (0, fun _ => (0, 0, 0)) i
theorem lnP_in {S : St} (B : Bd S) {i : Nat} (hi : i < S.nv) {l : TL} (T : TLok l) : ∀ j, j ≤ i → TLok (foldS (lnStep S i) l j) ∧ (foldS (lnStep S i) l j).1 ≤ l.1 + j := by
  intro j
  induction j with
  | zero => intro _; exact ⟨T, Nat.le_refl _⟩
  | succ j ih =>
    intro hj
    obtain ⟨h1, h2⟩ := ih (by omega)
    obtain ⟨g1, g2⟩ := lnStep_ok B hi (j := j) (by omega) h1
    exact ⟨g1, by show (lnStep S i j (foldS (lnStep S i) l j)).1 ≤ _; omega⟩
theorem lnP_ok {S : St} (B : Bd S) : ∀ i, i ≤ S.nv → TLok (lnP S i) ∧ (lnP S i).1 ≤ tri i := by
  intro i
  induction i with
  | zero => intro _; exact ⟨⟨⟨fun i hi => absurd hi (Nat.not_lt_zero i), fun i j _ hj => absurd hj (Nat.not_lt_zero j)⟩, fun k hk => absurd hk (Nat.not_lt_zero k)⟩, Nat.le_refl _⟩
  | succ i ih =>
    intro hi
    obtain ⟨h1, h2⟩ := ih (by omega)
    obtain ⟨g1, g2⟩ := lnP_in B (i := i) (by omega) h1 i (Nat.le_refl _)
    refine ⟨g1, ?_⟩
    show (foldS (lnStep S i) (lnP S i) i).1 ≤ tri i + i
    omega
theorem lines_ok {S : St} (B : Bd S) : TLok (linesS S) ∧ (linesS S).1 ≤ 105 := by
  obtain ⟨h1, h2⟩ := lnP_ok B S.nv (Nat.le_refl _)
  exact ⟨h1, Nat.le_trans h2 (tri_le B.2.2.2.1)⟩
theorem x_fL {n : Nat} {K : Nat → Nat} {x : Nat} {h : AH} {e c : Nat → Nat} {E : Nat → Nat → Nat} {b : Nat} {Z : Zt} (hn : 20000 < n) (B : Bd Z.S) (I : XLb K x h e c E b Z (lnP Z.S 0)) :
    ∃ e' c' E' h', F_X0_findLines_L22 n K x n 0 h = some ((), h') ∧ XLb K x h' e' c' E' b Z (linesS Z.S) ∧ Fr 210 24000 (fun a _ => ¬ RgM (x + 29) a) h h' ∧ Cp 5 105 220 h e h' e' := by
  have h15 : Z.S.nv ≤ 15 := B.2.2.2.1
  have inner : ∀ i, i < Z.S.nv → ∀ (g : AH) (e1 c1 : Nat → Nat) (E1 : Nat → Nat → Nat) (k : AH → Option (Unit × AH)), XLb K x g e1 c1 E1 b Z (lnP Z.S i) →
      ∃ e' c' E' g', F_X0_findLines_L35 n K (nI i) x n 0 g k = k g' ∧ XLb K x g' e' c' E' b Z (lnP Z.S (i + 1)) ∧ Fr (2 * i) (223 * i) (fun a _ => ¬ RgM (x + 29) a) g g' ∧ Cp 5 i 220 g e1 g' e' := by
    intro i hi g e1 c1 E1 k J
    have key := loopU (fun f j (s : AH) => F_X0_findLines_L35 n K (nI i) x f j s k) i
      (fun j s => ∃ e' c' E', XLb K x s e' c' E' b Z (foldS (lnStep Z.S i) (lnP Z.S i) j) ∧ Fr (2 * j) (223 * j) (fun a _ => ¬ RgM (x + 29) a) g s ∧ Cp 5 j 220 g e1 s e')
      (fun o => ∃ e' c' E' g', o = k g' ∧ XLb K x g' e' c' E' b Z (lnP Z.S (i + 1)) ∧ Fr (2 * i) (223 * i) (fun a _ => ¬ RgM (x + 29) a) g g' ∧ Cp 5 i 220 g e1 g' e')
      (by
        rintro f j s hj ⟨e2, c2, E2, j1, j2, j3⟩
        right
        obtain ⟨t1, t2⟩ := lnP_ok B i (by omega)
        obtain ⟨u1, u2⟩ := lnP_in B hi t1 j (by omega)
        have u3 := tri_j (i := i) (j := j) (by omega) (by omega)
        obtain ⟨e3, c3, E3, s', q1, q2, q3, q4⟩ := x_lnStep hn B j1 u1 (by omega) hj hi f k
        refine ⟨s', ⟨e3, c3, E3, q2, Fr_mono (Fr_trans (W := fun a _ => ¬ RgM (x + 29) a) j2 q3 (fun _ _ _ z => z) (fun _ _ _ z => z)) (by omega) (by omega) (fun _ _ _ z => z), Cp_trans j3 (Cp_mono q4 (Nat.le_refl _) (by omega))⟩, q1⟩)
      (by
        rintro f s ⟨e2, c2, E2, j1, j2, j3⟩
        have e3 : (nI i ≤ nI i) = True := eq_true (nI_le (Nat.le_refl _) (by omega))
        exact ⟨e2, c2, E2, s, by simp only [F_X0_findLines_L35, e3, if_true], j1, j2, j3⟩)
    exact key i 0 g n (by omega) (by omega) ⟨e1, c1, E1, J, Fr_refl g, Cp_refl⟩
  have key := loopU (fun f i (s : AH) => F_X0_findLines_L22 n K x f i s) Z.S.nv
    (fun i s => ∃ e' c' E', XLb K x s e' c' E' b Z (lnP Z.S i) ∧ Fr (2 * tri i) (223 * tri i) (fun a _ => ¬ RgM (x + 29) a) h s ∧ Cp 5 (tri i) 220 h e s e')
    (fun o => ∃ e' c' E' h', o = some ((), h') ∧ XLb K x h' e' c' E' b Z (linesS Z.S) ∧ Fr 210 24000 (fun a _ => ¬ RgM (x + 29) a) h h' ∧ Cp 5 105 220 h e h' e')
    (by
      rintro f i s hi ⟨e2, c2, E2, j1, j2, j3⟩
      right
      have X := j1.1.2.2.2.2.1
      have e3 : (nI Z.S.nv ≤ nI i) = False := eq_false (nI_ge hi (by omega))
      obtain ⟨e3', c3, E3, s', q1, q2, q3, q4⟩ := inner i hi s e2 c2 E2 (fun h100 => F_X0_findLines_L22 n K x f (nI (i + 1)) h100) j1
      have et : tri (i + 1) = tri i + i := rfl
      refine ⟨s', ⟨e3', c3, E3, q2, ?_, ?_⟩, ?_⟩
      · exact Fr_mono (Fr_trans (W := fun a _ => ¬ RgM (x + 29) a) j2 q3 (fun _ _ _ z => z) (fun _ _ _ z => z)) (by omega) (by omega) (fun _ _ _ z => z)
      · exact Cp_trans j3 q4
      · rw [F_X0_findLines_L22]
        simp only [chk_true, bnd_some, ob_some, oc_some, oc_none, hl_eq, jn_eq, ix_0, ix_1, if_true, if_false, inb0_2, inb1_2, not_true_eq_false, not_false_eq_true, ite_true, ite_false, true_or, or_true, or_self, zero_eq_one_I, one_eq_zero_I, xs_k0, xs_k1, xs_n1, xs_k2, xs_k3, xs_k4, xs_k5, xs_k6, xs_k7, xs_k8, xs_k9, xs_k10, xs_k11, xs_n11, xs_k12, xs_n12, xs_k13, xs_n13, xs_k14, xs_n14, xs_k15, xs_n15, xs_k16, xs_n16, xs_k17, xs_n17, xs_k18, xs_n18, xs_k27, xs_n27, xs_k28, xs_n28, xs_r0_0, xs_r0_1, xs_r2_8, xs_r2_9, xs_r0_2, xs_r0_3, xs_r0_4, xs_r0_8, xs_r0_9, xs_r0_10, xs_r0_18, xs_r0_19, xs_r0_20, xs_r0_21, xs_r0_22, xs_r0_25, xs_r0_26, xs_r0_27, xs_r0_28, X.1, x_vsize hn X, e3, nI_1, q1])
    (by
      rintro f s ⟨e2, c2, E2, j1, j2, j3⟩
      have X := j1.1.2.2.2.2.1
      have e3 : (nI Z.S.nv ≤ nI Z.S.nv) = True := eq_true (nI_le (Nat.le_refl _) (by omega))
      have ht := tri_le h15
      refine ⟨e2, c2, E2, s, ?_, j1, Fr_mono j2 (by omega) (by omega) (fun _ _ _ z => z), Cp_mono j3 ht (Nat.le_refl _)⟩
      simp only [F_X0_findLines_L22, chk_true, bnd_some, ob_some, oc_some, oc_none, hl_eq, jn_eq, ix_0, ix_1, if_true, if_false, inb0_2, inb1_2, not_true_eq_false, not_false_eq_true, ite_true, ite_false, true_or, or_true, or_self, zero_eq_one_I, one_eq_zero_I, xs_k0, xs_k1, xs_n1, xs_k2, xs_k3, xs_k4, xs_k5, xs_k6, xs_k7, xs_k8, xs_k9, xs_k10, xs_k11, xs_n11, xs_k12, xs_n12, xs_k13, xs_n13, xs_k14, xs_n14, xs_k15, xs_n15, xs_k16, xs_n16, xs_k17, xs_n17, xs_k18, xs_n18, xs_k27, xs_n27, xs_k28, xs_n28, xs_r0_0, xs_r0_1, xs_r2_8, xs_r2_9, xs_r0_2, xs_r0_3, xs_r0_4, xs_r0_8, xs_r0_9, xs_r0_10, xs_r0_18, xs_r0_19, xs_r0_20, xs_r0_21, xs_r0_22, xs_r0_25, xs_r0_26, xs_r0_27, xs_r0_28, X.1, x_vsize hn X, e3])
  exact key Z.S.nv 0 h n (by omega) (by omega) ⟨e, c, E, I, Fr_refl h, Cp_refl⟩
theorem x_findLines {n : Nat} {K : Nat → Nat} {x : Nat} {h : AH} {e c : Nat → Nat} {E : Nat → Nat → Nat} {b : Nat} {Z : Zt} (hn : 20000 < n) (B : Bd Z.S) (I : XIn K x h e c E b Z) :
    ∃ e' c' E' h', F_X0_findLines n K x h = some ((), h') ∧ XIn K x h' e' c' E' b Z ∧ h'.I x 11 = 1 ∧ Fr 210 1200 (fun a _ => ¬ RgM (x + 29) a) h h' := by
  obtain ⟨C, iL, iM, iR⟩ := XC_in I
  have X := C.2.2.2.2.1
  have H := X.1
  have k0 := xs_k0 H
  rcases iL with z | z
  · have i12 : h.I x 12 = 0 := by
      rcases iM with y | ⟨_, y, _⟩
      · exact y
      · rw [z] at y; exact absurd y (by decide)
    have F1 := Fr_setI (W := fun a j => a = x ∧ j = 11) h x 11 1 (fun _ => ⟨rfl, rfl⟩)
    have C1 : XC K x (h.setI x 11 1) e c E b Z := XC_fr0 C F1 (by
      rintro a j _ ⟨z1, z2⟩
      rw [z1]
      exact ⟨Or.inr (Or.inr (Or.inr (Or.inr (Or.inr (Or.inl ⟨rfl, by omega, by omega⟩))))), by omega, by omega⟩)
    obtain ⟨h2, q1, q2, F2⟩ := LL_clear hn C1.2.2.1 (i := 5) (by omega) (C1.2.2.2.1 5 (by omega))
    have kl : (h.setI x 11 1).kind (x + loL 5) = 3 := (C1.2.2.1.1 5 (by omega)).1.1
    have hO : ∀ a j, (h.setI x 11 1).kind a ≠ 0 → (a = x + loL 5 ∨ (a = e 5 ∧ j < c 5 ∧ (h.setI x 11 1).kind (e 5) = 34)) → (h.setI x 11 1).kind a = 3 ∨ (h.setI x 11 1).kind a = 34 := by
      rintro a j _ (w | ⟨w, _, w2⟩)
      · rw [w]; exact Or.inl kl
      · rw [w]; exact Or.inr w2
    have hO2 : ∀ a j, (h.setI x 11 1).kind a ≠ 0 → (a = x + loL 5 ∨ (a = e 5 ∧ j < c 5 ∧ (h.setI x 11 1).kind (e 5) = 34)) → OkW x (h.setI x 11 1) a j := by
      intro a j ha w
      rcases hO a j ha w with w | w
      · exact Or.inl w
      · exact Or.inr (Or.inl w)
    have k0' : (h.setI x 11 1).kind x = 1 := k0
    have nx : ∀ j, ¬ (x = x + loL 5 ∨ (x = e 5 ∧ j < c 5 ∧ (h.setI x 11 1).kind (e 5) = 34)) := by
      intro j w
      have := hO x j (by omega) w
      omega
    obtain ⟨f1, f2, f3⟩ := F2.2.2.2.2.2 x (by omega)
    have I0 : XLb K x h2 e (up1 c 5 0) E b Z (lnP Z.S 0) := by
      refine ⟨XC_fr C1 F2 q2 (fun i hi => ?_) (fun i h2 h4 => ⟨rfl, if_neg (by omega), rfl⟩) hO2, ?_, ?_, ?_, if_pos rfl, fun k hk => by cases hk⟩
      · unfold up1
        by_cases y : i = 5
        · rw [if_pos y]; omega
        · rw [if_neg y]; exact C.2.2.2.1 i hi
      · rw [(f3 11 (nx 11)).1, AH.I_setI, if_pos ⟨rfl, rfl⟩]
      · rw [(f3 12 (nx 12)).1, AH.I_setI, if_neg (by omega)]; exact i12
      · refine XCr_fr (XCr_fr iR F1 (by omega) (fun j h1 _ w => by omega)) F2 (by omega) (fun j _ _ => nx j)
    obtain ⟨e', c', E', h', r1, r2, r3, r4⟩ := x_fL hn B I0
    have Fa := Fr_trans (W := fun a _ => ¬ RgM (x + 29) a) (Fr_mono F1 (Nat.le_refl _) (Nat.le_refl _) (W' := fun a _ => ¬ RgM (x + 29) a) (fun a j _ w => by rintro ⟨w1, _⟩; omega)) F2 (fun _ _ _ w => w) (fun a j ha w => OkW_m C1.2.1 (hO2 a j ha w))
    have Fb := Fr_trans (W := fun a _ => ¬ RgM (x + 29) a) Fa r3 (fun _ _ _ w => w) (fun _ _ _ w => w)
    have sl2 : h2.sl ≤ h.sl := Fa.2.2.2.2.1
    have sle := Cp_end r4
    refine ⟨e', c', E', h', ?_, ?_, r2.2.1, ?_⟩
    · have hz : (h.I x 11 = 0) = True := eq_true z
      have q1' : F_J2_clear n K (x + 9) (h.setI x 11 1) = some ((), h2) := q1
      simp only [F_X0_findLines, chk_true, bnd_some, ob_some, oc_some, oc_none, hl_eq, jn_eq, ix_0, ix_1, if_true, if_false, inb0_2, inb1_2, not_true_eq_false, not_false_eq_true, ite_true, ite_false, true_or, or_true, or_self, zero_eq_one_I, one_eq_zero_I, AH.n_setI, AH.n_setL, AH.n_setR, AH.sl_setI, AH.sl_setL, AH.sl_setR, AH.kind_setI, AH.kind_setL, AH.kind_setR, AH.len_setI, AH.len_setL, AH.len_setR, AH.I_setL, AH.I_setR, AH.L_setI, AH.L_setR, AH.R_setI, AH.R_setL, xs_k0, xs_k1, xs_n1, xs_k2, xs_k3, xs_k4, xs_k5, xs_k6, xs_k7, xs_k8, xs_k9, xs_k10, xs_k11, xs_n11, xs_k12, xs_n12, xs_k13, xs_n13, xs_k14, xs_n14, xs_k15, xs_n15, xs_k16, xs_n16, xs_k17, xs_n17, xs_k18, xs_n18, xs_k27, xs_n27, xs_k28, xs_n28, xs_r0_0, xs_r0_1, xs_r2_8, xs_r2_9, xs_r0_2, xs_r0_3, xs_r0_4, xs_r0_8, xs_r0_9, xs_r0_10, xs_r0_18, xs_r0_19, xs_r0_20, xs_r0_21, xs_r0_22, xs_r0_25, xs_r0_26, xs_r0_27, xs_r0_28, H, hz, q1', r1]
    · exact XIn_C r2.1 (Or.inr ⟨r2.2.1, r2.2.2.2.2.1, by rw [r2.2.2.2.2.1]; exact r2.2.2.2.2.2⟩) (Or.inl r2.2.2.1) r2.2.2.2.1
    · exact Fr_sharp (Fr_mono Fb (by omega) (Nat.le_refl _) (fun _ _ _ w => w)) (by omega)
  · refine ⟨e, c, E, h, ?_, I, z.1, Fr_mono (Fr_refl h) (by omega) (by omega) (fun _ _ _ w => w)⟩
    have hz : (h.I x 11 = 0) = False := eq_false (by rw [z.1]; decide)
    simp only [F_X0_findLines, chk_true, bnd_some, ob_some, oc_some, oc_none, hl_eq, jn_eq, ix_0, ix_1, if_true, if_false, inb0_2, inb1_2, not_true_eq_false, not_false_eq_true, ite_true, ite_false, true_or, or_true, or_self, zero_eq_one_I, one_eq_zero_I, xs_k0, xs_k1, xs_n1, xs_k2, xs_k3, xs_k4, xs_k5, xs_k6, xs_k7, xs_k8, xs_k9, xs_k10, xs_k11, xs_n11, xs_k12, xs_n12, xs_k13, xs_n13, xs_k14, xs_n14, xs_k15, xs_n15, xs_k16, xs_n16, xs_k17, xs_n17, xs_k18, xs_n18, xs_k27, xs_n27, xs_k28, xs_n28, xs_r0_0, xs_r0_1, xs_r2_8, xs_r2_9, xs_r0_2, xs_r0_3, xs_r0_4, xs_r0_8, xs_r0_9, xs_r0_10, xs_r0_18, xs_r0_19, xs_r0_20, xs_r0_21, xs_r0_22, xs_r0_25, xs_r0_26, xs_r0_27, xs_r0_28, H, hz]
def cp3 (t : T3) (w : Int32) : Int := if w = 0 then t.1 else if w = 1 then t.2.1 else t.2.2
def lineS (S : St) (v w : Int32) : Int32 := if v = -1 then nI (linesS S).1 else if inS v 0 (nI (linesS S).1 - 1) = true then (if inS w 0 2 = true then Int32.ofInt (cp3 ((linesS S).2 (ix v)) w) else -2147483648) else -2147483648
theorem l_toI (z : Int) : (Int64.ofInt z).toInt32 = Int32.ofInt z := by simp
theorem in02 (w : Int32) : inS w 0 2 = true ↔ w = 0 ∨ w = 1 ∨ w = 2 := by
  constructor
  · intro h
    obtain ⟨k, hk, rfl⟩ := (inS_le (d := 2) (by omega)).1 h
    have : k = 0 ∨ k = 1 ∨ k = 2 := by omega
    rcases this with rfl | rfl | rfl <;> decide
  · rintro (rfl | rfl | rfl) <;> decide
theorem ox_line {n : Nat} {K : Nat → Nat} {x : Nat} {h : AH} {Z : Zt} (hn : 20000 < n) (bz : Bz Z) (I : InvX K x h Z) (v w : Int32) : XOk K x 210 1200 Z (lineS Z.S v w) (F_X0_line n K x v w h) h := by
  obtain ⟨e0, c0, E0, b, I0⟩ := I
  have k0 := xs_k0 I0.2.2.2.2.1.1
  obtain ⟨e, c, E, h1, q1, I1, q3, q4⟩ := x_findLines hn bz.1 I0
  refine ⟨h1, ?_, ⟨e, c, E, b, I1⟩, q4⟩
  obtain ⟨C, iL, _, _⟩ := XC_in I1
  have H := C.2.2.2.2.1.1
  have hb := (lines_ok bz.1).2
  have iL' : c 5 = (linesS Z.S).1 ∧ X3L h1 12 (c 5) (E 5) (linesS Z.S).2 := by
    rcases iL with z | z
    · rw [z] at q3; exact absurd q3 (by decide)
    · exact z.2
  have l5 : Ls K h1 (x + 9) (e 5) (c 5) (E 5) := (C.2.2.1.1 5 (by omega)).1
  obtain ⟨z1, z2⟩ := iL'
  rw [z1] at l5 z2
  simp only [F_X0_line, chk_true, bnd_some, ob_some, oc_some, oc_none, hl_eq, jn_eq, ix_0, ix_1, if_true, if_false, inb0_2, inb1_2, not_true_eq_false, not_false_eq_true, ite_true, ite_false, true_or, or_true, or_self, zero_eq_one_I, one_eq_zero_I, xs_k0, xs_k1, xs_n1, xs_k2, xs_k3, xs_k4, xs_k5, xs_k6, xs_k7, xs_k8, xs_k9, xs_k10, xs_k11, xs_n11, xs_k12, xs_n12, xs_k13, xs_n13, xs_k14, xs_n14, xs_k15, xs_n15, xs_k16, xs_n16, xs_k17, xs_n17, xs_k18, xs_n18, xs_k27, xs_n27, xs_k28, xs_n28, xs_r0_0, xs_r0_1, xs_r2_8, xs_r2_9, xs_r0_2, xs_r0_3, xs_r0_4, xs_r0_8, xs_r0_9, xs_r0_10, xs_r0_18, xs_r0_19, xs_r0_20, xs_r0_21, xs_r0_22, xs_r0_25, xs_r0_26, xs_r0_27, xs_r0_28, H, k0, q1, l_size l5, x_in, bI_0, lineS]
  by_cases c1 : v = -1
  · simp only [c1, chk_true, bnd_some, ob_some, oc_some, oc_none, hl_eq, jn_eq, ix_0, ix_1, if_true, if_false, inb0_2, inb1_2, not_true_eq_false, not_false_eq_true, ite_true, ite_false, true_or, or_true, or_self, zero_eq_one_I, one_eq_zero_I]
  · simp only [c1, chk_true, bnd_some, ob_some, oc_some, oc_none, hl_eq, jn_eq, ix_0, ix_1, if_true, if_false, inb0_2, inb1_2, not_true_eq_false, not_false_eq_true, ite_true, ite_false, true_or, or_true, or_self, zero_eq_one_I, one_eq_zero_I]
    cases c2 : inS v 0 (nI (linesS Z.S).1 - 1)
    · simp
    · obtain ⟨k, hk, rfl⟩ := (inS_nI (by omega)).1 c2
      obtain ⟨g1, g2, g3, g4⟩ := z2 k hk
      have e1 : ix (nI k) = k := ix_nI (by omega)
      simp only [chk_true, bnd_some, ob_some, oc_some, oc_none, hl_eq, jn_eq, ix_0, ix_1, if_true, if_false, inb0_2, inb1_2, not_true_eq_false, not_false_eq_true, ite_true, ite_false, true_or, or_true, or_self, zero_eq_one_I, one_eq_zero_I, xs_k0, xs_k1, xs_n1, xs_k2, xs_k3, xs_k4, xs_k5, xs_k6, xs_k7, xs_k8, xs_k9, xs_k10, xs_k11, xs_n11, xs_k12, xs_n12, xs_k13, xs_n13, xs_k14, xs_n14, xs_k15, xs_n15, xs_k16, xs_n16, xs_k17, xs_n17, xs_k18, xs_n18, xs_k27, xs_n27, xs_k28, xs_n28, xs_r0_0, xs_r0_1, xs_r2_8, xs_r2_9, xs_r0_2, xs_r0_3, xs_r0_4, xs_r0_8, xs_r0_9, xs_r0_10, xs_r0_18, xs_r0_19, xs_r0_20, xs_r0_21, xs_r0_22, xs_r0_25, xs_r0_26, xs_r0_27, xs_r0_28, H, l_get l5 hk, g1, g2, g3, g4, l_toI, Bool.true_eq_false, e1]
      cases c3 : inS w 0 2
      · simp
      · unfold cp3
        by_cases w0 : w = 0
        · simp [w0]
        · by_cases w1 : w = 1
          · simp [w1]
          · simp [w0, w1]
