/-! PURE PART RX: the sheet's round point -/
set_option maxRecDepth 100000
theorem XIn_rd {K : Nat → Nat} {x : Nat} {h h' : AH} {e c : Nat → Nat} {E : Nat → Nat → Nat} {b : Nat} {Z : Zt} {cc ss : Nat} (I : XIn K x h e c E b Z) (F : Fr cc ss (fun a j => a = x ∧ 13 ≤ j ∧ j ≤ 17) h h') (hr : XCr x h' Z.S) : XIn K x h' e c E b Z := by
  obtain ⟨C, iL, iM, _⟩ := XC_in I
  have H := C.2.2.2.2.1.1
  have k0 := xs_k0 H
  have k11 := xs_k11 H
  obtain ⟨f1, f2, f3⟩ := F.2.2.2.2.2 x (by omega)
  obtain ⟨g1, g2, g3⟩ := F.2.2.2.2.2 (x + 11) (by omega)
  have r11 : h'.I x 11 = h.I x 11 := (f3 11 (by omega)).1
  have r12 : h'.I x 12 = h.I x 12 := (f3 12 (by omega)).1
  have rp : ∀ j, h'.I (x + 11) j = h.I (x + 11) j := fun j => (g3 j (by omega)).1
  have rX : ∀ {kd q : Nat} {E' : Nat → Nat} {G : Nat → T3}, (kd = 12 ∨ kd = 13) → X3L h kd q E' G → X3L h' kd q E' G := by
    intro kd q E' G hk X
    refine X3L_fr (by omega) X F (fun v hv j w => ?_)
    have := (X v hv).1
    rw [w.1] at this
    omega
  refine XIn_C (XC_fr0 C F (by
    rintro a j _ ⟨w1, w2⟩
    rw [w1]
    exact ⟨Or.inr (Or.inr (Or.inr (Or.inr (Or.inr (Or.inl ⟨rfl, by omega, by omega⟩))))), by omega, by omega⟩)) ?_ ?_ hr
  · unfold XCl
    rw [r11]
    rcases iL with z | ⟨z1, z2, z3⟩
    · exact Or.inl z
    · exact Or.inr ⟨z1, z2, rX (Or.inl rfl) z3⟩
  · unfold XCm
    rw [r11, r12, rp, rp, rp]
    rcases iM with z | ⟨z1, z2, z3, z4, z5⟩
    · exact Or.inl z
    · exact Or.inr ⟨z1, z2, z3, rX (Or.inr rfl) z4, z5⟩
/-! bounds -/
def fB (s : Int64 × Int64) : Prop := 0 ≤ s.1.toInt ∧ s.1.toInt ≤ 2000000000 ∧ 1 ≤ s.2.toInt ∧ s.2.toInt ≤ 20000
theorem sq_bd {a : Int} {k : Nat} (h : a.natAbs ≤ k) : 0 ≤ a * a ∧ (a * a).natAbs ≤ k * k := ⟨by
  rcases Int.lt_or_le a 0 with z | z
  · exact Int.le_of_lt (Int.mul_pos_of_neg_of_neg z z)
  · exact Int.mul_nonneg z z, mul_bd h h⟩
theorem farG_eq (S : St) (x y : Int64) (k : Nat) (s : Int64 × Int64) : farG S x y k s = if ((l64 S k).1 * x + (l64 S k).2.1 * y - (l64 S k).2.2) * ((l64 S k).1 * x + (l64 S k).2.1 * y - (l64 S k).2.2) * s.2 ≤ s.1 * ((l64 S k).1 * (l64 S k).1 + (l64 S k).2.1 * (l64 S k).2.1) then s else (((l64 S k).1 * x + (l64 S k).2.1 * y - (l64 S k).2.2) * ((l64 S k).1 * x + (l64 S k).2.1 * y - (l64 S k).2.2), (l64 S k).1 * (l64 S k).1 + (l64 S k).2.1 * (l64 S k).2.1) := rfl
theorem farG_ok {S : St} (B : Bd S) {x y : Nat} (hx : x < 100) (hy : y < 100) {k : Nat} (hk : k < (linesS S).1) {s : Int64 × Int64} (hs : fB s) : fB (farG S (Int64.ofInt (x : Int)) (Int64.ofInt (y : Int)) k s) := by
  obtain ⟨T5, _⟩ := lines_ok B
  have bk := T5.2 k hk
  have nk := T5.1.1 k hk
  obtain ⟨b1, b2, b3⟩ := bk
  obtain ⟨t, ht⟩ : ∃ t, t = (linesS S).2 k := ⟨_, rfl⟩
  have e : l64 S k = (Int64.ofInt t.1, Int64.ofInt t.2.1, Int64.ofInt t.2.2) := by rw [ht]; rfl
  rw [← ht] at b1 b2 b3 nk
  rw [farG_eq, e]
  split
  · exact hs
  · have m1 := mul_bd b1 (x := (x : Int)) (l := 99) (by omega)
    have m2 := mul_bd b2 (x := (y : Int)) (l := 99) (by omega)
    have d1 := sq_bd (a := t.1 * (x : Int) + t.2.1 * (y : Int) - t.2.2) (k := 39204) (by omega)
    have d2 := sq_bd (a := t.1) (k := 99) b1
    have d3 := sq_bd (a := t.2.1) (k := 99) b2
    have pos : 1 ≤ t.1 * t.1 + t.2.1 * t.2.1 := by
      rcases nk with ⟨z, _⟩ | ⟨_, z⟩
      · have : 1 * 1 ≤ t.1 * t.1 := Int.mul_le_mul (by omega) (by omega) (by omega) (by omega)
        omega
      · rw [z]; rw [z] at d3; omega
    show fB ((Int64.ofInt t.1 * Int64.ofInt (x : Int) + Int64.ofInt t.2.1 * Int64.ofInt (y : Int) - Int64.ofInt t.2.2) * (Int64.ofInt t.1 * Int64.ofInt (x : Int) + Int64.ofInt t.2.1 * Int64.ofInt (y : Int) - Int64.ofInt t.2.2), Int64.ofInt t.1 * Int64.ofInt t.1 + Int64.ofInt t.2.1 * Int64.ofInt t.2.1)
    rw [l_pp, l_pp, l_aa, l_mm, l_pp, l_pp, l_pp, l_aa]
    unfold fB
    rw [l_of (by omega) (by omega), l_of (by omega) (by omega)]
    omega
theorem far_ok {S : St} (B : Bd S) {p : Nat} (hp : p < 10000) : fB (farS S p) := by
  unfold farS
  refine fold_inv ?_ (fun k a hk ha => farG_ok B (by omega) (by omega) hk ha)
  refine ⟨by decide, by decide, by decide, by decide⟩
def rdP (S : St) (p : Nat) : Nat × Int64 × Int64 := foldS (rdG S) (0, farS S 0) p
theorem rdS_P (S : St) : rdS S = rdP S 9999 := rfl
theorem rdP_s (S : St) (p : Nat) : rdP S (p + 1) = rdG S p (rdP S p) := rfl
theorem rdP_ok {S : St} (B : Bd S) : ∀ p, p < 10000 → (rdP S p).1 < 10000 ∧ fB (rdP S p).2 := by
  intro p
  induction p with
  | zero => intro _; exact ⟨by show 0 < 10000; omega, far_ok B (by omega)⟩
  | succ p ih =>
    intro hp
    have h1 := ih (by omega)
    rw [rdP_s]
    unfold rdG
    split
    · exact h1
    · exact ⟨hp, far_ok B hp⟩
theorem rd_ok {S : St} (B : Bd S) : (rdS S).1 < 10000 ∧ fB (rdS S).2 := by
  rw [rdS_P]
  exact rdP_ok B 9999 (by omega)
/-! the point's distance, the sheet's -/
theorem x_far {n : Nat} {K : Nat → Nat} {x : Nat} {h : AH} (hn : 20000 < n) (H : XSh x h) {S : St} (hN : (linesS S).1 ≤ 105) {e5 : Nat} {E5 : Nat → Nat} (l5 : Ls K h (x + 9) e5 (linesS S).1 E5) (X3 : X3L h 12 (linesS S).1 E5 (linesS S).2) {a b : Nat} (ha : a < 100) (hb : b < 100) (k : Int64 → Int64 → AH → Option (Unit × AH)) : F_X0_findRound_L48 n K (nI b) (nI a) x n 0 1 0 h k = k (farS S (100 * a + b)).2 (farS S (100 * a + b)).1 h := by
  have ea : (nI a).toInt64 = Int64.ofInt (a : Int) := by rw [V_l, nI_toInt (by omega)]
  have eb : (nI b).toInt64 = Int64.ofInt (b : Int) := by rw [V_l, nI_toInt (by omega)]
  have key := loopF (fun f i (s : Int64 × Int64) => F_X0_findRound_L48 n K (nI b) (nI a) x f i s.2 s.1 h k) (linesS S).1 (farG S (Int64.ofInt (a : Int)) (Int64.ofInt (b : Int))) (fun s => k s.2 s.1 h) (0, 1)
    (by
      intro f q s hq
      have e3 : (nI (linesS S).1 ≤ nI q) = False := eq_false (nI_ge hq (by omega))
      obtain ⟨g1, g2, g3, g4⟩ := X3 q hq
      have cg : ∀ {u v : Int64}, (0 < lg_cmp u v) = ¬ (u ≤ v) := by
        intro u v
        rw [lg_cmp_gt, Int64.lt_iff_toInt_lt, Int64.le_iff_toInt_le]
        exact propext ⟨fun z => by omega, fun z => by omega⟩
      by_cases c : (Int64.ofInt ((linesS S).2 q).1 * Int64.ofInt (a : Int) + Int64.ofInt ((linesS S).2 q).2.1 * Int64.ofInt (b : Int) - Int64.ofInt ((linesS S).2 q).2.2) * (Int64.ofInt ((linesS S).2 q).1 * Int64.ofInt (a : Int) + Int64.ofInt ((linesS S).2 q).2.1 * Int64.ofInt (b : Int) - Int64.ofInt ((linesS S).2 q).2.2) * s.2 ≤ s.1 * (Int64.ofInt ((linesS S).2 q).1 * Int64.ofInt ((linesS S).2 q).1 + Int64.ofInt ((linesS S).2 q).2.1 * Int64.ofInt ((linesS S).2 q).2.1)
      · have fg : farG S (Int64.ofInt (a : Int)) (Int64.ofInt (b : Int)) q s = s := (farG_eq ..).trans (if_pos c)
        have c' := eq_true c
        simp only [F_X0_findRound_L48, chk_true, bnd_some, ob_some, oc_some, oc_none, hl_eq, jn_eq, ix_0, ix_1, if_true, if_false, inb0_2, inb1_2, not_true_eq_false, not_false_eq_true, ite_true, ite_false, true_or, or_true, or_self, zero_eq_one_I, one_eq_zero_I, xs_k0, xs_k1, xs_n1, xs_k2, xs_k3, xs_k4, xs_k5, xs_k6, xs_k7, xs_k8, xs_k9, xs_k10, xs_k11, xs_n11, xs_k12, xs_n12, xs_k13, xs_n13, xs_k14, xs_n14, xs_k15, xs_n15, xs_k16, xs_n16, xs_k17, xs_n17, xs_k18, xs_n18, xs_k27, xs_n27, xs_k28, xs_n28, xs_r0_0, xs_r0_1, xs_r2_8, xs_r2_9, xs_r0_2, xs_r0_3, xs_r0_4, xs_r0_8, xs_r0_9, xs_r0_10, xs_r0_18, xs_r0_19, xs_r0_20, xs_r0_21, xs_r0_22, xs_r0_25, xs_r0_26, xs_r0_27, xs_r0_28, H, l_size l5, e3, l_get l5 hq, g1, g2, g3, g4, ea, eb, cg, fg, c', nI_1]
      · have fg := (farG_eq S (Int64.ofInt (a : Int)) (Int64.ofInt (b : Int)) q s).trans (if_neg c)
        have c' := eq_false c
        rw [fg]
        simp only [F_X0_findRound_L48, chk_true, bnd_some, ob_some, oc_some, oc_none, hl_eq, jn_eq, ix_0, ix_1, if_true, if_false, inb0_2, inb1_2, not_true_eq_false, not_false_eq_true, ite_true, ite_false, true_or, or_true, or_self, zero_eq_one_I, one_eq_zero_I, xs_k0, xs_k1, xs_n1, xs_k2, xs_k3, xs_k4, xs_k5, xs_k6, xs_k7, xs_k8, xs_k9, xs_k10, xs_k11, xs_n11, xs_k12, xs_n12, xs_k13, xs_n13, xs_k14, xs_n14, xs_k15, xs_n15, xs_k16, xs_n16, xs_k17, xs_n17, xs_k18, xs_n18, xs_k27, xs_n27, xs_k28, xs_n28, xs_r0_0, xs_r0_1, xs_r2_8, xs_r2_9, xs_r0_2, xs_r0_3, xs_r0_4, xs_r0_8, xs_r0_9, xs_r0_10, xs_r0_18, xs_r0_19, xs_r0_20, xs_r0_21, xs_r0_22, xs_r0_25, xs_r0_26, xs_r0_27, xs_r0_28, H, l_size l5, e3, l_get l5 hq, g1, g2, g3, g4, ea, eb, cg, c', nI_1]
        rfl)
    (by
      intro f s
      have e3 : (nI (linesS S).1 ≤ nI (linesS S).1) = True := eq_true (nI_le (Nat.le_refl _) (by omega))
      simp only [F_X0_findRound_L48, chk_true, bnd_some, ob_some, oc_some, oc_none, hl_eq, jn_eq, ix_0, ix_1, if_true, if_false, inb0_2, inb1_2, not_true_eq_false, not_false_eq_true, ite_true, ite_false, true_or, or_true, or_self, zero_eq_one_I, one_eq_zero_I, xs_k0, xs_k1, xs_n1, xs_k2, xs_k3, xs_k4, xs_k5, xs_k6, xs_k7, xs_k8, xs_k9, xs_k10, xs_k11, xs_n11, xs_k12, xs_n12, xs_k13, xs_n13, xs_k14, xs_n14, xs_k15, xs_n15, xs_k16, xs_n16, xs_k17, xs_n17, xs_k18, xs_n18, xs_k27, xs_n27, xs_k28, xs_n28, xs_r0_0, xs_r0_1, xs_r2_8, xs_r2_9, xs_r0_2, xs_r0_3, xs_r0_4, xs_r0_8, xs_r0_9, xs_r0_10, xs_r0_18, xs_r0_19, xs_r0_20, xs_r0_21, xs_r0_22, xs_r0_25, xs_r0_26, xs_r0_27, xs_r0_28, H, l_size l5, e3]) n (by omega)
  refine key.trans ?_
  unfold farS
  rw [show (100 * a + b) / 100 = a by omega, show (100 * a + b) % 100 = b by omega]
def AH.rd (h : AH) (x : Nat) (P Q : Int64) (a b : Int32) : AH := (((h.setL x 16 P).setL x 17 Q).setI x 14 a).setI x 15 b
theorem rd_L (h : AH) (x : Nat) (P Q : Int64) (a b : Int32) (p j : Nat) : (h.rd x P Q a b).L p j = if p = x ∧ j = 17 then Q else if p = x ∧ j = 16 then P else h.L p j := by
  unfold AH.rd
  simp only [AH.L_setI, AH.L_setL]
theorem rd_I (h : AH) (x : Nat) (P Q : Int64) (a b : Int32) (p j : Nat) : (h.rd x P Q a b).I p j = if p = x ∧ j = 15 then b else if p = x ∧ j = 14 then a else h.I p j := by
  unfold AH.rd
  simp only [AH.I_setI, AH.I_setL]
theorem rd_rd (h : AH) (x : Nat) (P Q P' Q' : Int64) (a b a' b' : Int32) : (h.rd x P Q a b).rd x P' Q' a' b' = h.rd x P' Q' a' b' := by
  refine AH.ext rfl rfl rfl (fun p j => ?_) (fun p j => ?_) (fun _ _ => rfl)
  · rw [rd_I, rd_I, rd_I]; split <;> (try rfl) <;> split <;> rfl
  · rw [rd_L, rd_L, rd_L]; split <;> (try rfl) <;> split <;> rfl
theorem rd_fr (h : AH) (x : Nat) (P Q : Int64) (a b : Int32) : Fr 0 0 (fun p j => p = x ∧ 13 ≤ j ∧ j ≤ 17) h (h.rd x P Q a b) := by
  refine ⟨id, Nat.le_refl _, Nat.le_refl _, Nat.le_refl _, Nat.le_refl _, fun p _ => ⟨rfl, rfl, fun j hj => ⟨?_, ?_, rfl⟩⟩⟩
  · rw [rd_I, if_neg (by omega), if_neg (by omega)]
  · rw [rd_L, if_neg (by omega), if_neg (by omega)]
/-- the heap after the points ahead of p -/
def hR (h : AH) (x : Nat) (S : St) (p : Nat) : AH := if p = 0 then h else h.rd x (rdP S (p - 1)).2.1 (rdP S (p - 1)).2.2 (nI ((rdP S (p - 1)).1 / 100)) (nI ((rdP S (p - 1)).1 % 100))
theorem hR_fr (h : AH) (x : Nat) (S : St) (p : Nat) : Fr 0 0 (fun q j => q = x ∧ 13 ≤ j ∧ j ≤ 17) h (hR h x S p) := by
  unfold hR
  split
  · exact Fr_refl h
  · exact rd_fr ..
theorem hR_s (h : AH) (x : Nat) (S : St) (p : Nat) : hR h x S (p + 1) = h.rd x (rdP S p).2.1 (rdP S p).2.2 (nI ((rdP S p).1 / 100)) (nI ((rdP S p).1 % 100)) := if_neg (by omega)
theorem jn_or {β : Type} (J Z : Option β) {P Q : Prop} {i1 : Decidable P} {i2 : Decidable Q} : (jn (α := Option β) J fun j => if P then j else if Q then j else Z) = if P ∨ Q then J else Z := by
  rw [jn_eq]
  by_cases c1 : P
  · simp [c1]
  · by_cases c2 : Q
    · simp [c1, c2]
    · simp [c1, c2]
theorem x_rdStep {n : Nat} {K : Nat → Nat} {x : Nat} {h : AH} (hn : 20000 < n) (H : XSh x h) {S : St} (B : Bd S) {e5 : Nat} {E5 : Nat → Nat} (l5 : Ls K h (x + 9) e5 (linesS S).1 E5) (X3 : X3L h 12 (linesS S).1 E5 (linesS S).2) (h16 : h.L x 16 = -1) {a b : Nat} (ha : a < 100) (hb : b < 100) (f : Nat) (k : AH → Option (Unit × AH)) : F_X0_findRound_L34 n K (nI a) x (f + 1) (nI b) (hR h x S (100 * a + b)) k = F_X0_findRound_L34 n K (nI a) x f (nI (b + 1)) (hR h x S (100 * a + (b + 1))) k := by
  have k0 := xs_k0 H
  have k9 := l5.1
  have F := hR_fr h x S (100 * a + b)
  have Hs : XSh x (hR h x S (100 * a + b)) := by
    refine XSh_fr H F (fun p hp => ?_)
    have h1 : ∀ p, p ∈ xRs → p.1 = 0 → p.2.1 < 13 ∨ 17 < p.2.1 := by decide
    rintro ⟨w1, w2⟩
    have := h1 p hp (by omega)
    omega
  have l5s : Ls K (hR h x S (100 * a + b)) (x + 9) e5 (linesS S).1 E5 := by
    refine Ls_fr l5 F (fun j _ w => by omega) (fun j _ w => ?_)
    have := (Ls_kinds l5).2
    rw [w.1] at this; omega
  have X3s : X3L (hR h x S (100 * a + b)) 12 (linesS S).1 E5 (linesS S).2 := X3L_fr (by omega) X3 F (fun v hv j w => by
    have := (X3 v hv).1
    rw [w.1] at this; omega)
  have fa := x_far hn Hs (lines_ok B).2 l5s X3s ha hb
  have e3 : ((100 : Int32) ≤ nI b) = False := eq_false (nI_ge (b := 100) hb (by omega))
  have ks : (hR h x S (100 * a + b)).kind x = 1 := xs_k0 Hs
  rw [F_X0_findRound_L34]
  simp only [chk_true, bnd_some, ob_some, oc_some, oc_none, hl_eq, ix_0, ix_1, if_true, if_false, inb0_2, inb1_2, not_true_eq_false, not_false_eq_true, ite_true, ite_false, true_or, or_true, or_self, zero_eq_one_I, one_eq_zero_I, e3, fa, ks]
  rw [jn_or]
  simp only [hl_eq, nI_1]
  show (if _ then F_X0_findRound_L34 n K (nI a) x f (nI (b + 1)) ((hR h x S (100 * a + b)).rd x (farS S (100 * a + b)).1 (farS S (100 * a + b)).2 (nI a) (nI b)) k else _) = _
  rcases Nat.eq_zero_or_pos (100 * a + b) with z | z
  · have a0 : a = 0 := by omega
    have b0 : b = 0 := by omega
    subst a0 b0
    have z0 : hR h x S (100 * 0 + 0) = h := if_pos rfl
    rw [z0]
    have c : (lg_cmp (h.L x 16) (-1) = 0) := (lg_cmp_eq _ _).2 h16
    rw [if_pos (Or.inl c)]
    rw [show 100 * 0 + (0 + 1) = 0 + 1 from rfl, hR_s, show rdP S 0 = (0, farS S 0) from rfl, show 100 * 0 + 0 = 0 from rfl, show ((0, farS S 0) : Nat × Int64 × Int64).1 / 100 = 0 from Nat.zero_div 100, show ((0, farS S 0) : Nat × Int64 × Int64).1 % 100 = 0 from Nat.zero_mod 100]
  · obtain ⟨p, hp⟩ : ∃ p, 100 * a + b = p + 1 := ⟨100 * a + b - 1, by omega⟩
    rw [show 100 * a + (b + 1) = p + 1 + 1 by omega, hp, hR_s, hR_s]
    obtain ⟨r1, r2⟩ := rdP_ok B p (by omega)
    have L16 : ∀ (P Q : Int64) (u v : Int32), (h.rd x P Q u v).L x 16 = P := fun P Q u v => by rw [rd_L, if_neg (by omega), if_pos ⟨rfl, rfl⟩]
    have L17 : ∀ (P Q : Int64) (u v : Int32), (h.rd x P Q u v).L x 17 = Q := fun P Q u v => by rw [rd_L, if_pos ⟨rfl, rfl⟩]
    rw [L16, L17, rdP_s]
    have c1 : ¬ (lg_cmp (rdP S p).2.1 (-1) = 0) := by
      rw [lg_cmp_eq]
      intro y
      have := r2.1
      rw [y] at this
      exact absurd this (by decide)
    have cl : ∀ {u v : Int64}, (lg_cmp u v < 0) = ¬ (v ≤ u) := by
      intro u v
      rw [lg_cmp_lt, Int64.lt_iff_toInt_lt, Int64.le_iff_toInt_le]
      exact propext ⟨fun z => by omega, fun z => by omega⟩
    simp only [c1, false_or, cl]
    unfold rdG
    by_cases c2 : (rdP S p).2.1 * (farS S (p + 1)).2 ≤ (farS S (p + 1)).1 * (rdP S p).2.2
    · rw [if_neg (fun y => y c2), if_pos c2]
    · rw [if_pos c2, if_neg c2, rd_rd]
      show F_X0_findRound_L34 n K (nI a) x f (nI (b + 1)) _ k = F_X0_findRound_L34 n K (nI a) x f (nI (b + 1)) (h.rd x (farS S (p + 1)).1 (farS S (p + 1)).2 (nI ((p + 1) / 100)) (nI ((p + 1) % 100))) k
      rw [show (p + 1) / 100 = a by omega, show (p + 1) % 100 = b by omega]
theorem x_rdAll {n : Nat} {K : Nat → Nat} {x : Nat} {h : AH} (hn : 20000 < n) (H : XSh x h) {S : St} (B : Bd S) {e5 : Nat} {E5 : Nat → Nat} (l5 : Ls K h (x + 9) e5 (linesS S).1 E5) (X3 : X3L h 12 (linesS S).1 E5 (linesS S).2) (h16 : h.L x 16 = -1) : F_X0_findRound_L26 n K x n 0 h = F_X0_findRound_L26 n K x 1 (nI 100) (hR h x S 10000) := by
  have inner : ∀ a, a < 100 → ∀ k, F_X0_findRound_L34 n K (nI a) x n 0 (hR h x S (100 * a)) k = k (hR h x S (100 * (a + 1))) := by
    intro a ha k
    refine loopU (fun f i (s : AH) => F_X0_findRound_L34 n K (nI a) x f i s k) 100 (fun b s => s = hR h x S (100 * a + b)) (fun o => o = k (hR h x S (100 * (a + 1)))) ?_ ?_ 100 0 _ n (by omega) (by omega) rfl
    · intro f b s hb hs
      right
      refine ⟨_, rfl, ?_⟩
      rw [hs]
      exact x_rdStep hn H B l5 X3 h16 ha hb f k
    · intro f s hs
      have e3 : ((100 : Int32) ≤ nI 100) = True := eq_true (by decide)
      rw [show 100 * (a + 1) = 100 * a + 100 by omega, ← hs]
      simp only [F_X0_findRound_L34, chk_true, bnd_some, ob_some, oc_some, oc_none, hl_eq, jn_eq, ix_0, ix_1, if_true, if_false, inb0_2, inb1_2, not_true_eq_false, not_false_eq_true, ite_true, ite_false, true_or, or_true, or_self, zero_eq_one_I, one_eq_zero_I, e3]
  refine loopU (fun f i (s : AH) => F_X0_findRound_L26 n K x f i s) 100 (fun a s => s = hR h x S (100 * a)) (fun o => o = F_X0_findRound_L26 n K x 1 (nI 100) (hR h x S 10000)) ?_ ?_ 100 0 _ n (by omega) (by omega) rfl
  · intro f a s ha hs
    right
    refine ⟨_, rfl, ?_⟩
    have e3 : ((100 : Int32) ≤ nI a) = False := eq_false (nI_ge (b := 100) ha (by omega))
    have i := inner a ha (fun h66 => F_X0_findRound_L26 n K x f (nI (a + 1)) h66)
    rw [hs]
    show F_X0_findRound_L26 n K x (f + 1) (nI a) (hR h x S (100 * a)) = _
    rw [F_X0_findRound_L26]
    simp only [chk_true, bnd_some, ob_some, oc_some, oc_none, hl_eq, jn_eq, ix_0, ix_1, if_true, if_false, inb0_2, inb1_2, not_true_eq_false, not_false_eq_true, ite_true, ite_false, true_or, or_true, or_self, zero_eq_one_I, one_eq_zero_I, e3, nI_1, i]
  · intro f s hs
    have e3 : ((100 : Int32) ≤ nI 100) = True := eq_true (by decide)
    rw [show 10000 = 100 * 100 from rfl, ← hs]
    simp only [F_X0_findRound_L26, chk_true, bnd_some, ob_some, oc_some, oc_none, hl_eq, ix_0, ix_1, if_true, if_false, inb0_2, inb1_2, not_true_eq_false, not_false_eq_true, ite_true, ite_false, true_or, or_true, or_self, zero_eq_one_I, one_eq_zero_I, e3]
