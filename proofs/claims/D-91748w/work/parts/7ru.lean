/-! PURE PART RU: the sheet's middles, the loops -/
set_option maxRecDepth 100000
def md0 (S : St) (v : Nat) : TL := foldS (fun v l => comeS S (mkSpot (vX S v) (vY S v) 1) l) (0, fun _ => (0, 0, 0)) v
def mdStep (S : St) (i j : Nat) (l : TL) : TL := if crN ((linesS S).2 i) ((linesS S).2 j) = 0 then l else comeS S (crT ((linesS S).2 i) ((linesS S).2 j)) l
def mdP (S : St) (i : Nat) : TL := foldS (fun i l => foldS (mdStep S i) l i) (md0 S S.nv) i
theorem mdP_all (S : St) : middlesS S = mdP S (linesS S).1 := rfl
theorem vSpot_ok {S : St} (B : Bd S) {v : Nat} (hv : v < S.nv) : SB (vX S v, vY S v, 1) ∧ NrmM (mkSpot (vX S v) (vY S v) 1) ∧ SB (mkSpot (vX S v) (vY S v) 1) := by
  obtain ⟨a1, a2⟩ := vX_bd B hv
  have h1 : SB (vX S v, vY S v, 1) := ⟨by show (vX S v).natAbs ≤ 4000000; omega, by show (vY S v).natAbs ≤ 4000000; omega, by show (1 : Int).natAbs ≤ 20000; decide⟩
  exact ⟨h1, nrm_spot (by decide), spot_bd h1⟩
theorem cr_bd {s t : T3} (bs : LB s) (bt : LB t) : SB (s.2.2 * t.2.1 - t.2.2 * s.2.1, s.1 * t.2.2 - t.1 * s.2.2, crN s t) := by
  obtain ⟨a1, a2, a3⟩ := bs
  obtain ⟨b1, b2, b3⟩ := bt
  have m1 := mul_bd a3 b2
  have m2 := mul_bd b3 a2
  have m3 := mul_bd a1 b3
  have m4 := mul_bd b1 a3
  have m5 := mul_bd a1 b2
  have m6 := mul_bd b1 a2
  refine ⟨?_, ?_, ?_⟩
  · show (s.2.2 * t.2.1 - t.2.2 * s.2.1).natAbs ≤ _; omega
  · show (s.1 * t.2.2 - t.1 * s.2.2).natAbs ≤ _; omega
  · show (s.1 * t.2.1 - t.1 * s.2.1).natAbs ≤ _; omega
theorem cr_ok {s t : T3} (bs : LB s) (bt : LB t) (h : crN s t ≠ 0) : NrmM (crT s t) ∧ SB (crT s t) := ⟨nrm_spot h, spot_bd (cr_bd bs bt)⟩
theorem md0_ok {S : St} (B : Bd S) : ∀ v, v ≤ S.nv → MLok (md0 S v) ∧ (md0 S v).1 ≤ v := by
  intro v
  induction v with
  | zero => intro _; exact ⟨⟨⟨fun i hi => absurd hi (Nat.not_lt_zero i), fun i j _ hj => absurd hj (Nat.not_lt_zero j)⟩, fun k hk => absurd hk (Nat.not_lt_zero k)⟩, Nat.le_refl _⟩
  | succ v ih =>
    intro hv
    obtain ⟨h1, h2⟩ := ih (by omega)
    obtain ⟨_, g1, g2⟩ := vSpot_ok B (v := v) (by omega)
    obtain ⟨k1, k2⟩ := comeS_ok (S := S) g1 g2 h1
    exact ⟨k1, by show (comeS S (mkSpot (vX S v) (vY S v) 1) (md0 S v)).1 ≤ _; omega⟩
theorem mdStep_ok {S : St} (B : Bd S) {i j : Nat} (hi : i < (linesS S).1) (hj : j < (linesS S).1) {l : TL} (T : MLok l) : MLok (mdStep S i j l) ∧ (mdStep S i j l).1 ≤ l.1 + 1 := by
  obtain ⟨T5, _⟩ := lines_ok B
  unfold mdStep
  by_cases c : crN ((linesS S).2 i) ((linesS S).2 j) = 0
  · rw [if_pos c]; exact ⟨T, by omega⟩
  · rw [if_neg c]
    obtain ⟨g1, g2⟩ := cr_ok (T5.2 i hi) (T5.2 j hj) c
    exact comeS_ok g1 g2 T
theorem mdP_in {S : St} (B : Bd S) {i : Nat} (hi : i < (linesS S).1) {l : TL} (T : MLok l) : ∀ j, j ≤ i → MLok (foldS (mdStep S i) l j) ∧ (foldS (mdStep S i) l j).1 ≤ l.1 + j := by
  intro j
  induction j with
  | zero => intro _; exact ⟨T, Nat.le_refl _⟩
  | succ j ih =>
    intro hj
    obtain ⟨h1, h2⟩ := ih (by omega)
    obtain ⟨g1, g2⟩ := mdStep_ok B hi (j := j) (by omega) h1
    exact ⟨g1, by show (mdStep S i j (foldS (mdStep S i) l j)).1 ≤ _; omega⟩
theorem mdP_ok {S : St} (B : Bd S) : ∀ i, i ≤ (linesS S).1 → MLok (mdP S i) ∧ (mdP S i).1 ≤ 15 + tri i := by
  intro i
  induction i with
  | zero =>
    intro _
    obtain ⟨h1, h2⟩ := md0_ok B S.nv (Nat.le_refl _)
    have := B.2.2.2.1
    exact ⟨h1, by show (md0 S S.nv).1 ≤ 15 + 0; omega⟩
  | succ i ih =>
    intro hi
    obtain ⟨h1, h2⟩ := ih (by omega)
    obtain ⟨g1, g2⟩ := mdP_in B (i := i) (by omega) h1 i (Nat.le_refl _)
    refine ⟨g1, ?_⟩
    show (foldS (mdStep S i) (mdP S i) i).1 ≤ 15 + (tri i + i)
    omega
theorem tri_mono {i j : Nat} (h : i ≤ j) : tri i ≤ tri j := by
  induction j with
  | zero => rw [show i = 0 by omega]; exact Nat.le_refl _
  | succ j ih =>
    rcases Nat.lt_or_ge i (j + 1) with z | z
    · have := ih (by omega)
      show tri i ≤ tri j + j
      omega
    · rw [show i = j + 1 by omega]; exact Nat.le_refl _
theorem tri_105 : tri 105 = 5460 := by decide
theorem tri_le2 {i : Nat} (h : i ≤ 105) : tri i ≤ 5460 := by rw [← tri_105]; exact tri_mono h
theorem tri_j2 {i j : Nat} (h : i < 105) (hj : j ≤ i) : tri i + j ≤ 5460 := by
  have := tri_le2 (i := i + 1) (by omega)
  have e : tri (i + 1) = tri i + i := rfl
  omega
theorem middles_ok {S : St} (B : Bd S) : MLok (middlesS S) ∧ (middlesS S).1 ≤ 5475 := by
  rw [mdP_all]
  obtain ⟨h1, h2⟩ := mdP_ok B (linesS S).1 (Nat.le_refl _)
  have := tri_le2 (lines_ok B).2
  exact ⟨h1, by omega⟩
theorem x_along {n : Nat} {K : Nat → Nat} {h : AH} {d d' : Nat} {s t : T3} (bs : LB s) (bt : LB t) (k1 : h.kind d = 12) (k2 : h.kind d' = 12) (s0 : h.L d 0 = Int64.ofInt s.1) (s1 : h.L d 1 = Int64.ofInt s.2.1) (t0 : h.L d' 0 = Int64.ofInt t.1) (t1 : h.L d' 1 = Int64.ofInt t.2.1) : F_X11_isAlong n K d (some d') h = some (bI (decide (crN s t = 0)), h) := by
  obtain ⟨a1, a2, a3⟩ := bs
  obtain ⟨b1, b2, b3⟩ := bt
  have m1 := mul_bd a1 b2
  have m2 := mul_bd b1 a2
  have e1 : (Int64.ofInt (s.1 * t.2.1)).toInt = s.1 * t.2.1 := l_of (by omega) (by omega)
  have e2 : (Int64.ofInt (t.1 * s.2.1)).toInt = t.1 * s.2.1 := l_of (by omega) (by omega)
  simp only [F_X11_isAlong, chk_true, bnd_some, ob_some, oc_some, oc_none, hl_eq, jn_eq, ix_0, ix_1, if_true, if_false, inb0_2, inb1_2, not_true_eq_false, not_false_eq_true, ite_true, ite_false, true_or, or_true, or_self, zero_eq_one_I, one_eq_zero_I, k1, k2, s0, s1, t0, t1, l_pp, c_eq, e1, e2, crN]
  by_cases c : s.1 * t.2.1 = t.1 * s.2.1
  · have c2 : s.1 * t.2.1 - t.1 * s.2.1 = 0 := by omega
    simp [c, bI]
  · have c2 : ¬ (s.1 * t.2.1 - t.1 * s.2.1 = 0) := by omega
    simp [c, c2, bI]
theorem x_cross {n : Nat} {K : Nat → Nat} {h : AH} (hn : 20000 < n) (wf : Wf h) {d d' : Nat} {s t : T3} (bs : LB s) (bt : LB t) (k1 : h.kind d = 12) (k2 : h.kind d' = 12) (s0 : h.L d 0 = Int64.ofInt s.1) (s1 : h.L d 1 = Int64.ofInt s.2.1) (s2 : h.L d 2 = Int64.ofInt s.2.2) (t0 : h.L d' 0 = Int64.ofInt t.1) (t1 : h.L d' 1 = Int64.ofInt t.2.1) (t2 : h.L d' 2 = Int64.ofInt t.2.2) (hc : crN s t ≠ 0) : F_X12_crossing n K (some d) (some d') h = some (some h.n, (h.new 13 0 3).setT h.n (crT s t)) := by
  have h0 := wf h.n (Nat.le_refl _)
  have n1 : d ≠ h.n := by intro z; rw [z] at k1; omega
  have n2 : d' ≠ h.n := by intro z; rw [z] at k2; omega
  have nk : (h.new 13 0 3).kind h.n = 13 := by rw [AH.kind_new, if_pos rfl]
  have q1 : (h.new 13 0 3).kind d = 12 := by rw [AH.kind_new, if_neg n1]; exact k1
  have q2 : (h.new 13 0 3).kind d' = 12 := by rw [AH.kind_new, if_neg n2]; exact k2
  have r1 : ∀ j, (h.new 13 0 3).L d j = h.L d j := fun j => by rw [AH.L_new, if_neg n1]
  have r2 : ∀ j, (h.new 13 0 3).L d' j = h.L d' j := fun j => by rw [AH.L_new, if_neg n2]
  have ini := x_initM (n := n) (K := K) hn nk (cr_bd bs bt) hc
  simp only [F_X12_crossing, chk_true, bnd_some, ob_some, oc_some, oc_none, hl_eq, jn_eq, ix_0, ix_1, if_true, if_false, inb0_2, inb1_2, not_true_eq_false, not_false_eq_true, ite_true, ite_false, true_or, or_true, or_self, zero_eq_one_I, one_eq_zero_I, q1, q2, r1, r2, s0, s1, s2, t0, t1, t2, l_pp, l_mm]
  rw [show s.1 * t.2.1 - t.1 * s.2.1 = crN s t from rfl, ini]
  rfl
theorem x_mdStep {n : Nat} {K : Nat → Nat} {x : Nat} {h : AH} {e c : Nat → Nat} {E : Nat → Nat → Nat} {b : Nat} {Z : Zt} {l : TL} (hn : 20000 < n) (B : Bd Z.S) (I : XMb K x h e c E b Z l) (T : MLok l) (hl : l.1 < 6000) {i j : Nat} (hj : j < i) (hi : i < (linesS Z.S).1) (f : Nat) (k : AH → Option (Unit × AH)) :
    ∃ e' c' E' h', F_X0_findMiddles_L107 n K (nI i) x (f + 1) (nI j) h k = F_X0_findMiddles_L107 n K (nI i) x f (nI (j + 1)) h' k ∧ XMb K x h' e' c' E' b Z (mdStep Z.S i j l) ∧ Fr 2 (13 + 2 * l.1) (fun a _ => ¬ RgM (x + 29) a) h h' ∧ Cp 6 1 (10 + 2 * l.1) h e h' e' := by
  obtain ⟨T5, h105⟩ := lines_ok B
  have H := I.1.2.2.2.2.1.1
  have l5 := XMb_l5 I
  have wf := I.1.1
  have X5 := I.2.2.2.2.2.1
  obtain ⟨g1, g2, g3, g4⟩ := X5 i hi
  obtain ⟨p1, p2, p3, p4⟩ := X5 j (by omega)
  have bi := T5.2 i hi
  have bj := T5.2 j (by omega)
  have e3 : (nI i ≤ nI j) = False := eq_false (nI_ge hj (by omega))
  have vi := l_get (n := n) l5 hi
  have vj := l_get (n := n) l5 (i := j) (by omega)
  have al := x_along (n := n) (K := K) bi bj g1 p1 g2 g3 p2 p3
  by_cases c0 : crN ((linesS Z.S).2 i) ((linesS Z.S).2 j) = 0
  · refine ⟨e, c, E, h, ?_, ?_, Fr_mono (Fr_refl h) (by omega) (by omega) (fun _ _ _ z => z), Cp_mono Cp_refl (by omega) (Nat.le_refl _)⟩
    · rw [decide_eq_true c0] at al
      have z : (bI true = 0) = False := eq_false (by decide)
      simp only [F_X0_findMiddles_L107, chk_true, bnd_some, ob_some, oc_some, oc_none, hl_eq, jn_eq, ix_0, ix_1, if_true, if_false, inb0_2, inb1_2, not_true_eq_false, not_false_eq_true, ite_true, ite_false, true_or, or_true, or_self, zero_eq_one_I, one_eq_zero_I, xs_k0, xs_k1, xs_n1, xs_k2, xs_k3, xs_k4, xs_k5, xs_k6, xs_k7, xs_k8, xs_k9, xs_k10, xs_k11, xs_n11, xs_k12, xs_n12, xs_k13, xs_n13, xs_k14, xs_n14, xs_k15, xs_n15, xs_k16, xs_n16, xs_k17, xs_n17, xs_k18, xs_n18, xs_k27, xs_n27, xs_k28, xs_n28, xs_r0_0, xs_r0_1, xs_r2_8, xs_r2_9, xs_r0_2, xs_r0_3, xs_r0_4, xs_r0_8, xs_r0_9, xs_r0_10, xs_r0_18, xs_r0_19, xs_r0_20, xs_r0_21, xs_r0_22, xs_r0_25, xs_r0_26, xs_r0_27, xs_r0_28, H, e3, vi, vj, g1, p1, al, z, nI_1]
    · unfold mdStep
      rw [if_pos c0]; exact I
  · rw [decide_eq_false c0] at al
    have z : (bI false = 0) = True := eq_true (by decide)
    have cr := x_cross (n := n) (K := K) hn wf bi bj g1 p1 g2 g3 g4 p2 p3 p4 c0
    obtain ⟨nt, bt⟩ := cr_ok bi bj c0
    have F1 := new_T wf 13 (crT ((linesS Z.S).2 i) ((linesS Z.S).2 j))
    have I2 := XMb_fr I F1 (fun _ _ _ w => w.elim)
    have C1 : Cp 6 1 (10 + 2 * l.1) h e _ e := Cp_new F1 (Nat.le_refl _) (by have := (Ls_kinds (XMb_l6 I)).2; omega)
    obtain ⟨d0, d1, d2⟩ := L_setT (h.new 13 0 3) h.n (crT ((linesS Z.S).2 i) ((linesS Z.S).2 j))
    have kd : ((h.new 13 0 3).setT h.n (crT ((linesS Z.S).2 i) ((linesS Z.S).2 j))).kind h.n = 13 := by
      show (h.new 13 0 3).kind h.n = 13
      rw [AH.kind_new, if_pos rfl]
    have H2 := I2.1.2.2.2.2.1.1
    obtain ⟨e', c', E', h3, q1, q2, q3, q4⟩ := x_comes (K := K) hn B I2 T hl nt bt kd d0 d1 d2
    refine ⟨e', c', E', h3, ?_, ?_, ?_, Cp_mono (Cp_trans C1 q4) (by omega) (Nat.le_refl _)⟩
    · simp only [F_X0_findMiddles_L107, chk_true, bnd_some, ob_some, oc_some, oc_none, hl_eq, jn_eq, ix_0, ix_1, if_true, if_false, inb0_2, inb1_2, not_true_eq_false, not_false_eq_true, ite_true, ite_false, true_or, or_true, or_self, zero_eq_one_I, one_eq_zero_I, xs_k0, xs_k1, xs_n1, xs_k2, xs_k3, xs_k4, xs_k5, xs_k6, xs_k7, xs_k8, xs_k9, xs_k10, xs_k11, xs_n11, xs_k12, xs_n12, xs_k13, xs_n13, xs_k14, xs_n14, xs_k15, xs_n15, xs_k16, xs_n16, xs_k17, xs_n17, xs_k18, xs_n18, xs_k27, xs_n27, xs_k28, xs_n28, xs_r0_0, xs_r0_1, xs_r2_8, xs_r2_9, xs_r0_2, xs_r0_3, xs_r0_4, xs_r0_8, xs_r0_9, xs_r0_10, xs_r0_18, xs_r0_19, xs_r0_20, xs_r0_21, xs_r0_22, xs_r0_25, xs_r0_26, xs_r0_27, xs_r0_28, H, H2, e3, vi, vj, g1, p1, al, z, cr, q1, nI_1]
    · unfold mdStep
      rw [if_neg c0]; exact q2
    · exact Fr_mono (Fr_trans (W := fun a _ => ¬ RgM (x + 29) a) F1 q3 (fun _ _ _ w => w.elim) (fun _ _ _ w => w)) (by omega) (by omega) (fun _ _ _ w => w)
theorem x_md33 {n : Nat} {K : Nat → Nat} {x : Nat} {h : AH} {e c : Nat → Nat} {E : Nat → Nat → Nat} {b : Nat} {Z : Zt} (hn : 20000 < n) (B : Bd Z.S) (I : XMb K x h e c E b Z (md0 Z.S 0)) (k : AH → Option (Unit × AH)) :
    ∃ e' c' E' h', F_X0_findMiddles_L33 n K x n 0 h k = k h' ∧ XMb K x h' e' c' E' b Z (md0 Z.S Z.S.nv) ∧ Fr 30 195000 (fun a _ => ¬ RgM (x + 29) a) h h' ∧ Cp 6 15 10960 h e h' e' := by
  have h15 : Z.S.nv ≤ 15 := B.2.2.2.1
  have key := loopU (fun f v (s : AH) => F_X0_findMiddles_L33 n K x f v s k) Z.S.nv
    (fun v s => ∃ e' c' E', XMb K x s e' c' E' b Z (md0 Z.S v) ∧ Fr (2 * v) (13000 * v) (fun a _ => ¬ RgM (x + 29) a) h s ∧ Cp 6 v 10960 h e s e')
    (fun o => ∃ e' c' E' h', o = k h' ∧ XMb K x h' e' c' E' b Z (md0 Z.S Z.S.nv) ∧ Fr 30 195000 (fun a _ => ¬ RgM (x + 29) a) h h' ∧ Cp 6 15 10960 h e h' e')
    (by
      rintro f v s hv ⟨e2, c2, E2, j1, j2, j3⟩
      right
      obtain ⟨t1, t2⟩ := md0_ok B v (by omega)
      obtain ⟨sb, nt, bt⟩ := vSpot_ok B hv
      have wf := j1.1.1
      have X := j1.1.2.2.2.2.1
      have e3 : (nI Z.S.nv ≤ nI v) = False := eq_false (nI_ge hv (by omega))
      have F0 : Fr 1 3 (fun _ _ => False) s (s.new 13 0 3) := Fr_new wf 13 0 3
      have J1 := XMb_fr j1 F0 (fun _ _ _ w => w.elim)
      have X1 := J1.1.2.2.2.2.1
      have gv := X1.2.1.2.2 v hv
      have gk := eq_true gv.1
      have F1 := new_T wf 13 (mkSpot (vX Z.S v) (vY Z.S v) 1)
      have I2 := XMb_fr j1 F1 (fun _ _ _ w => w.elim)
      have H2 := I2.1.2.2.2.2.1.1
      have C1 : Cp 6 1 10960 s e2 _ e2 := Cp_new F1 (Nat.le_refl _) (by have := (Ls_kinds (XMb_l6 j1)).2; omega)
      have nk : (s.new 13 0 3).kind s.n = 13 := by rw [AH.kind_new, if_pos rfl]
      have ini : F_X12_init n K s.n (Z.S.V v 0).toInt64 (Z.S.V v 1).toInt64 1 (s.new 13 0 3) = some ((), (s.new 13 0 3).setT s.n (mkSpot (vX Z.S v) (vY Z.S v) 1)) := by
        rw [V_l, V_l, show (1 : Int64) = Int64.ofInt 1 from rfl]
        exact x_initM hn nk sb (by decide)
      obtain ⟨d0, d1, d2⟩ := L_setT (s.new 13 0 3) s.n (mkSpot (vX Z.S v) (vY Z.S v) 1)
      obtain ⟨e', c', E', h3, q1, q2, q3, q4⟩ := x_comes (K := K) hn B I2 t1 (by omega) nt bt nk d0 d1 d2
      refine ⟨h3, ⟨e', c', E', q2, ?_, ?_⟩, ?_⟩
      · have F3 := Fr_trans (W := fun a _ => ¬ RgM (x + 29) a) F1 q3 (fun _ _ _ w => w.elim) (fun _ _ _ w => w)
        exact Fr_mono (Fr_trans (W := fun a _ => ¬ RgM (x + 29) a) j2 F3 (fun _ _ _ w => w) (fun _ _ _ w => w)) (by omega) (by omega) (fun _ _ _ w => w)
      · exact Cp_mono (Cp_trans j3 (Cp_trans C1 (Cp_mono q4 (Nat.le_refl _) (by omega)))) (by omega) (Nat.le_refl _)
      · simp only [F_X0_findMiddles_L33, chk_true, bnd_some, ob_some, oc_some, oc_none, hl_eq, jn_eq, ix_0, ix_1, if_true, if_false, inb0_2, inb1_2, not_true_eq_false, not_false_eq_true, ite_true, ite_false, true_or, or_true, or_self, zero_eq_one_I, one_eq_zero_I, xs_k0, xs_k1, xs_n1, xs_k2, xs_k3, xs_k4, xs_k5, xs_k6, xs_k7, xs_k8, xs_k9, xs_k10, xs_k11, xs_n11, xs_k12, xs_n12, xs_k13, xs_n13, xs_k14, xs_n14, xs_k15, xs_n15, xs_k16, xs_n16, xs_k17, xs_n17, xs_k18, xs_n18, xs_k27, xs_n27, xs_k28, xs_n28, xs_r0_0, xs_r0_1, xs_r2_8, xs_r2_9, xs_r0_2, xs_r0_3, xs_r0_4, xs_r0_8, xs_r0_9, xs_r0_10, xs_r0_18, xs_r0_19, xs_r0_20, xs_r0_21, xs_r0_22, xs_r0_25, xs_r0_26, xs_r0_27, xs_r0_28, X.1, X1.1, H2, x_vsize hn X, e3, x_vget hn X1 hv, gk, gv.2.2.1, gv.2.2.2.1, ini, q1, nI_1])
    (by
      rintro f s ⟨e2, c2, E2, j1, j2, j3⟩
      have X := j1.1.2.2.2.2.1
      have e3 : (nI Z.S.nv ≤ nI Z.S.nv) = True := eq_true (nI_le (Nat.le_refl _) (by omega))
      refine ⟨e2, c2, E2, s, ?_, j1, Fr_mono j2 (by omega) (by omega) (fun _ _ _ z => z), Cp_mono j3 h15 (Nat.le_refl _)⟩
      simp only [F_X0_findMiddles_L33, chk_true, bnd_some, ob_some, oc_some, oc_none, hl_eq, jn_eq, ix_0, ix_1, if_true, if_false, inb0_2, inb1_2, not_true_eq_false, not_false_eq_true, ite_true, ite_false, true_or, or_true, or_self, zero_eq_one_I, one_eq_zero_I, xs_k0, xs_k1, xs_n1, xs_k2, xs_k3, xs_k4, xs_k5, xs_k6, xs_k7, xs_k8, xs_k9, xs_k10, xs_k11, xs_n11, xs_k12, xs_n12, xs_k13, xs_n13, xs_k14, xs_n14, xs_k15, xs_n15, xs_k16, xs_n16, xs_k17, xs_n17, xs_k18, xs_n18, xs_k27, xs_n27, xs_k28, xs_n28, xs_r0_0, xs_r0_1, xs_r2_8, xs_r2_9, xs_r0_2, xs_r0_3, xs_r0_4, xs_r0_8, xs_r0_9, xs_r0_10, xs_r0_18, xs_r0_19, xs_r0_20, xs_r0_21, xs_r0_22, xs_r0_25, xs_r0_26, xs_r0_27, xs_r0_28, X.1, x_vsize hn X, e3])
  exact key Z.S.nv 0 h n (by omega) (by omega) ⟨e, c, E, I, Fr_refl h, Cp_refl⟩
theorem x_md94 {n : Nat} {K : Nat → Nat} {x : Nat} {h : AH} {e c : Nat → Nat} {E : Nat → Nat → Nat} {b : Nat} {Z : Zt} (hn : 20000 < n) (B : Bd Z.S) (I : XMb K x h e c E b Z (mdP Z.S 0)) :
    ∃ e' c' E' h', F_X0_findMiddles_L94 n K x n 0 h = F_X0_findMiddles_L94 n K x 1 (nI (linesS Z.S).1) h' ∧ XMb K x h' e' c' E' b Z (middlesS Z.S) ∧ Fr 10920 70980000 (fun a _ => ¬ RgM (x + 29) a) h h' ∧ Cp 6 5460 10960 h e h' e' := by
  obtain ⟨T5, h105⟩ := lines_ok B
  have inner : ∀ i, i < (linesS Z.S).1 → ∀ (g : AH) (e1 c1 : Nat → Nat) (E1 : Nat → Nat → Nat) (k : AH → Option (Unit × AH)), XMb K x g e1 c1 E1 b Z (mdP Z.S i) →
      ∃ e' c' E' g', F_X0_findMiddles_L107 n K (nI i) x n 0 g k = k g' ∧ XMb K x g' e' c' E' b Z (mdP Z.S (i + 1)) ∧ Fr (2 * i) (13000 * i) (fun a _ => ¬ RgM (x + 29) a) g g' ∧ Cp 6 i 10960 g e1 g' e' := by
    intro i hi g e1 c1 E1 k J
    have key := loopU (fun f j (s : AH) => F_X0_findMiddles_L107 n K (nI i) x f j s k) i
      (fun j s => ∃ e' c' E', XMb K x s e' c' E' b Z (foldS (mdStep Z.S i) (mdP Z.S i) j) ∧ Fr (2 * j) (13000 * j) (fun a _ => ¬ RgM (x + 29) a) g s ∧ Cp 6 j 10960 g e1 s e')
      (fun o => ∃ e' c' E' g', o = k g' ∧ XMb K x g' e' c' E' b Z (mdP Z.S (i + 1)) ∧ Fr (2 * i) (13000 * i) (fun a _ => ¬ RgM (x + 29) a) g g' ∧ Cp 6 i 10960 g e1 g' e')
      (by
        rintro f j s hj ⟨e2, c2, E2, j1, j2, j3⟩
        right
        obtain ⟨t1, t2⟩ := mdP_ok B i (by omega)
        obtain ⟨u1, u2⟩ := mdP_in B hi t1 j (by omega)
        have u3 := tri_j2 (i := i) (j := j) (by omega) (by omega)
        obtain ⟨e3, c3, E3, s', q1, q2, q3, q4⟩ := x_mdStep hn B j1 u1 (by omega) hj hi f k
        refine ⟨s', ⟨e3, c3, E3, q2, Fr_mono (Fr_trans (W := fun a _ => ¬ RgM (x + 29) a) j2 q3 (fun _ _ _ z => z) (fun _ _ _ z => z)) (by omega) (by omega) (fun _ _ _ z => z), Cp_trans j3 (Cp_mono q4 (Nat.le_refl _) (by omega))⟩, q1⟩)
      (by
        rintro f s ⟨e2, c2, E2, j1, j2, j3⟩
        have e3 : (nI i ≤ nI i) = True := eq_true (nI_le (Nat.le_refl _) (by omega))
        exact ⟨e2, c2, E2, s, by simp only [F_X0_findMiddles_L107, e3, if_true], j1, j2, j3⟩)
    exact key i 0 g n (by omega) (by omega) ⟨e1, c1, E1, J, Fr_refl g, Cp_refl⟩
  have key := loopU (fun f i (s : AH) => F_X0_findMiddles_L94 n K x f i s) (linesS Z.S).1
    (fun i s => ∃ e' c' E', XMb K x s e' c' E' b Z (mdP Z.S i) ∧ Fr (2 * tri i) (13000 * tri i) (fun a _ => ¬ RgM (x + 29) a) h s ∧ Cp 6 (tri i) 10960 h e s e')
    (fun o => ∃ e' c' E' h', o = F_X0_findMiddles_L94 n K x 1 (nI (linesS Z.S).1) h' ∧ XMb K x h' e' c' E' b Z (middlesS Z.S) ∧ Fr 10920 70980000 (fun a _ => ¬ RgM (x + 29) a) h h' ∧ Cp 6 5460 10960 h e h' e')
    (by
      rintro f i s hi ⟨e2, c2, E2, j1, j2, j3⟩
      right
      have H := j1.1.2.2.2.2.1.1
      have l5 := XMb_l5 j1
      have e3 : (nI (linesS Z.S).1 ≤ nI i) = False := eq_false (nI_ge hi (by omega))
      obtain ⟨e3', c3, E3, s', q1, q2, q3, q4⟩ := inner i hi s e2 c2 E2 (fun h109 => F_X0_findMiddles_L94 n K x f (nI (i + 1)) h109) j1
      have et : tri (i + 1) = tri i + i := rfl
      refine ⟨s', ⟨e3', c3, E3, q2, ?_, ?_⟩, ?_⟩
      · exact Fr_mono (Fr_trans (W := fun a _ => ¬ RgM (x + 29) a) j2 q3 (fun _ _ _ z => z) (fun _ _ _ z => z)) (by omega) (by omega) (fun _ _ _ z => z)
      · exact Cp_trans j3 q4
      · rw [F_X0_findMiddles_L94]
        simp only [chk_true, bnd_some, ob_some, oc_some, oc_none, hl_eq, jn_eq, ix_0, ix_1, if_true, if_false, inb0_2, inb1_2, not_true_eq_false, not_false_eq_true, ite_true, ite_false, true_or, or_true, or_self, zero_eq_one_I, one_eq_zero_I, xs_k0, xs_k1, xs_n1, xs_k2, xs_k3, xs_k4, xs_k5, xs_k6, xs_k7, xs_k8, xs_k9, xs_k10, xs_k11, xs_n11, xs_k12, xs_n12, xs_k13, xs_n13, xs_k14, xs_n14, xs_k15, xs_n15, xs_k16, xs_n16, xs_k17, xs_n17, xs_k18, xs_n18, xs_k27, xs_n27, xs_k28, xs_n28, xs_r0_0, xs_r0_1, xs_r2_8, xs_r2_9, xs_r0_2, xs_r0_3, xs_r0_4, xs_r0_8, xs_r0_9, xs_r0_10, xs_r0_18, xs_r0_19, xs_r0_20, xs_r0_21, xs_r0_22, xs_r0_25, xs_r0_26, xs_r0_27, xs_r0_28, H, l_size l5, e3, nI_1, q1])
    (by
      rintro f s ⟨e2, c2, E2, j1, j2, j3⟩
      have H := j1.1.2.2.2.2.1.1
      have l5 := XMb_l5 j1
      have e3 : (nI (linesS Z.S).1 ≤ nI (linesS Z.S).1) = True := eq_true (nI_le (Nat.le_refl _) (by omega))
      have ht := tri_le2 h105
      refine ⟨e2, c2, E2, s, ?_, j1, Fr_mono j2 (by omega) (by omega) (fun _ _ _ z => z), Cp_mono j3 ht (Nat.le_refl _)⟩
      simp only [F_X0_findMiddles_L94, chk_true, bnd_some, ob_some, oc_some, oc_none, hl_eq, ix_0, ix_1, if_true, if_false, inb0_2, inb1_2, not_true_eq_false, not_false_eq_true, ite_true, ite_false, true_or, or_true, or_self, zero_eq_one_I, one_eq_zero_I, xs_k0, xs_k1, xs_n1, xs_k2, xs_k3, xs_k4, xs_k5, xs_k6, xs_k7, xs_k8, xs_k9, xs_k10, xs_k11, xs_n11, xs_k12, xs_n12, xs_k13, xs_n13, xs_k14, xs_n14, xs_k15, xs_n15, xs_k16, xs_n16, xs_k17, xs_n17, xs_k18, xs_n18, xs_k27, xs_n27, xs_k28, xs_n28, xs_r0_0, xs_r0_1, xs_r2_8, xs_r2_9, xs_r0_2, xs_r0_3, xs_r0_4, xs_r0_8, xs_r0_9, xs_r0_10, xs_r0_18, xs_r0_19, xs_r0_20, xs_r0_21, xs_r0_22, xs_r0_25, xs_r0_26, xs_r0_27, xs_r0_28, H, l_size l5, e3])
  exact key (linesS Z.S).1 0 h n (by omega) (by omega) ⟨e, c, E, I, Fr_refl h, Cp_refl⟩
