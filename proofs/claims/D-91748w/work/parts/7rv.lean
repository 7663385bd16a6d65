/-! PURE PART RV: the sheet's proof that there is no middle -/
set_option maxRecDepth 100000
theorem spot_mul {x y n : Int} (hn : n ≠ 0) : ∃ g : Int, g ≠ 0 ∧ x = g * (mkSpot x y n).1 ∧ y = g * (mkSpot x y n).2.1 ∧ n = g * (mkSpot x y n).2.2 := by
  have hg : 0 < (Int.gcd (Int.gcd x y) n : Int) := sg_ne (Or.inr hn)
  have dn : (Int.gcd (Int.gcd x y) n : Int) ∣ n := Int.gcd_dvd_right ..
  have h1 : (Int.gcd (Int.gcd x y) n : Int) ∣ (Int.gcd x y : Int) := Int.gcd_dvd_left ..
  have dx : (Int.gcd (Int.gcd x y) n : Int) ∣ x := Int.dvd_trans h1 (Int.gcd_dvd_left ..)
  have dy : (Int.gcd (Int.gcd x y) n : Int) ∣ y := Int.dvd_trans h1 (Int.gcd_dvd_right ..)
  have e : ∀ z : Int, (Int.gcd (Int.gcd x y) n : Int) ∣ z → z = sgM x y n * (z.tdiv (sgM x y n)) := by
    intro z hz
    refine (Int.mul_tdiv_cancel' ?_).symm
    unfold sgM
    split
    · exact Int.neg_dvd.2 hz
    · exact hz
  refine ⟨sgM x y n, ?_, e x dx, e y dy, e n dn⟩
  unfold sgM; split <;> omega
theorem lin_iff {g x y n X Y N a b c : Int} (hg : g ≠ 0) (hx : X = g * x) (hy : Y = g * y) (hN : N = g * n) : (a * X + b * Y = c * N) ↔ (a * x + b * y = c * n) := by
  subst hx hy hN
  rw [Int.mul_left_comm a, Int.mul_left_comm b, Int.mul_left_comm c, ← Int.mul_add]
  constructor
  · intro z; exact Int.eq_of_mul_eq_mul_left hg z
  · intro z; rw [z]
theorem meet_eq {s t u : T3} (h : crN s t ≠ 0) : noMeet s t u = !decide (u.1 * (crT s t).1 + u.2.1 * (crT s t).2.1 = u.2.2 * (crT s t).2.2) := by
  obtain ⟨g, g0, gx, gy, gn⟩ := spot_mul (x := s.2.2 * t.2.1 - t.2.2 * s.2.1) (y := s.1 * t.2.2 - t.1 * s.2.2) h
  have li := lin_iff (a := u.1) (b := u.2.1) (c := u.2.2) g0 gx gy gn
  unfold noMeet
  rw [decide_eq_false h, Bool.false_or]
  congr 1
  exact decide_eq_decide.2 li
theorem x_isOn {n : Nat} {K : Nat → Nat} {h : AH} {d d' : Nat} {t u : T3} (bt : SB t) (bu : LB u) (k1 : h.kind d = 13) (k2 : h.kind d' = 12) (s0 : h.L d 0 = Int64.ofInt t.1) (s1 : h.L d 1 = Int64.ofInt t.2.1) (s2 : h.L d 2 = Int64.ofInt t.2.2) (t0 : h.L d' 0 = Int64.ofInt u.1) (t1 : h.L d' 1 = Int64.ofInt u.2.1) (t2 : h.L d' 2 = Int64.ofInt u.2.2) : F_X12_isOn n K d (some d') h = some (bI (decide (u.1 * t.1 + u.2.1 * t.2.1 = u.2.2 * t.2.2)), h) := by
  obtain ⟨a1, a2, a3⟩ := bt
  obtain ⟨b1, b2, b3⟩ := bu
  have m1 := mul_bd b1 a1
  have m2 := mul_bd b2 a2
  have m3 := mul_bd b3 a3
  have e1 : (Int64.ofInt (u.1 * t.1 + u.2.1 * t.2.1)).toInt = u.1 * t.1 + u.2.1 * t.2.1 := l_of (by omega) (by omega)
  have e2 : (Int64.ofInt (u.2.2 * t.2.2)).toInt = u.2.2 * t.2.2 := l_of (by omega) (by omega)
  simp only [F_X12_isOn, chk_true, bnd_some, ob_some, oc_some, oc_none, hl_eq, jn_eq, ix_0, ix_1, if_true, if_false, inb0_2, inb1_2, not_true_eq_false, not_false_eq_true, ite_true, ite_false, true_or, or_true, or_self, zero_eq_one_I, one_eq_zero_I, k1, k2, s0, s1, s2, t0, t1, t2, l_pp, l_aa, c_eq, e1, e2]
  by_cases c : u.1 * t.1 + u.2.1 * t.2.1 = u.2.2 * t.2.2
  · simp [c, bI]
  · simp [c, bI]
theorem findS_is {p : Nat → Bool} {r k j : Nat} (h1 : k ≤ j) (h2 : j < k + r) (h3 : p j = true) (h4 : ∀ i, k ≤ i → i < j → p i = false) : findS p r k = some j := by
  cases hf : findS p r k with
  | none => rw [findS_none hf j h1 h2] at h3; cases h3
  | some q =>
    obtain ⟨a, b, c, d⟩ := findS_some hf
    rcases Nat.lt_trichotomy q j with z | z | z
    · rw [h4 q a z] at c; cases c
    · rw [z]
    · rw [d j h1 z] at h3; cases h3
theorem findS_no {p : Nat → Bool} {r k : Nat} (h : ∀ i, k ≤ i → i < k + r → p i = false) : findS p r k = none := by
  cases hf : findS p r k with
  | none => rfl
  | some q =>
    obtain ⟨a, b, c, _⟩ := findS_some hf
    rw [h q a b] at c; cases c
def AH.pr3 (h : AH) (x i j k : Nat) : AH := ((h.setI (x + 11) 0 (nI i)).setI (x + 11) 1 (nI j)).setI (x + 11) 2 (nI k)
theorem inb_3 : inb (0 : Int32) 3 = True ∧ inb (1 : Int32) 3 = True ∧ inb (2 : Int32) 3 = True := ⟨eq_true (by decide), eq_true (by decide), eq_true (by decide)⟩
theorem x_pr94 {n : Nat} {K : Nat → Nat} {x : Nat} {h : AH} {e c : Nat → Nat} {E : Nat → Nat → Nat} {b : Nat} {Z : Zt} {l : TL} (hn : 20000 < n) (B : Bd Z.S) (I : XMb K x h e c E b Z l) {i j : Nat} (hj : j < (linesS Z.S).1) (p : Option Nat) (hp : (p = none ∧ crN ((linesS Z.S).2 i) ((linesS Z.S).2 j) = 0) ∨ (∃ d t, p = some d ∧ crN ((linesS Z.S).2 i) ((linesS Z.S).2 j) ≠ 0 ∧ t = crT ((linesS Z.S).2 i) ((linesS Z.S).2 j) ∧ SB t ∧ h.kind d = 13 ∧ h.L d 0 = Int64.ofInt t.1 ∧ h.L d 1 = Int64.ofInt t.2.1 ∧ h.L d 2 = Int64.ofInt t.2.2)) (k : AH → Option (Unit × AH)) :
    F_X0_proves_L94 n K p (nI j) (nI i) x n (nI (j + 1)) h k = selS (prK Z.S i j) (fun q => some ((), h.pr3 x i j q)) (k h) := by
  obtain ⟨T5, h105⟩ := lines_ok B
  have H := I.1.2.2.2.2.1.1
  have l5 := XMb_l5 I
  have X5 := I.2.2.2.2.2.1
  obtain ⟨b0, b1, b2⟩ := inb_3
  have j2 : ix (2 : Int32) = 2 := by decide
  have k11 := xs_k11 H
  have n11 := xs_n11 H
  refine loopG_aux (fun f q => F_X0_proves_L94 n K p (nI j) (nI i) x f q h k) (linesS Z.S).1 (fun q => noMeet ((linesS Z.S).2 i) ((linesS Z.S).2 j) ((linesS Z.S).2 q)) (fun q => some ((), h.pr3 x i j q)) (k h) ?_ ?_ _ (j + 1) n (by omega) (by omega)
  · intro f q hq
    have e3 : (nI (linesS Z.S).1 ≤ nI q) = False := eq_false (nI_ge hq (by omega))
    rcases hp with ⟨rfl, hc⟩ | ⟨d, t, rfl, hc, ht, bt, kd, d0, d1, d2⟩
    · have : noMeet ((linesS Z.S).2 i) ((linesS Z.S).2 j) ((linesS Z.S).2 q) = true := by
        unfold noMeet; rw [decide_eq_true hc]; rfl
      simp only [F_X0_proves_L94, chk_true, bnd_some, ob_some, oc_some, oc_none, hl_eq, jn_eq, ix_0, ix_1, if_true, if_false, inb0_2, inb1_2, not_true_eq_false, not_false_eq_true, ite_true, ite_false, true_or, or_true, or_self, zero_eq_one_I, one_eq_zero_I, AH.n_setI, AH.n_setL, AH.n_setR, AH.sl_setI, AH.sl_setL, AH.sl_setR, AH.kind_setI, AH.kind_setL, AH.kind_setR, AH.len_setI, AH.len_setL, AH.len_setR, AH.I_setL, AH.I_setR, AH.L_setI, AH.L_setR, AH.R_setI, AH.R_setL, xs_k0, xs_k1, xs_n1, xs_k2, xs_k3, xs_k4, xs_k5, xs_k6, xs_k7, xs_k8, xs_k9, xs_k10, xs_k11, xs_n11, xs_k12, xs_n12, xs_k13, xs_n13, xs_k14, xs_n14, xs_k15, xs_n15, xs_k16, xs_n16, xs_k17, xs_n17, xs_k18, xs_n18, xs_k27, xs_n27, xs_k28, xs_n28, xs_r0_0, xs_r0_1, xs_r2_8, xs_r2_9, xs_r0_2, xs_r0_3, xs_r0_4, xs_r0_8, xs_r0_9, xs_r0_10, xs_r0_18, xs_r0_19, xs_r0_20, xs_r0_21, xs_r0_22, xs_r0_25, xs_r0_26, xs_r0_27, xs_r0_28, H, l_size l5, e3, this, k11, n11, b0, b1, b2, j2]
      rfl
    · obtain ⟨g1, g2, g3, g4⟩ := X5 q hq
      have on := x_isOn (n := n) (K := K) bt (T5.2 q hq) kd g1 d0 d1 d2 g2 g3 g4
      have me := meet_eq (u := (linesS Z.S).2 q) hc
      rw [← ht] at me
      simp only [F_X0_proves_L94, chk_true, bnd_some, ob_some, oc_some, oc_none, hl_eq, jn_eq, ix_0, ix_1, if_true, if_false, inb0_2, inb1_2, not_true_eq_false, not_false_eq_true, ite_true, ite_false, true_or, or_true, or_self, zero_eq_one_I, one_eq_zero_I, AH.n_setI, AH.n_setL, AH.n_setR, AH.sl_setI, AH.sl_setL, AH.sl_setR, AH.kind_setI, AH.kind_setL, AH.kind_setR, AH.len_setI, AH.len_setL, AH.len_setR, AH.I_setL, AH.I_setR, AH.L_setI, AH.L_setR, AH.R_setI, AH.R_setL, xs_k0, xs_k1, xs_n1, xs_k2, xs_k3, xs_k4, xs_k5, xs_k6, xs_k7, xs_k8, xs_k9, xs_k10, xs_k11, xs_n11, xs_k12, xs_n12, xs_k13, xs_n13, xs_k14, xs_n14, xs_k15, xs_n15, xs_k16, xs_n16, xs_k17, xs_n17, xs_k18, xs_n18, xs_k27, xs_n27, xs_k28, xs_n28, xs_r0_0, xs_r0_1, xs_r2_8, xs_r2_9, xs_r0_2, xs_r0_3, xs_r0_4, xs_r0_8, xs_r0_9, xs_r0_10, xs_r0_18, xs_r0_19, xs_r0_20, xs_r0_21, xs_r0_22, xs_r0_25, xs_r0_26, xs_r0_27, xs_r0_28, H, l_size l5, e3, l_get l5 hq, g1, kd, on, me, k11, n11, b0, b1, b2, j2, bI_0, nI_1]
      by_cases cc : ((linesS Z.S).2 q).1 * t.1 + ((linesS Z.S).2 q).2.1 * t.2.1 = ((linesS Z.S).2 q).2.2 * t.2.2
      · simp [cc]
      · simp [cc]
        rfl
  · intro f
    have e3 : (nI (linesS Z.S).1 ≤ nI (linesS Z.S).1) = True := eq_true (nI_le (Nat.le_refl _) (by omega))
    simp only [F_X0_proves_L94, chk_true, bnd_some, ob_some, oc_some, oc_none, hl_eq, jn_eq, ix_0, ix_1, if_true, if_false, inb0_2, inb1_2, not_true_eq_false, not_false_eq_true, ite_true, ite_false, true_or, or_true, or_self, zero_eq_one_I, one_eq_zero_I, xs_k0, xs_k1, xs_n1, xs_k2, xs_k3, xs_k4, xs_k5, xs_k6, xs_k7, xs_k8, xs_k9, xs_k10, xs_k11, xs_n11, xs_k12, xs_n12, xs_k13, xs_n13, xs_k14, xs_n14, xs_k15, xs_n15, xs_k16, xs_n16, xs_k17, xs_n17, xs_k18, xs_n18, xs_k27, xs_n27, xs_k28, xs_n28, xs_r0_0, xs_r0_1, xs_r2_8, xs_r2_9, xs_r0_2, xs_r0_3, xs_r0_4, xs_r0_8, xs_r0_9, xs_r0_10, xs_r0_18, xs_r0_19, xs_r0_20, xs_r0_21, xs_r0_22, xs_r0_25, xs_r0_26, xs_r0_27, xs_r0_28, H, l_size l5, e3]
theorem x_pr17 {n : Nat} {K : Nat → Nat} {x : Nat} {h : AH} {e c : Nat → Nat} {E : Nat → Nat → Nat} {b : Nat} {Z : Zt} {l : TL} (hn : 20000 < n) (B : Bd Z.S) (I : XMb K x h e c E b Z l) {i : Nat} (hi : i < (linesS Z.S).1) (k : AH → Option (Unit × AH)) :
    (∃ s, F_X0_proves_L17 n K (nI i) x n (nI (i + 1)) h k = k s ∧ XMb K x s e c E b Z l ∧ Fr (104 - i) (3 * (104 - i)) (fun a _ => ¬ RgM (x + 29) a) h s ∧ prJ Z.S i = none) ∨
    (∃ s j q, F_X0_proves_L17 n K (nI i) x n (nI (i + 1)) h k = some ((), s.pr3 x i j q) ∧ XMb K x s e c E b Z l ∧ Fr (104 - i) (3 * (104 - i)) (fun a _ => ¬ RgM (x + 29) a) h s ∧ prJ Z.S i = some j ∧ prK Z.S i j = some q) := by
  obtain ⟨T5, h105⟩ := lines_ok B
  refine loopU (fun f j (s : AH) => F_X0_proves_L17 n K (nI i) x f j s k) (linesS Z.S).1
    (fun j s => i + 1 ≤ j ∧ XMb K x s e c E b Z l ∧ Fr (j - (i + 1)) (3 * (j - (i + 1))) (fun a _ => ¬ RgM (x + 29) a) h s ∧ ∀ q, i + 1 ≤ q → q < j → prK Z.S i q = none)
    (fun o => (∃ s, o = k s ∧ XMb K x s e c E b Z l ∧ Fr (104 - i) (3 * (104 - i)) (fun a _ => ¬ RgM (x + 29) a) h s ∧ prJ Z.S i = none) ∨
    (∃ s j q, o = some ((), s.pr3 x i j q) ∧ XMb K x s e c E b Z l ∧ Fr (104 - i) (3 * (104 - i)) (fun a _ => ¬ RgM (x + 29) a) h s ∧ prJ Z.S i = some j ∧ prK Z.S i j = some q)) ?_ ?_ ((linesS Z.S).1 - (i + 1)) (i + 1) h n (by omega) (by omega) ⟨Nat.le_refl _, I, Fr_mono (Fr_refl h) (by omega) (by omega) (fun _ _ _ z => z), fun q h1 h2 => by omega⟩
  · rintro f j s hj ⟨ij, J, F, hN⟩
    have H := J.1.2.2.2.2.1.1
    have l5 := XMb_l5 J
    have wf := J.1.1
    have X5 := J.2.2.2.2.2.1
    obtain ⟨g1, g2, g3, g4⟩ := X5 i hi
    obtain ⟨p1, p2, p3, p4⟩ := X5 j hj
    have bi := T5.2 i hi
    have bj := T5.2 j hj
    have e3 : (nI (linesS Z.S).1 ≤ nI j) = False := eq_false (nI_ge hj (by omega))
    have vi := l_get (n := n) l5 hi
    have vj := l_get (n := n) l5 hj
    have al := x_along (n := n) (K := K) bi bj g1 p1 g2 g3 p2 p3
    have st : ∃ s', F_X0_proves_L17 n K (nI i) x (f + 1) (nI j) s k = selS (prK Z.S i j) (fun q => some ((), s'.pr3 x i j q)) (F_X0_proves_L17 n K (nI i) x f (nI (j + 1)) s' k) ∧ XMb K x s' e c E b Z l ∧ Fr 1 3 (fun a _ => ¬ RgM (x + 29) a) s s' := by
      by_cases c0 : crN ((linesS Z.S).2 i) ((linesS Z.S).2 j) = 0
      · refine ⟨s, ?_, J, Fr_mono (Fr_refl s) (by omega) (by omega) (fun _ _ _ z => z)⟩
        rw [decide_eq_true c0] at al
        have z : (bI true = 0) = False := eq_false (by decide)
        have L := x_pr94 (n := n) (K := K) (i := i) hn B J hj none (Or.inl ⟨rfl, c0⟩) (fun h84 => F_X0_proves_L17 n K (nI i) x f (nI (j + 1)) h84 k)
        rw [F_X0_proves_L17]
        simp only [chk_true, bnd_some, ob_some, oc_some, oc_none, hl_eq, jn_eq, ix_0, ix_1, if_true, if_false, inb0_2, inb1_2, not_true_eq_false, not_false_eq_true, ite_true, ite_false, true_or, or_true, or_self, zero_eq_one_I, one_eq_zero_I, xs_k0, xs_k1, xs_n1, xs_k2, xs_k3, xs_k4, xs_k5, xs_k6, xs_k7, xs_k8, xs_k9, xs_k10, xs_k11, xs_n11, xs_k12, xs_n12, xs_k13, xs_n13, xs_k14, xs_n14, xs_k15, xs_n15, xs_k16, xs_n16, xs_k17, xs_n17, xs_k18, xs_n18, xs_k27, xs_n27, xs_k28, xs_n28, xs_r0_0, xs_r0_1, xs_r2_8, xs_r2_9, xs_r0_2, xs_r0_3, xs_r0_4, xs_r0_8, xs_r0_9, xs_r0_10, xs_r0_18, xs_r0_19, xs_r0_20, xs_r0_21, xs_r0_22, xs_r0_25, xs_r0_26, xs_r0_27, xs_r0_28, H, l_size l5, e3, vi, vj, g1, p1, al, z, nI_1, L]
      · rw [decide_eq_false c0] at al
        have z : (bI false = 0) = True := eq_true (by decide)
        have cr := x_cross (n := n) (K := K) hn wf bi bj g1 p1 g2 g3 g4 p2 p3 p4 c0
        obtain ⟨nt, bt⟩ := cr_ok bi bj c0
        have F1 := new_T wf 13 (crT ((linesS Z.S).2 i) ((linesS Z.S).2 j))
        have I2 := XMb_fr J F1 (fun _ _ _ w => w.elim)
        obtain ⟨d0, d1, d2⟩ := L_setT (s.new 13 0 3) s.n (crT ((linesS Z.S).2 i) ((linesS Z.S).2 j))
        have kd : ((s.new 13 0 3).setT s.n (crT ((linesS Z.S).2 i) ((linesS Z.S).2 j))).kind s.n = 13 := by
          show (s.new 13 0 3).kind s.n = 13
          rw [AH.kind_new, if_pos rfl]
        refine ⟨_, ?_, I2, Fr_mono F1 (Nat.le_refl _) (Nat.le_refl _) (fun _ _ _ w => w.elim)⟩
        have L := x_pr94 (n := n) (K := K) (i := i) hn B I2 hj (some s.n) (Or.inr ⟨s.n, _, rfl, c0, rfl, bt, kd, d0, d1, d2⟩) (fun h84 => F_X0_proves_L17 n K (nI i) x f (nI (j + 1)) h84 k)
        rw [F_X0_proves_L17]
        simp only [chk_true, bnd_some, ob_some, oc_some, oc_none, hl_eq, jn_eq, ix_0, ix_1, if_true, if_false, inb0_2, inb1_2, not_true_eq_false, not_false_eq_true, ite_true, ite_false, true_or, or_true, or_self, zero_eq_one_I, one_eq_zero_I, xs_k0, xs_k1, xs_n1, xs_k2, xs_k3, xs_k4, xs_k5, xs_k6, xs_k7, xs_k8, xs_k9, xs_k10, xs_k11, xs_n11, xs_k12, xs_n12, xs_k13, xs_n13, xs_k14, xs_n14, xs_k15, xs_n15, xs_k16, xs_n16, xs_k17, xs_n17, xs_k18, xs_n18, xs_k27, xs_n27, xs_k28, xs_n28, xs_r0_0, xs_r0_1, xs_r2_8, xs_r2_9, xs_r0_2, xs_r0_3, xs_r0_4, xs_r0_8, xs_r0_9, xs_r0_10, xs_r0_18, xs_r0_19, xs_r0_20, xs_r0_21, xs_r0_22, xs_r0_25, xs_r0_26, xs_r0_27, xs_r0_28, H, l_size l5, e3, vi, vj, g1, p1, al, z, cr, nI_1, L]
    obtain ⟨s', q1, q2, q3⟩ := st
    have F' := Fr_trans (W := fun a _ => ¬ RgM (x + 29) a) F q3 (fun _ _ _ z => z) (fun _ _ _ z => z)
    cases hk : prK Z.S i j with
    | none =>
      right
      refine ⟨s', ⟨by omega, q2, Fr_mono F' (by omega) (by omega) (fun _ _ _ z => z), fun q h1 h2 => ?_⟩, ?_⟩
      · rcases Nat.lt_or_ge q j with z | z
        · exact hN q h1 z
        · rw [show q = j by omega]; exact hk
      · show F_X0_proves_L17 n K (nI i) x (f + 1) (nI j) s k = _
        rw [q1, hk]; rfl
    | some q =>
      left; right
      refine ⟨s', j, q, ?_, q2, Fr_mono F' (by omega) (by omega) (fun _ _ _ z => z), ?_, hk⟩
      · show F_X0_proves_L17 n K (nI i) x (f + 1) (nI j) s k = _
        rw [q1, hk]; rfl
      · exact findS_is ij (by omega) (by rw [hk]; rfl) (fun q h1 h2 => by rw [hN q h1 h2]; rfl)
  · rintro f s ⟨ij, J, F, hN⟩
    left
    have H := J.1.2.2.2.2.1.1
    have l5 := XMb_l5 J
    have e3 : (nI (linesS Z.S).1 ≤ nI (linesS Z.S).1) = True := eq_true (nI_le (Nat.le_refl _) (by omega))
    refine ⟨s, ?_, J, Fr_mono F (by omega) (by omega) (fun _ _ _ z => z), findS_no (fun q h1 h2 => by rw [hN q h1 (by omega)]; rfl)⟩
    simp only [F_X0_proves_L17, chk_true, bnd_some, ob_some, oc_some, oc_none, hl_eq, jn_eq, ix_0, ix_1, if_true, if_false, inb0_2, inb1_2, not_true_eq_false, not_false_eq_true, ite_true, ite_false, true_or, or_true, or_self, zero_eq_one_I, one_eq_zero_I, xs_k0, xs_k1, xs_n1, xs_k2, xs_k3, xs_k4, xs_k5, xs_k6, xs_k7, xs_k8, xs_k9, xs_k10, xs_k11, xs_n11, xs_k12, xs_n12, xs_k13, xs_n13, xs_k14, xs_n14, xs_k15, xs_n15, xs_k16, xs_n16, xs_k17, xs_n17, xs_k18, xs_n18, xs_k27, xs_n27, xs_k28, xs_n28, xs_r0_0, xs_r0_1, xs_r2_8, xs_r2_9, xs_r0_2, xs_r0_3, xs_r0_4, xs_r0_8, xs_r0_9, xs_r0_10, xs_r0_18, xs_r0_19, xs_r0_20, xs_r0_21, xs_r0_22, xs_r0_25, xs_r0_26, xs_r0_27, xs_r0_28, H, l_size l5, e3]
theorem tri_lin {i : Nat} (h : i ≤ 105) : tri i ≤ 104 * i := by
  induction i with
  | zero => exact Nat.le_refl _
  | succ i ih =>
    have := ih (by omega)
    show tri i + i ≤ _
    omega
theorem x_proves {n : Nat} {K : Nat → Nat} {x : Nat} {h : AH} {e c : Nat → Nat} {E : Nat → Nat → Nat} {b : Nat} {Z : Zt} {l : TL} (hn : 20000 < n) (B : Bd Z.S) (I : XMb K x h e c E b Z l) :
    (∃ s, F_X0_proves n K x h = some ((), s) ∧ XMb K x s e c E b Z l ∧ Fr 5460 16380 (fun a _ => ¬ RgM (x + 29) a) h s ∧ prI Z.S = none) ∨
    (∃ s i j q, F_X0_proves n K x h = some ((), s.pr3 x i j q) ∧ XMb K x s e c E b Z l ∧ Fr 5460 16380 (fun a _ => ¬ RgM (x + 29) a) h s ∧ prI Z.S = some i ∧ prJ Z.S i = some j ∧ prK Z.S i j = some q) := by
  obtain ⟨T5, h105⟩ := lines_ok B
  have tb : ∀ i, i ≤ 105 → 104 * i - tri i ≤ 5460 := by
    intro i hi
    have : ∀ i, i < 106 → 104 * i - tri i ≤ 5460 := by decide
    exact this i (by omega)
  refine loopU (fun f j (s : AH) => F_X0_proves_L2 n K x f j s) (linesS Z.S).1
    (fun i s => XMb K x s e c E b Z l ∧ Fr (104 * i - tri i) (3 * (104 * i - tri i)) (fun a _ => ¬ RgM (x + 29) a) h s ∧ ∀ q, q < i → prJ Z.S q = none)
    (fun o => (∃ s, o = some ((), s) ∧ XMb K x s e c E b Z l ∧ Fr 5460 16380 (fun a _ => ¬ RgM (x + 29) a) h s ∧ prI Z.S = none) ∨
    (∃ s i j q, o = some ((), s.pr3 x i j q) ∧ XMb K x s e c E b Z l ∧ Fr 5460 16380 (fun a _ => ¬ RgM (x + 29) a) h s ∧ prI Z.S = some i ∧ prJ Z.S i = some j ∧ prK Z.S i j = some q)) ?_ ?_ (linesS Z.S).1 0 h n (by omega) (by omega) ⟨I, Fr_mono (Fr_refl h) (by omega) (by omega) (fun _ _ _ z => z), fun q h2 => by omega⟩
  · rintro f i s hi ⟨J, F, hN⟩
    have H := J.1.2.2.2.2.1.1
    have l5 := XMb_l5 J
    have e3 : (nI (linesS Z.S).1 ≤ nI i) = False := eq_false (nI_ge hi (by omega))
    have et : tri (i + 1) = tri i + i := rfl
    have tl := tri_lin (i := i) (by omega)
    have tl2 := tri_lin (i := i + 1) (by omega)
    have tb2 := tb (i + 1) (by omega)
    have st : F_X0_proves_L2 n K x (f + 1) (nI i) s = F_X0_proves_L17 n K (nI i) x n (nI (i + 1)) s (fun h103 => F_X0_proves_L2 n K x f (nI (i + 1)) h103) := by
      rw [F_X0_proves_L2]
      simp only [chk_true, bnd_some, ob_some, oc_some, oc_none, hl_eq, jn_eq, ix_0, ix_1, if_true, if_false, inb0_2, inb1_2, not_true_eq_false, not_false_eq_true, ite_true, ite_false, true_or, or_true, or_self, zero_eq_one_I, one_eq_zero_I, xs_k0, xs_k1, xs_n1, xs_k2, xs_k3, xs_k4, xs_k5, xs_k6, xs_k7, xs_k8, xs_k9, xs_k10, xs_k11, xs_n11, xs_k12, xs_n12, xs_k13, xs_n13, xs_k14, xs_n14, xs_k15, xs_n15, xs_k16, xs_n16, xs_k17, xs_n17, xs_k18, xs_n18, xs_k27, xs_n27, xs_k28, xs_n28, xs_r0_0, xs_r0_1, xs_r2_8, xs_r2_9, xs_r0_2, xs_r0_3, xs_r0_4, xs_r0_8, xs_r0_9, xs_r0_10, xs_r0_18, xs_r0_19, xs_r0_20, xs_r0_21, xs_r0_22, xs_r0_25, xs_r0_26, xs_r0_27, xs_r0_28, H, l_size l5, e3, nI_1]
    rcases x_pr17 (K := K) hn B J hi (fun h103 => F_X0_proves_L2 n K x f (nI (i + 1)) h103) with ⟨s', q1, q2, q3, q4⟩ | ⟨s', j, q, q1, q2, q3, q4, q5⟩
    · right
      have F' := Fr_trans (W := fun a _ => ¬ RgM (x + 29) a) F q3 (fun _ _ _ z => z) (fun _ _ _ z => z)
      refine ⟨s', ⟨q2, Fr_mono F' (by omega) (by omega) (fun _ _ _ z => z), fun q h1 => ?_⟩, ?_⟩
      · rcases Nat.lt_or_ge q i with z | z
        · exact hN q z
        · rw [show q = i by omega]; exact q4
      · show F_X0_proves_L2 n K x (f + 1) (nI i) s = _
        rw [st, q1]
    · left; right
      have F' := Fr_trans (W := fun a _ => ¬ RgM (x + 29) a) F q3 (fun _ _ _ z => z) (fun _ _ _ z => z)
      refine ⟨s', i, j, q, ?_, q2, Fr_mono F' (by omega) (by omega) (fun _ _ _ z => z), ?_, q4, q5⟩
      · show F_X0_proves_L2 n K x (f + 1) (nI i) s = _
        rw [st, q1]
      · exact findS_is (by omega) (by omega) (by rw [q4]; rfl) (fun q h1 h2 => by rw [hN q h2]; rfl)
  · rintro f s ⟨J, F, hN⟩
    left
    have H := J.1.2.2.2.2.1.1
    have l5 := XMb_l5 J
    have e3 : (nI (linesS Z.S).1 ≤ nI (linesS Z.S).1) = True := eq_true (nI_le (Nat.le_refl _) (by omega))
    have tb2 := tb (linesS Z.S).1 h105
    refine ⟨s, ?_, J, Fr_mono F (by omega) (by omega) (fun _ _ _ z => z), findS_no (fun q h1 h2 => by rw [hN q (by omega)]; rfl)⟩
    simp only [F_X0_proves_L2, chk_true, bnd_some, ob_some, oc_some, oc_none, hl_eq, jn_eq, ix_0, ix_1, if_true, if_false, inb0_2, inb1_2, not_true_eq_false, not_false_eq_true, ite_true, ite_false, true_or, or_true, or_self, zero_eq_one_I, one_eq_zero_I, xs_k0, xs_k1, xs_n1, xs_k2, xs_k3, xs_k4, xs_k5, xs_k6, xs_k7, xs_k8, xs_k9, xs_k10, xs_k11, xs_n11, xs_k12, xs_n12, xs_k13, xs_n13, xs_k14, xs_n14, xs_k15, xs_n15, xs_k16, xs_n16, xs_k17, xs_n17, xs_k18, xs_n18, xs_k27, xs_n27, xs_k28, xs_n28, xs_r0_0, xs_r0_1, xs_r2_8, xs_r2_9, xs_r0_2, xs_r0_3, xs_r0_4, xs_r0_8, xs_r0_9, xs_r0_10, xs_r0_18, xs_r0_19, xs_r0_20, xs_r0_21, xs_r0_22, xs_r0_25, xs_r0_26, xs_r0_27, xs_r0_28, H, l_size l5, e3]
