/-! PURE PART RI: a line ahead of another, the sheet's -/
set_option maxRecDepth 100000
def LB (t : T3) : Prop := t.1.natAbs ≤ 99 ∧ t.2.1.natAbs ≤ 99 ∧ t.2.2.natAbs ≤ 19602
theorem c_eq0 {a : Int64} : (lg_cmp a 0 = 0) = (a.toInt = 0) := by
  rw [lg_cmp_eq, l_eq]; rfl
theorem c_ge {a b : Int64} : (0 ≤ lg_cmp a b) = ¬ (a.toInt < b.toInt) := by
  rw [lg_cmp_ge, Int64.le_iff_toInt_le]
  exact propext ⟨fun z => by omega, fun z => by omega⟩
theorem x_isAheadL {n : Nat} {K : Nat → Nat} {h : AH} {d d' : Nat} {s t : T3} (bs : LB s) (bt : LB t) (k1 : h.kind d = 12) (k2 : h.kind d' = 12) (s0 : h.L d 0 = Int64.ofInt s.1) (s1 : h.L d 1 = Int64.ofInt s.2.1) (s2 : h.L d 2 = Int64.ofInt s.2.2) (t0 : h.L d' 0 = Int64.ofInt t.1) (t1 : h.L d' 1 = Int64.ofInt t.2.1) (t2 : h.L d' 2 = Int64.ofInt t.2.2) : F_X11_isAhead n K d (some d') h = some (bI (aheadL s t), h) := by
  obtain ⟨a1, a2, a3⟩ := bs
  obtain ⟨b1, b2, b3⟩ := bt
  have m1 := mul_bd a2 b1
  have m2 := mul_bd b2 a1
  have e0 : (Int64.ofInt s.1).toInt = s.1 := l_of (by omega) (by omega)
  have e1 : (Int64.ofInt s.2.1).toInt = s.2.1 := l_of (by omega) (by omega)
  have e2 : (Int64.ofInt s.2.2).toInt = s.2.2 := l_of (by omega) (by omega)
  have f0 : (Int64.ofInt t.1).toInt = t.1 := l_of (by omega) (by omega)
  have f1 : (Int64.ofInt t.2.1).toInt = t.2.1 := l_of (by omega) (by omega)
  have f2 : (Int64.ofInt t.2.2).toInt = t.2.2 := l_of (by omega) (by omega)
  have p1 : (Int64.ofInt s.2.1 * Int64.ofInt t.1).toInt = s.2.1 * t.1 := by rw [l_mul (by rw [e1, f0]; omega) (by rw [e1, f0]; omega), e1, f0]
  have p2 : (Int64.ofInt t.2.1 * Int64.ofInt s.1).toInt = t.2.1 * s.1 := by rw [l_mul (by rw [f1, e0]; omega) (by rw [f1, e0]; omega), f1, e0]
  have p3 : (Int64.ofInt s.2.1 * Int64.ofInt t.1 - Int64.ofInt t.2.1 * Int64.ofInt s.1).toInt = s.2.1 * t.1 - t.2.1 * s.1 := by rw [l_sub (by rw [p1, p2]; omega) (by rw [p1, p2]; omega), p1, p2]
  have z0 : (0 : Int64).toInt = 0 := rfl
  simp only [F_X11_isAhead, chk_true, bnd_some, ob_some, oc_some, oc_none, hl_eq, jn_eq, ix_0, ix_1, if_true, if_false, inb0_2, inb1_2, not_true_eq_false, not_false_eq_true, ite_true, ite_false, true_or, or_true, or_self, zero_eq_one_I, one_eq_zero_I, k1, k2, s0, s1, s2, t0, t1, t2, c_eq0, c_ge, e0, e2, f0, f2, p3, z0]
  unfold aheadL bI
  by_cases c1 : s.1 = 0
  · by_cases c2 : t.1 = 0
    · by_cases c3 : s.2.2 < t.2.2 <;> simp [c1, c2, c3]
    · simp [c1, c2]
  · by_cases c2 : t.1 = 0
    · simp [c1, c2]
    · by_cases c4 : s.2.1 * t.1 - t.2.1 * s.1 = 0
      · by_cases c3 : s.2.2 < t.2.2 <;> simp [c1, c2, c3, c4]
      · by_cases c5 : s.2.1 * t.1 - t.2.1 * s.1 < 0 <;> simp [c1, c2, c4, c5]
