/-! PURE PART RJ: the same line, the sheet's; a line ahead, the model's -/
set_option maxRecDepth 100000
theorem c_eq {a b : Int64} : (lg_cmp a b = 0) = (a.toInt = b.toInt) := by
  rw [lg_cmp_eq, l_eq]
theorem x_isSameL {n : Nat} {K : Nat → Nat} {h : AH} {d d' : Nat} {s t : T3} (bs : LB s) (bt : LB t) (k1 : h.kind d = 12) (k2 : h.kind d' = 12) (s0 : h.L d 0 = Int64.ofInt s.1) (s1 : h.L d 1 = Int64.ofInt s.2.1) (s2 : h.L d 2 = Int64.ofInt s.2.2) (t0 : h.L d' 0 = Int64.ofInt t.1) (t1 : h.L d' 1 = Int64.ofInt t.2.1) (t2 : h.L d' 2 = Int64.ofInt t.2.2) : F_X11_isSame n K d (some d') h = some (bI (decide (s = t)), h) := by
  obtain ⟨a1, a2, a3⟩ := bs
  obtain ⟨b1, b2, b3⟩ := bt
  have e0 : (Int64.ofInt s.1).toInt = s.1 := l_of (by omega) (by omega)
  have e1 : (Int64.ofInt s.2.1).toInt = s.2.1 := l_of (by omega) (by omega)
  have e2 : (Int64.ofInt s.2.2).toInt = s.2.2 := l_of (by omega) (by omega)
  have f0 : (Int64.ofInt t.1).toInt = t.1 := l_of (by omega) (by omega)
  have f1 : (Int64.ofInt t.2.1).toInt = t.2.1 := l_of (by omega) (by omega)
  have f2 : (Int64.ofInt t.2.2).toInt = t.2.2 := l_of (by omega) (by omega)
  simp only [F_X11_isSame, chk_true, bnd_some, ob_some, oc_some, oc_none, hl_eq, jn_eq, ix_0, ix_1, if_true, if_false, inb0_2, inb1_2, not_true_eq_false, not_false_eq_true, ite_true, ite_false, true_or, or_true, or_self, zero_eq_one_I, one_eq_zero_I, k1, k2, s0, s1, s2, t0, t1, t2, c_eq, e0, e1, e2, f0, f1, f2]
  obtain ⟨p, q, r⟩ := s
  obtain ⟨p', q', r'⟩ := t
  unfold bI
  by_cases c1 : p = p'
  · by_cases c2 : q = q'
    · by_cases c3 : r = r' <;> simp [c1, c2, c3]
    · simp [c1, c2]
  · simp [c1]
