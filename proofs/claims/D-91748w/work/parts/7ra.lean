/-! PURE PART RA: the order of spots -/
set_option maxRecDepth 100000
def NrmM (t : T3) : Prop := 0 < t.2.2 ∧ Int.gcd (Int.gcd t.1 t.2.1) t.2.2 = 1
theorem ahM_iff {s t : T3} : aheadM s t = true ↔ (s.1 * t.2.2 < t.1 * s.2.2 ∨ (s.1 * t.2.2 = t.1 * s.2.2 ∧ s.2.1 * t.2.2 < t.2.1 * s.2.2)) := by
  unfold aheadM
  by_cases c : s.1 * t.2.2 - t.1 * s.2.2 = 0
  · rw [if_pos c, decide_eq_true_iff]
    constructor
    · intro z; exact Or.inr ⟨by omega, z⟩
    · rintro (z | z)
      · omega
      · exact z.2
  · rw [if_neg c, decide_eq_true_iff]
    constructor
    · intro z; exact Or.inl (by omega)
    · rintro (z | z)
      · omega
      · omega
theorem dvd_n {x y n x' y' n' : Int} (g : Int.gcd (Int.gcd x y) n = 1) (e1 : x * n' = x' * n) (e2 : y * n' = y' * n) : n.natAbs ∣ n'.natAbs := by
  have d1 : n.natAbs ∣ x.natAbs * n'.natAbs := by
    rw [← Int.natAbs_mul, e1, Int.natAbs_mul]
    exact Nat.dvd_mul_left _ _
  have d2 : n.natAbs ∣ y.natAbs * n'.natAbs := by
    rw [← Int.natAbs_mul, e2, Int.natAbs_mul]
    exact Nat.dvd_mul_left _ _
  have d3 := Nat.dvd_gcd d1 d2
  rw [Nat.gcd_mul_right] at d3
  have c : Nat.Coprime n.natAbs (Nat.gcd x.natAbs y.natAbs) := by
    have g' : Nat.gcd (Nat.gcd x.natAbs y.natAbs) n.natAbs = 1 := g
    show Nat.gcd _ _ = 1
    rw [Nat.gcd_comm]; exact g'
  exact Nat.Coprime.dvd_of_dvd_mul_left c d3
theorem spot_eq {s t : T3} (hs : NrmM s) (ht : NrmM t) (e1 : s.1 * t.2.2 = t.1 * s.2.2) (e2 : s.2.1 * t.2.2 = t.2.1 * s.2.2) : s = t := by
  obtain ⟨x, y, n⟩ := s
  obtain ⟨x', y', n'⟩ := t
  have p1 : 0 < n := hs.1
  have p2 : 0 < n' := ht.1
  have a := dvd_n hs.2 e1 e2
  have b := dvd_n ht.2 e1.symm e2.symm
  have e3 := Nat.dvd_antisymm a b
  have en : n = n' := by
    have e3' : n.natAbs = n'.natAbs := e3
    omega
  subst en
  have f1 : x * n = x' * n := e1
  have f2 : y * n = y' * n := e2
  rw [Int.eq_of_mul_eq_mul_right (by omega) f1, Int.eq_of_mul_eq_mul_right (by omega) f2]
theorem ordM : OrdS aheadM NrmM := by
  refine ⟨fun t ht => ?_, fun s t u hs ht hu h1 h2 => ?_, fun s t hs ht hne h => ?_⟩
  · cases hh : aheadM t t
    · rfl
    · rcases ahM_iff.1 hh with z | z
      · omega
      · omega
  · have ps := hs.1
    have pt := ht.1
    have pu := hu.1
    rw [ahM_iff]
    rcases ahM_iff.1 h1 with a | ⟨a, a2⟩
    · rcases ahM_iff.1 h2 with b | ⟨b, b2⟩
      · exact Or.inl (sl_lt ps pt pu (by omega) (by omega) (Or.inl a))
      · exact Or.inl (sl_lt ps pt pu (by omega) (by omega) (Or.inl a))
    · rcases ahM_iff.1 h2 with b | ⟨b, b2⟩
      · exact Or.inl (sl_lt ps pt pu (by omega) (by omega) (Or.inr b))
      · refine Or.inr ⟨?_, sl_lt ps pt pu (x1 := s.2.1) (x2 := t.2.1) (x3 := u.2.1) (by omega) (by omega) (Or.inl a2)⟩
        have r1 := sl_le ps pt pu (x1 := s.1) (x2 := t.1) (x3 := u.1) (by omega) (by omega)
        have r2 := sl_le pu pt ps (x1 := u.1) (x2 := t.1) (x3 := s.1) (by omega) (by omega)
        omega
  · rw [ahM_iff]
    have hh : ¬ (s.1 * t.2.2 < t.1 * s.2.2 ∨ (s.1 * t.2.2 = t.1 * s.2.2 ∧ s.2.1 * t.2.2 < t.2.1 * s.2.2)) := by
      intro z
      rw [ahM_iff.2 z] at h; cases h
    by_cases e : s.1 * t.2.2 = t.1 * s.2.2
    · right
      refine ⟨e.symm, ?_⟩
      have : s.2.1 * t.2.2 ≠ t.2.1 * s.2.2 := fun z => hne (spot_eq hs ht e z)
      omega
    · left; omega
/-! the model's insertion from the end -/
/-- how far the model's loop goes down from k -/
def dnS (ah : T3 → T3 → Bool) (t : T3) (F : Nat → T3) : Nat → Nat
  | 0 => 0
  | k + 1 => if ah t (F k) = true then dnS ah t F k else k + 1
theorem dn_pos {ah : T3 → T3 → Bool} {N : T3 → Prop} (O : OrdS ah N) {t : T3} (ht : N t) {l : TL} (L : SortS ah N l) (hm : memS t l = false) : ∀ k, k ≤ l.1 → posS ah t l ≤ k → dnS ah t l.2 k = posS ah t l := by
  intro k
  induction k with
  | zero => intro _ h; rw [dnS]; omega
  | succ k ih =>
    intro h1 h2
    rw [dnS]
    rcases Nat.lt_or_ge k (posS ah t l) with c | c
    · have a := pos_lt c
      have : ah t (l.2 k) = false := by
        cases hh : ah t (l.2 k)
        · rfl
        · have z := O.2.1 _ _ _ ht (L.1 k (by omega)) ht hh a
          rw [O.1 t ht] at z; cases z
      rw [this, if_neg (by decide)]; omega
    · rw [pos_ge O ht L hm c (by omega), if_pos rfl]
      exact ih (by omega) c
