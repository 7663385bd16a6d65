/-! PURE PART QZ: the order of lines -/
set_option maxRecDepth 100000
def NrmL (t : T3) : Prop := (0 < t.1 ∧ Int.gcd t.1 t.2.1 = 1) ∨ (t.1 = 0 ∧ t.2.1 = 1)
theorem cop_eq {a b a' b' : Int} (h1 : 0 < a) (h2 : 0 < a') (g1 : Int.gcd a b = 1) (g2 : Int.gcd a' b' = 1) (e : b * a' = b' * a) : a = a' ∧ b = b' := by
  have d1 : a.natAbs ∣ a'.natAbs := by
    have : a.natAbs ∣ b.natAbs * a'.natAbs := by
      rw [← Int.natAbs_mul, e, Int.natAbs_mul]
      exact Nat.dvd_mul_left _ _
    exact Nat.Coprime.dvd_of_dvd_mul_left (show Nat.Coprime a.natAbs b.natAbs from g1) this
  have d2 : a'.natAbs ∣ a.natAbs := by
    have : a'.natAbs ∣ b'.natAbs * a.natAbs := by
      rw [← Int.natAbs_mul, ← e, Int.natAbs_mul]
      exact Nat.dvd_mul_left _ _
    exact Nat.Coprime.dvd_of_dvd_mul_left (show Nat.Coprime a'.natAbs b'.natAbs from g2) this
  have e2 := Nat.dvd_antisymm d1 d2
  have e3 : a = a' := by omega
  refine ⟨e3, ?_⟩
  rw [← e3] at e
  exact Int.eq_of_mul_eq_mul_right (by omega) e
theorem ahL_00 {s t : T3} (h1 : s.1 = 0) (h2 : t.1 = 0) : aheadL s t = decide (s.2.2 < t.2.2) := by
  unfold aheadL; rw [if_pos (Or.inl h1)]; simp [h1, h2]
theorem ahL_0p {s t : T3} (h1 : s.1 = 0) (h2 : t.1 ≠ 0) : aheadL s t = false := by
  unfold aheadL; rw [if_pos (Or.inl h1)]; simp [h1, h2]
theorem ahL_p0 {s t : T3} (h1 : s.1 ≠ 0) (h2 : t.1 = 0) : aheadL s t = true := by
  unfold aheadL; rw [if_pos (Or.inr h2)]; simp [h1]
theorem ahL_pp {s t : T3} (h1 : s.1 ≠ 0) (h2 : t.1 ≠ 0) : aheadL s t = true ↔ (s.2.1 * t.1 < t.2.1 * s.1 ∨ (s.2.1 * t.1 = t.2.1 * s.1 ∧ s.2.2 < t.2.2)) := by
  unfold aheadL
  rw [if_neg (by rintro (z | z); exact h1 z; exact h2 z)]
  by_cases c : s.2.1 * t.1 - t.2.1 * s.1 = 0
  · rw [if_pos c, decide_eq_true_iff]
    constructor
    · intro z; exact Or.inr ⟨by omega, z⟩
    · rintro (z | z)
      · omega
      · exact z.2
  · rw [if_neg c, decide_eq_true_iff]
    constructor
    · intro z; exact Or.inl (by omega)
    · rintro (z | z)
      · omega
      · omega
theorem ordL : OrdS aheadL NrmL := by
  refine ⟨fun t ht => ?_, fun s t u hs ht hu h1 h2 => ?_, fun s t hs ht hne h => ?_⟩
  · by_cases c : t.1 = 0
    · rw [ahL_00 c c]; simp
    · cases hh : aheadL t t
      · rfl
      · rcases (ahL_pp c c).1 hh with z | z
        · omega
        · omega
  · by_cases cu : u.1 = 0
    · by_cases cs : s.1 = 0
      · by_cases ct : t.1 = 0
        · rw [ahL_00 cs ct, decide_eq_true_iff] at h1
          rw [ahL_00 ct cu, decide_eq_true_iff] at h2
          rw [ahL_00 cs cu, decide_eq_true_iff]
          omega
        · rw [ahL_0p cs ct] at h1; cases h1
      · exact ahL_p0 cs cu
    · have ct : t.1 ≠ 0 := by intro z; rw [ahL_0p z cu] at h2; cases h2
      have cs : s.1 ≠ 0 := by intro z; rw [ahL_0p z ct] at h1; cases h1
      have ps : 0 < s.1 := by rcases hs with z | z; exact z.1; exact absurd z.1 cs
      have pt : 0 < t.1 := by rcases ht with z | z; exact z.1; exact absurd z.1 ct
      have pu : 0 < u.1 := by rcases hu with z | z; exact z.1; exact absurd z.1 cu
      rw [ahL_pp cs cu]
      rcases (ahL_pp cs ct).1 h1 with a | ⟨a, a2⟩
      · rcases (ahL_pp ct cu).1 h2 with b | ⟨b, b2⟩
        · exact Or.inl (sl_lt ps pt pu (by omega) (by omega) (Or.inl a))
        · exact Or.inl (sl_lt ps pt pu (by omega) (by omega) (Or.inl a))
      · rcases (ahL_pp ct cu).1 h2 with b | ⟨b, b2⟩
        · exact Or.inl (sl_lt ps pt pu (by omega) (by omega) (Or.inr b))
        · refine Or.inr ⟨?_, by omega⟩
          have r1 := sl_le ps pt pu (x1 := s.2.1) (x2 := t.2.1) (x3 := u.2.1) (by omega) (by omega)
          have r2 := sl_le pu pt ps (x1 := u.2.1) (x2 := t.2.1) (x3 := s.2.1) (by omega) (by omega)
          omega
  · by_cases cs : s.1 = 0
    · by_cases ct : t.1 = 0
      · rw [ahL_00 cs ct, decide_eq_false_iff_not] at h
        rw [ahL_00 ct cs, decide_eq_true_iff]
        have b1 : s.2.1 = 1 := by rcases hs with z | z; omega; exact z.2
        have b2 : t.2.1 = 1 := by rcases ht with z | z; omega; exact z.2
        have : s.2.2 ≠ t.2.2 := by
          intro z
          apply hne
          obtain ⟨a, b, c⟩ := s
          obtain ⟨a', b', c'⟩ := t
          simp_all
        omega
      · exact ahL_p0 ct cs
    · by_cases ct : t.1 = 0
      · rw [ahL_p0 cs ct] at h; cases h
      · have ps : 0 < s.1 ∧ Int.gcd s.1 s.2.1 = 1 := by rcases hs with z | z; exact z; exact absurd z.1 cs
        have pt : 0 < t.1 ∧ Int.gcd t.1 t.2.1 = 1 := by rcases ht with z | z; exact z; exact absurd z.1 ct
        rw [ahL_pp ct cs]
        have hh : ¬ (s.2.1 * t.1 < t.2.1 * s.1 ∨ (s.2.1 * t.1 = t.2.1 * s.1 ∧ s.2.2 < t.2.2)) := by
          intro z
          rw [(ahL_pp cs ct).2 z] at h; cases h
        by_cases e : s.2.1 * t.1 = t.2.1 * s.1
        · right
          obtain ⟨q1, q2⟩ := cop_eq ps.1 pt.1 ps.2 pt.2 e
          refine ⟨e.symm, ?_⟩
          have : s.2.2 ≠ t.2.2 := by
            intro z
            apply hne
            obtain ⟨a, b, c⟩ := s
            obtain ⟨a', b', c'⟩ := t
            simp_all
          omega
        · left; omega
