/-! PURE PART RF: bounds after end, feed; lines are normal -/
set_option maxRecDepth 100000
theorem Bz_end {Z : Zt} (bz : Bz Z) (q : Int32) : Bz (endZ Z q) := by
  unfold endZ
  cases hq : endS Z q
  · rw [if_neg (by decide)]; exact bz
  · rw [if_pos rfl]
    have ht := bz.2.1
    obtain ⟨k, hk, rfl⟩ := (inS_le (by omega)).1 hq
    rw [ix_nI (by omega)]
    exact ⟨bz.1, by show k ≤ 600; omega, bz.2.2⟩
theorem Bz_feed {Z : Zt} (bz : Bz Z) (a b c d e : Int32) : Bz (feedZ Z a b c d e) := by
  unfold feedZ
  by_cases h : Z.tm + 20 ≤ 600
  · rw [if_pos h]; exact ⟨bz.1, h, bz.2.2⟩
  · rw [if_neg h]; exact bz
theorem sg_ne {p q : Int} (h : p ≠ 0 ∨ q ≠ 0) : 0 < (Int.gcd p q : Int) := by
  have : Int.gcd p q ≠ 0 := by
    intro z
    have z2 := Int.gcd_eq_zero_iff.1 z
    omega
  omega
theorem nrm_line {x1 y1 x2 y2 : Int} (h : y2 - y1 ≠ 0 ∨ x1 - x2 ≠ 0) : NrmL (mkLine x1 y1 x2 y2) := by
  unfold mkLine sgL
  generalize y2 - y1 = p at *
  generalize x1 - x2 = q at *
  have hg := sg_ne h
  obtain ⟨a, ha⟩ : (Int.gcd p q : Int) ∣ p := Int.gcd_dvd_left ..
  obtain ⟨b, hb⟩ : (Int.gcd p q : Int) ∣ q := Int.gcd_dvd_right ..
  generalize hgd : Int.gcd p q = g at *
  subst ha hb
  have hab : Int.gcd a b = 1 := by
    rw [Int.gcd_mul_left, Int.natAbs_natCast] at hgd
    exact Nat.eq_of_mul_eq_mul_left (by omega) (hgd.trans (Nat.mul_one g).symm)
  have t1 : ((g : Int) * a).tdiv g = a := Int.mul_tdiv_cancel_left _ (by omega)
  have t2 : ((g : Int) * b).tdiv g = b := Int.mul_tdiv_cancel_left _ (by omega)
  have sp : ∀ {z : Int}, 0 < z → 0 < (g : Int) * z := fun hz => Int.mul_pos hg hz
  have sn : ∀ {z : Int}, z < 0 → (g : Int) * z < 0 := fun hz => Int.mul_neg_of_pos_of_neg hg hz
  by_cases c : (g : Int) * a < 0 ∨ ((g : Int) * a = 0 ∧ (g : Int) * b < 0)
  · rw [if_pos c]
    simp only [Int.tdiv_neg, t1, t2]
    unfold NrmL
    rcases Int.lt_trichotomy a 0 with z | z | z
    · left
      exact ⟨by show 0 < -a; omega, by simpa using hab⟩
    · right
      subst z
      rw [Int.gcd_zero_left] at hab
      have nb : b < 0 := by
        rcases Int.lt_trichotomy b 0 with y | y | y
        · exact y
        · subst y; simp at hab
        · have := sp y
          rcases c with c | c
          · simp at c
          · omega
      exact ⟨by simp, by show -b = 1; omega⟩
    · have := sp z
      omega
  · rw [if_neg c]
    simp only [t1, t2]
    unfold NrmL
    rcases Int.lt_trichotomy a 0 with z | z | z
    · exact absurd (Or.inl (sn z)) c
    · right
      subst z
      rw [Int.gcd_zero_left] at hab
      have nb : 0 < b := by
        rcases Int.lt_trichotomy b 0 with y | y | y
        · exact absurd (Or.inr ⟨by simp, sn y⟩) c
        · subst y; simp at hab
        · exact y
      exact ⟨rfl, by show b = 1; omega⟩
    · left; exact ⟨z, hab⟩
