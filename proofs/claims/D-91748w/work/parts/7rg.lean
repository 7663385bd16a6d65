/-! PURE PART RG: spots are normal -/
set_option maxRecDepth 100000
theorem nrm_spot {x y n : Int} (h : n ≠ 0) : NrmM (mkSpot x y n) := by
  unfold mkSpot sgM
  have hg : 0 < (Int.gcd (Int.gcd x y) n : Int) := sg_ne (Or.inr h)
  obtain ⟨d, hd⟩ : (Int.gcd (Int.gcd x y) n : Int) ∣ n := Int.gcd_dvd_right ..
  have h1 : (Int.gcd (Int.gcd x y) n : Int) ∣ (Int.gcd x y : Int) := Int.gcd_dvd_left ..
  obtain ⟨a, ha⟩ : (Int.gcd (Int.gcd x y) n : Int) ∣ x := Int.dvd_trans h1 (Int.gcd_dvd_left ..)
  obtain ⟨b, hb⟩ : (Int.gcd (Int.gcd x y) n : Int) ∣ y := Int.dvd_trans h1 (Int.gcd_dvd_right ..)
  generalize hgd : Int.gcd (Int.gcd x y) n = g at *
  subst ha hb hd
  have hab : Int.gcd (Int.gcd a b) d = 1 := by
    rw [Int.gcd_mul_left, Int.natAbs_natCast] at hgd
    have e : ((g * Int.gcd a b : Nat) : Int) = (g : Int) * (Int.gcd a b : Int) := by simp
    rw [e, Int.gcd_mul_left, Int.natAbs_natCast] at hgd
    exact Nat.eq_of_mul_eq_mul_left (by omega) (hgd.trans (Nat.mul_one g).symm)
  have t1 : ((g : Int) * a).tdiv g = a := Int.mul_tdiv_cancel_left _ (by omega)
  have t2 : ((g : Int) * b).tdiv g = b := Int.mul_tdiv_cancel_left _ (by omega)
  have t3 : ((g : Int) * d).tdiv g = d := Int.mul_tdiv_cancel_left _ (by omega)
  have sp : ∀ {z : Int}, 0 < z → 0 < (g : Int) * z := fun hz => Int.mul_pos hg hz
  have sn : ∀ {z : Int}, z < 0 → (g : Int) * z < 0 := fun hz => Int.mul_neg_of_pos_of_neg hg hz
  by_cases c : (g : Int) * d < 0
  · rw [if_pos c]
    simp only [Int.tdiv_neg, t1, t2, t3]
    refine ⟨?_, by simpa using hab⟩
    show 0 < -d
    rcases Int.lt_trichotomy d 0 with z | z | z
    · omega
    · subst z; simp at c
    · have := sp z; omega
  · rw [if_neg c]
    simp only [t1, t2, t3]
    refine ⟨?_, hab⟩
    show 0 < d
    rcases Int.lt_trichotomy d 0 with z | z | z
    · exact absurd (sn z) c
    · subst z; simp at h
    · exact z
