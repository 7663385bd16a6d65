/-! PURE PART QX: common divisors -/
set_option maxRecDepth 100000
theorem lN_0 : lN 0 = 0 := rfl
theorem lN_eq0 {q : Nat} (hq : q < 2 ^ 63) : (lN q = 0) = (q = 0) := by
  rw [← lN_0]; exact propext (pk_lEQ hq (by omega))
theorem x_gcdL {n : Nat} {K : Nat → Nat} {h : AH} : ∀ k p q fuel, p < 2 ^ 63 → q < 2 ^ 63 → q < 2 ^ k → 2 * k + 1 < fuel → F_X0_common_L12 n K h fuel (lN q) (lN p) = some (lN (Nat.gcd q p), h) := by
  have stop : ∀ p f, F_X0_common_L12 n K h (f + 1) (lN 0) (lN p) = some (lN p, h) := by
    intro p f
    have e : (lg_cmp (lN 0) 0 = 0) = True := eq_true ((lg_cmp_eq _ _).2 rfl)
    simp only [F_X0_common_L12, e, if_true]
  have step : ∀ p q f, p < 2 ^ 63 → q < 2 ^ 63 → 0 < q → F_X0_common_L12 n K h (f + 1) (lN q) (lN p) = F_X0_common_L12 n K h f (lN (p % q)) (lN q) := by
    intro p q f hp hq h0
    have e0 : (lN q = 0) = False := (lN_eq0 hq).trans (eq_false (by omega))
    have e : (lg_cmp (lN q) 0 = 0) = False := by rw [lg_cmp_eq]; exact e0
    simp only [F_X0_common_L12, e, if_false, e0, not_false_eq_true, chk_true, pk_lRem hp h0 hq]
  intro k
  induction k with
  | zero =>
    intro p q fuel hp hq hk hf
    obtain ⟨f, rfl⟩ : ∃ f, fuel = f + 1 := ⟨fuel - 1, by omega⟩
    have : q = 0 := by omega
    subst this
    rw [stop, Nat.gcd_zero_left]
  | succ k ih =>
    intro p q fuel hp hq hk hf
    obtain ⟨f, rfl⟩ : ∃ f, fuel = f + 2 := ⟨fuel - 2, by omega⟩
    rcases Nat.eq_zero_or_pos q with h0 | h0
    · subst h0
      rw [stop, Nat.gcd_zero_left]
    · have hr := Nat.mod_lt p h0
      rw [step p q (f + 1) hp hq h0, Nat.gcd_rec q p]
      rcases Nat.eq_zero_or_pos (p % q) with h1 | h1
      · rw [h1, stop, Nat.gcd_zero_left]
      · have hs := Nat.mod_lt q h1
        have h2 : q % (p % q) < 2 ^ k := by
          have h3 := Nat.div_add_mod q (p % q)
          have h4 : 1 ≤ q / (p % q) := Nat.div_pos (by omega) h1
          have h5 : p % q * 1 ≤ p % q * (q / (p % q)) := Nat.mul_le_mul_left _ h4
          have h6 : 2 ^ (k + 1) = 2 * 2 ^ k := by rw [Nat.pow_succ]; omega
          omega
        rw [step q (p % q) f hq (by omega) h1, Nat.gcd_rec (p % q) q]
        exact ih (p % q) (q % (p % q)) f (by omega) (by omega) h2 (by omega)
theorem m_gcdL {n : Nat} {K : Nat → Nat} {h : AH} : ∀ k p q fuel, p < 2 ^ 63 → q < 2 ^ 63 → q < 2 ^ k → 2 * k + 1 < fuel → F_X3_gcd_L28 n K h fuel (lN q) (lN p) = some (lN (Nat.gcd q p), h) := by
  have stop : ∀ p f, F_X3_gcd_L28 n K h (f + 1) (lN 0) (lN p) = some (lN p, h) := by
    intro p f
    have e : (lg_cmp (lN 0) 0 ≤ 0) = True := eq_true ((lg_cmp_le _ _).2 (by decide))
    simp only [F_X3_gcd_L28, e, if_true]
  have step : ∀ p q f, p < 2 ^ 63 → q < 2 ^ 63 → 0 < q → F_X3_gcd_L28 n K h (f + 1) (lN q) (lN p) = F_X3_gcd_L28 n K h f (lN (p % q)) (lN q) := by
    intro p q f hp hq h0
    have e0 : (lN q = 0) = False := (lN_eq0 hq).trans (eq_false (by omega))
    have e : (lg_cmp (lN q) 0 ≤ 0) = False := by
      rw [lg_cmp_le, ← lN_0]
      exact eq_false (fun z => by have := (pk_lLE hq (by omega)).1 z; omega)
    simp only [F_X3_gcd_L28, e, if_false, e0, not_false_eq_true, chk_true, pk_lRem hp h0 hq]
  intro k
  induction k with
  | zero =>
    intro p q fuel hp hq hk hf
    obtain ⟨f, rfl⟩ : ∃ f, fuel = f + 1 := ⟨fuel - 1, by omega⟩
    have : q = 0 := by omega
    subst this
    rw [stop, Nat.gcd_zero_left]
  | succ k ih =>
    intro p q fuel hp hq hk hf
    obtain ⟨f, rfl⟩ : ∃ f, fuel = f + 2 := ⟨fuel - 2, by omega⟩
    rcases Nat.eq_zero_or_pos q with h0 | h0
    · subst h0
      rw [stop, Nat.gcd_zero_left]
    · have hr := Nat.mod_lt p h0
      rw [step p q (f + 1) hp hq h0, Nat.gcd_rec q p]
      rcases Nat.eq_zero_or_pos (p % q) with h1 | h1
      · rw [h1, stop, Nat.gcd_zero_left]
      · have hs := Nat.mod_lt q h1
        have h2 : q % (p % q) < 2 ^ k := by
          have h3 := Nat.div_add_mod q (p % q)
          have h4 : 1 ≤ q / (p % q) := Nat.div_pos (by omega) h1
          have h5 : p % q * 1 ≤ p % q * (q / (p % q)) := Nat.mul_le_mul_left _ h4
          have h6 : 2 ^ (k + 1) = 2 * 2 ^ k := by rw [Nat.pow_succ]; omega
          omega
        rw [step q (p % q) f hq (by omega) h1, Nat.gcd_rec (p % q) q]
        exact ih (p % q) (q % (p % q)) f (by omega) (by omega) h2 (by omega)
theorem absL {a : Int64} (h1 : -(2 ^ 62) ≤ a.toInt) (h2 : a.toInt ≤ 2 ^ 62) : (if 0 < a then a else -a) = lN a.toInt.natAbs := by
  have hn : (lN a.toInt.natAbs).toInt = (a.toInt.natAbs : Int) := pk_lT (by omega)
  apply Int64.toInt_inj.1
  rw [hn]
  by_cases c : 0 < a
  · rw [if_pos c]
    rw [Int64.lt_iff_toInt_lt] at c
    have z : (0 : Int64).toInt = 0 := rfl
    omega
  · rw [if_neg c]
    rw [Int64.lt_iff_toInt_lt] at c
    have z : (0 : Int64).toInt = 0 := rfl
    have e : (-a).toInt = -a.toInt := by
      rw [Int64.toInt_neg]
      exact Int.bmod_eq_of_le (by omega) (by omega)
    rw [e]; omega
/-- bounds that no difference of this program leaves -/
def sm (a : Int64) : Prop := -(2 ^ 62) ≤ a.toInt ∧ a.toInt ≤ 2 ^ 62
theorem x_common {n : Nat} {K : Nat → Nat} {h : AH} (hn : 20000 < n) {a b : Int64} (ha : sm a) (hb : sm b) : F_X0_common n K a b h = some (lN (Int.gcd a.toInt b.toInt), h) := by
  unfold F_X0_common
  rw [absL ha.1 ha.2, absL hb.1 hb.2, x_gcdL 63 _ _ n (by have := ha.1; have := ha.2; omega) (by have := hb.1; have := hb.2; omega) (by have := hb.1; have := hb.2; omega) (by omega), Nat.gcd_comm]
  rfl
theorem m_gcd {n : Nat} {K : Nat → Nat} {h : AH} (hn : 20000 < n) {a b : Int64} (ha : sm a) (hb : sm b) : F_X3_gcd n K a b h = some (lN (Int.gcd a.toInt b.toInt), h) := by
  have ab : ∀ {c : Int64}, sm c → (if 0 ≤ lg_cmp c 0 then c else -c) = lN c.toInt.natAbs := by
    intro c hc
    rw [← absL hc.1 hc.2]
    by_cases z : 0 < c
    · rw [if_pos z, if_pos ((lg_cmp_ge _ _).2 (by rw [Int64.le_iff_toInt_le]; rw [Int64.lt_iff_toInt_lt] at z; omega))]
    · rw [if_neg z]
      by_cases z2 : 0 ≤ lg_cmp c 0
      · rw [if_pos z2]
        have z3 := (lg_cmp_ge _ _).1 z2
        have : c = 0 := by
          apply Int64.toInt_inj.1
          rw [Int64.lt_iff_toInt_lt] at z
          rw [Int64.le_iff_toInt_le] at z3
          omega
        rw [this]; rfl
      · rw [if_neg z2]
  have e : F_X3_gcd n K a b h = F_X3_gcd_L28 n K h n (if 0 ≤ lg_cmp b 0 then b else -b) (if 0 ≤ lg_cmp a 0 then a else -a) := by
    unfold F_X3_gcd
    simp only [jn_eq]
    split <;> split <;> rfl
  rw [e, ab ha, ab hb, m_gcdL 63 _ _ n (by have := ha.1; have := ha.2; omega) (by have := hb.1; have := hb.2; omega) (by have := hb.1; have := hb.2; omega) (by omega), Nat.gcd_comm]
  rfl
