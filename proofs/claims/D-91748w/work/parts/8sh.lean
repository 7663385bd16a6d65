/-! PURE PART SH: shares, what they are; overlays of longs -/
set_option maxRecDepth 100000
def AH.ovL (h : AH) (a N : Nat) (f : Nat → Int64) : AH := (h.1, h.2.1, h.2.2.1, h.2.2.2.1, up1 h.2.2.2.2.1 a (fun j => if j < N then f j else h.2.2.2.2.1 a j), h.2.2.2.2.2)
theorem L_ov_ne {h : AH} {a N b : Nat} {f : Nat → Int64} (hb : b ≠ a) : (h.ovL a N f).L b = h.L b := if_neg hb
theorem L_ov_a (h : AH) (a N : Nat) (f : Nat → Int64) : (h.ovL a N f).L a = fun j => if j < N then f j else h.L a j := if_pos rfl
theorem L_ov_eq {N j : Nat} (hj : j < N) (h : AH) (a : Nat) (f : Nat → Int64) : (h.ovL a N f).L a j = f j := by rw [L_ov_a]; exact if_pos hj
theorem ovL_self (h : AH) (a N : Nat) : h.ovL a N (h.L a) = h := by
  refine AH.ext rfl rfl rfl (fun _ _ => rfl) ?_ (fun _ _ => rfl)
  intro b j
  by_cases c : b = a
  · subst c; rw [L_ov_a]; simp
  · rw [L_ov_ne c]
theorem ovL_set {N j : Nat} (hj : j < N) (h : AH) (a : Nat) (f : Nat → Int64) (v : Int64) : (h.ovL a N f).setL a j v = h.ovL a N (up1 f j v) := by
  refine AH.ext rfl rfl rfl (fun _ _ => rfl) ?_ (fun _ _ => rfl)
  intro b k
  rw [AH.L_setL]
  by_cases c : b = a
  · subst c
    rw [L_ov_a, L_ov_a]
    by_cases c2 : k = j
    · subst c2; simp [up1, hj]
    · simp [up1, c2]
  · rw [L_ov_ne c, L_ov_ne c, if_neg (fun z => c z.1)]
theorem ovL_congr {h : AH} {a N : Nat} {f g : Nat → Int64} (e : ∀ j, j < N → f j = g j) : h.ovL a N f = h.ovL a N g := by
  refine AH.ext rfl rfl rfl (fun _ _ => rfl) ?_ (fun _ _ => rfl)
  intro b k
  by_cases c : b = a
  · subst c
    rw [L_ov_a, L_ov_a]
    by_cases c2 : k < N
    · simp [c2, e k c2]
    · simp [c2]
  · rw [L_ov_ne c, L_ov_ne c]
/-! what shares are -/
def negB (b k : Nat) : Bool := foldS (fun j a => if b.testBit j = true then !a else a) false k
def shZ (S : St) (b k : Nat) : Int := if b.testBit k = true then sgB (negB b k) * prZ (gnZ S) 8 (clrN b k) else 0
def cnN (b : Nat) (p : Nat → Bool) (k : Nat) : Nat := foldS (fun j a => a + if (b.testBit j && p j) = true then 1 else 0) 0 k
def psN (S : St) (b k : Nat) : Nat := cnN b (fun j => decide (0 < shZ S b j)) k
def mnN (S : St) (b k : Nat) : Nat := cnN b (fun j => decide (shZ S b j < 0)) k
def gcN (S : St) (b k : Nat) : Nat := foldS (fun j g => if b.testBit j = true then Nat.gcd g (shZ S b j).natAbs else g) 0 k
def okB (S : St) (b : Nat) : Bool := decide (psN S b 8 = popN b) || decide (mnN S b 8 = popN b)
def fnS (S : St) (b k : Nat) : Int64 := lN ((shZ S b k).natAbs / gcN S b 8)
theorem cn_s (b : Nat) (p : Nat → Bool) (k : Nat) : cnN b p (k + 1) = cnN b p k + if (b.testBit k && p k) = true then 1 else 0 := rfl
theorem cn_le (b : Nat) (p : Nat → Bool) : ∀ k, cnN b p k ≤ k := by
  intro k
  induction k with
  | zero => exact Nat.le_refl _
  | succ k ih => rw [cn_s]; split <;> omega
theorem cn_top (b : Nat) (p : Nat → Bool) : ∀ k, cnN b p k ≤ cnN b (fun _ => true) k ∧ (cnN b p k = cnN b (fun _ => true) k → ∀ j, j < k → b.testBit j = true → p j = true) := by
  intro k
  induction k with
  | zero => exact ⟨Nat.le_refl _, fun _ j hj => absurd hj (Nat.not_lt_zero j)⟩
  | succ k ih =>
    rw [cn_s, cn_s]
    obtain ⟨i1, i2⟩ := ih
    cases ht : b.testBit k
    · simp only [Bool.false_and, Bool.false_eq_true, if_false, Nat.add_zero]
      refine ⟨i1, fun e j hj hb => ?_⟩
      rcases Nat.lt_or_ge j k with z | z
      · exact i2 e j z hb
      · rw [show j = k by omega, ht] at hb; cases hb
    · simp only [Bool.true_and, if_true]
      cases hp : p k
      · simp only [Bool.false_eq_true, if_false]
        exact ⟨by omega, fun e => by omega⟩
      · simp only [if_true]
        refine ⟨by omega, fun e j hj hb => ?_⟩
        rcases Nat.lt_or_ge j k with z | z
        · exact i2 (by omega) j z hb
        · rw [show j = k by omega]; exact hp
theorem cn_0 (b : Nat) (p : Nat → Bool) : ∀ k, cnN b p k = 0 → ∀ j, j < k → b.testBit j = true → p j = false := by
  intro k
  induction k with
  | zero => intro _ j hj; exact absurd hj (Nat.not_lt_zero j)
  | succ k ih =>
    intro e j hj hb
    rw [cn_s] at e
    rcases Nat.lt_or_ge j k with z | z
    · exact ih (by omega) j z hb
    · have e2 : j = k := by omega
      subst e2
      cases hp : p j
      · rfl
      · rw [hb, hp] at e
        simp at e
theorem cn_two (b : Nat) (p q : Nat → Bool) (h : ∀ j, p j = true → q j = true → False) : ∀ k, cnN b p k + cnN b q k ≤ cnN b (fun _ => true) k := by
  intro k
  induction k with
  | zero => exact Nat.le_refl _
  | succ k ih =>
    rw [cn_s, cn_s, cn_s]
    cases ht : b.testBit k
    · simp only [Bool.false_and, Bool.false_eq_true, if_false]; omega
    · simp only [Bool.true_and, if_true]
      cases hp : p k
      · cases hq : q k
        · simp only [Bool.false_eq_true, if_false]; omega
        · simp only [Bool.false_eq_true, if_false, if_true]; omega
      · cases hq : q k
        · simp only [Bool.false_eq_true, if_false, if_true]; omega
        · exact absurd (h k hp hq) (fun z => z)
theorem pop_cn : ∀ b, b < 256 → popN b = cnN b (fun _ => true) 8 := by decide +kernel
theorem pop_pos : ∀ b, b < 256 → 0 < b → 0 < popN b := by decide +kernel
theorem sh_bd {S : St} (B : Bd S) {b : Nat} (hb : b < 256) (k : Nat) : (shZ S b k).natAbs ≤ 1360488960000 := by
  unfold shZ
  split
  · have cle := clr_le b k
    have p1 := pr_bd (gnZ_le B) 8 (clrN b k) (by omega)
    have p2 := pop_le (clrN b k) (by omega) 8 (by omega) (by omega)
    have p3 : 1080 ^ (popN (clrN b k) / 2) ≤ 1080 ^ 4 := Nat.pow_le_pow_right (by omega) (by omega)
    have sb : (sgB (negB b k)).natAbs ≤ 1 := by unfold sgB; split <;> decide
    have m := mul_bd sb (Nat.le_trans p1 p3)
    omega
  · exact Nat.zero_le _
theorem gc_bd {S : St} (B : Bd S) {b : Nat} (hb : b < 256) : ∀ k, gcN S b k ≤ 1360488960000 := by
  intro k
  induction k with
  | zero => exact Nat.zero_le _
  | succ k ih =>
    show (if b.testBit k = true then Nat.gcd (gcN S b k) (shZ S b k).natAbs else gcN S b k) ≤ _
    split
    · have s := sh_bd B hb k
      rcases Nat.eq_zero_or_pos (gcN S b k) with z | z
      · rw [z, Nat.gcd_zero_left]; exact s
      · exact Nat.le_trans (Nat.gcd_le_left _ z) ih
    · exact ih
theorem gc_pos {S : St} {b j : Nat} (ht : b.testBit j = true) (hs : shZ S b j ≠ 0) : ∀ k, j < k → 0 < gcN S b k := by
  intro k
  induction k with
  | zero => intro h; omega
  | succ k ih =>
    intro h
    show 0 < (if b.testBit k = true then Nat.gcd (gcN S b k) (shZ S b k).natAbs else gcN S b k)
    rcases Nat.lt_or_ge j k with z | z
    · split
      · exact Nat.gcd_pos_of_pos_left _ (ih z)
      · exact ih z
    · have e : j = k := by omega
      subst e
      rw [if_pos ht]
      exact Nat.gcd_pos_of_pos_right _ (by omega)
theorem ok_gc {S : St} {b : Nat} (hb : b < 256) (h0 : 0 < b) (h : okB S b = true) : 0 < gcN S b 8 := by
  have pp := pop_pos b hb h0
  unfold okB at h
  rw [Bool.or_eq_true, decide_eq_true_iff, decide_eq_true_iff] at h
  rcases h with z | z
  · apply Classical.byContradiction
    intro y
    have : ∀ j, j < 8 → b.testBit j = true → shZ S b j = 0 := fun j hj ht => Classical.byContradiction (fun w => y (gc_pos ht w 8 hj))
    have c := (cn_top b (fun j => decide (0 < shZ S b j)) 8).2 (by rw [← pop_cn b hb]; exact z)
    have : popN b = 0 := by
      rw [pop_cn b hb]
      apply Classical.byContradiction
      intro w
      have d := (cn_top b (fun _ => false) 8)
      have e0 : cnN b (fun _ => false) 8 = 0 := by
        have : ∀ k, cnN b (fun _ => false) k = 0 := by
          intro k
          induction k with
          | zero => rfl
          | succ k ih => rw [cn_s, ih]; simp
        exact this 8
      have none : ∀ j, j < 8 → b.testBit j = false := by
        intro j hj
        cases ht : b.testBit j
        · rfl
        · have := c j hj ht
          simp only [decide_eq_true_eq] at this
          have := ‹∀ j, j < 8 → b.testBit j = true → shZ S b j = 0› j hj ht
          omega
      have all0 : ∀ k, k ≤ 8 → cnN b (fun _ => true) k = 0 := by
        intro k
        induction k with
        | zero => intro _; rfl
        | succ k ih => intro hk; rw [cn_s, ih (by omega), none k (by omega)]; rfl
      exact w (all0 8 (Nat.le_refl _))
    omega
  · apply Classical.byContradiction
    intro y
    have hz : ∀ j, j < 8 → b.testBit j = true → shZ S b j = 0 := fun j hj ht => Classical.byContradiction (fun w => y (gc_pos ht w 8 hj))
    have c := (cn_top b (fun j => decide (shZ S b j < 0)) 8).2 (by rw [← pop_cn b hb]; exact z)
    have none : ∀ j, j < 8 → b.testBit j = false := by
      intro j hj
      cases ht : b.testBit j
      · rfl
      · have h1 := c j hj ht
        simp only [decide_eq_true_eq] at h1
        have h2 := hz j hj ht
        omega
    have all0 : ∀ k, k ≤ 8 → cnN b (fun _ => true) k = 0 := by
      intro k
      induction k with
      | zero => intro _; rfl
      | succ k ih => intro hk; rw [cn_s, ih (by omega), none k (by omega)]; rfl
    have := all0 8 (Nat.le_refl _)
    rw [← pop_cn b hb] at this
    omega
/-- the sign that the model takes is the right one -/
theorem mn_sign {S : St} {b : Nat} (hb : b < 256) (h : okB S b = true) : (mnN S b 8 = 0 → ∀ k, k < 8 → 0 ≤ shZ S b k) ∧ (0 < mnN S b 8 → ∀ k, k < 8 → shZ S b k ≤ 0) := by
  have un : ∀ k, b.testBit k = false → shZ S b k = 0 := fun k hk => by unfold shZ; rw [hk]; rfl
  refine ⟨fun z k hk => ?_, fun z k hk => ?_⟩
  · cases ht : b.testBit k
    · rw [un k ht]; exact Int.le_refl 0
    · have := cn_0 b _ 8 z k hk ht
      simp only [decide_eq_false_iff_not] at this
      omega
  · cases ht : b.testBit k
    · rw [un k ht]; exact Int.le_refl 0
    · unfold okB at h
      rw [Bool.or_eq_true, decide_eq_true_iff, decide_eq_true_iff] at h
      have tw := cn_two b (fun j => decide (0 < shZ S b j)) (fun j => decide (shZ S b j < 0)) (fun j h1 h2 => by
        simp only [decide_eq_true_eq] at h1 h2; omega) 8
      rw [← pop_cn b hb] at tw
      rcases h with y | y
      · unfold psN mnN at *; omega
      · have c := (cn_top b (fun j => decide (shZ S b j < 0)) 8).2 (by rw [← pop_cn b hb]; exact y) k hk ht
        simp only [decide_eq_true_eq] at c
        omega
def lsS (S : St) (b i : Nat) : Int64 := foldS (fun j a => a + fnS S b j * Int64.ofInt (gnZ S i j)) 0 (ncS S)
def lotB (S : St) (b : Nat) : Bool := okB S b && (findS (fun i => decide (0 < lsS S b i)) (ncS S) 0).isNone
def loI (S : St) (many : Nat) : Option Nat := findS (fun b => decide (popN b = many) && lotB S b) (2 ^ ncS S - 1) 1
def loT (S : St) : Option Nat := findS (fun t => (loI S (2 * t + 1)).isSome) ((ncS S + 1) / 2) 0
def loS (S : St) : Option Nat := selS (loT S) (fun t => loI S (2 * t + 1)) none
def lotS (S : St) (v : Int32) : Int32 := if inS v (-1) (nI (ncS S) - 1) = true then selS (loS S) (fun b => if v = -1 then (foldS (fun j a => a + fnS S b j) 0 8).toInt32 else (fnS S b (ix v)).toInt32) (-1) else -1
