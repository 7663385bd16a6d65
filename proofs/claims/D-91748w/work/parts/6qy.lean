/-! PURE PART QY: ordered rows; orders of lines and spots -/
set_option maxRecDepth 100000
def OrdS (ah : T3 → T3 → Bool) (N : T3 → Prop) : Prop := (∀ t, N t → ah t t = false) ∧ (∀ s t u, N s → N t → N u → ah s t = true → ah t u = true → ah s u = true) ∧ (∀ s t, N s → N t → s ≠ t → ah s t = false → ah t s = true)
def SortS (ah : T3 → T3 → Bool) (N : T3 → Prop) (l : TL) : Prop := (∀ i, i < l.1 → N (l.2 i)) ∧ ∀ i j, i < j → j < l.1 → ah (l.2 i) (l.2 j) = true
theorem pos_le (ah : T3 → T3 → Bool) (t : T3) (l : TL) : posS ah t l ≤ l.1 := by
  unfold posS
  cases hf : findS (fun k => !ah (l.2 k) t) l.1 0 with
  | none => exact Nat.le_refl _
  | some j => have := (findS_some hf).2.1; show j ≤ l.1; omega
theorem pos_lt {ah : T3 → T3 → Bool} {t : T3} {l : TL} {i : Nat} (h : i < posS ah t l) : ah (l.2 i) t = true := by
  unfold posS at h
  cases hf : findS (fun k => !ah (l.2 k) t) l.1 0 with
  | none =>
    rw [hf] at h
    have := findS_none hf i (by omega) (by simpa using h)
    simpa using this
  | some j =>
    rw [hf] at h
    have := (findS_some hf).2.2.2 i (by omega) (by simpa using h)
    simpa using this
theorem pos_at {ah : T3 → T3 → Bool} {t : T3} {l : TL} (h : posS ah t l < l.1) : ah (l.2 (posS ah t l)) t = false := by
  unfold posS at h ⊢
  cases hf : findS (fun k => !ah (l.2 k) t) l.1 0 with
  | none => rw [hf] at h; exact absurd h (Nat.lt_irrefl _)
  | some j =>
    have := (findS_some hf).2.2.1
    simpa using this
theorem mem_iff {t : T3} {l : TL} : memS t l = true ↔ ∃ i, i < l.1 ∧ l.2 i = t := by
  unfold memS
  rw [anyS_iff]
  constructor
  · rintro ⟨i, h1, h2⟩; exact ⟨i, h1, by simpa using h2⟩
  · rintro ⟨i, h1, h2⟩; exact ⟨i, h1, by simpa using h2⟩
/-- from its place on all are behind -/
theorem pos_ge {ah : T3 → T3 → Bool} {N : T3 → Prop} (O : OrdS ah N) {t : T3} (ht : N t) {l : TL} (L : SortS ah N l) (hm : memS t l = false) {i : Nat} (h1 : posS ah t l ≤ i) (h2 : i < l.1) : ah t (l.2 i) = true := by
  have hk : posS ah t l < l.1 := by omega
  have ne : ∀ j, j < l.1 → l.2 j ≠ t := by
    intro j hj z
    rw [mem_iff.2 ⟨j, hj, z⟩] at hm
    cases hm
  have a0 := O.2.2 _ _ (L.1 _ hk) ht (ne _ hk) (pos_at hk)
  rcases Nat.eq_or_lt_of_le h1 with e | e
  · rw [← e]; exact a0
  · exact O.2.1 _ _ _ ht (L.1 _ hk) (L.1 _ h2) a0 (L.2 _ _ e h2)
/-- if it is in the row it is at its place -/
theorem pos_mem {ah : T3 → T3 → Bool} {N : T3 → Prop} (O : OrdS ah N) {t : T3} (ht : N t) {l : TL} (L : SortS ah N l) : memS t l = true ↔ (posS ah t l < l.1 ∧ l.2 (posS ah t l) = t) := by
  rw [mem_iff]
  constructor
  · rintro ⟨i, h1, h2⟩
    rcases Nat.lt_trichotomy i (posS ah t l) with h | h | h
    · have := pos_lt h
      rw [h2, O.1 t ht] at this; cases this
    · rw [← h]; exact ⟨h1, h2⟩
    · exfalso
      have hk : posS ah t l < l.1 := by omega
      have a := L.2 _ _ h h1
      rw [h2, pos_at hk] at a; cases a
  · rintro ⟨h1, h2⟩; exact ⟨_, h1, h2⟩
theorem put_sort {ah : T3 → T3 → Bool} {N : T3 → Prop} (O : OrdS ah N) {t : T3} (ht : N t) {l : TL} (L : SortS ah N l) : SortS ah N (putS ah t l) := by
  unfold putS
  cases hm : memS t l
  · rw [if_neg (by decide)]
    have hk := pos_le ah t l
    refine ⟨fun i hi => ?_, fun i j hij hj => ?_⟩
    · have hi' : i < l.1 + 1 := hi
      show N (insF (posS ah t l) t l.2 i)
      unfold insF
      split
      · exact L.1 i (by omega)
      · split
        · exact ht
        · exact L.1 (i - 1) (by omega)
    · have hj' : j < l.1 + 1 := hj
      show ah (insF (posS ah t l) t l.2 i) (insF (posS ah t l) t l.2 j) = true
      unfold insF
      by_cases c1 : i < posS ah t l
      · rw [if_pos c1]
        by_cases c2 : j < posS ah t l
        · rw [if_pos c2]; exact L.2 i j hij (by omega)
        · rw [if_neg c2]
          by_cases c3 : j = posS ah t l
          · rw [if_pos c3]; exact pos_lt c1
          · rw [if_neg c3]; exact L.2 i (j - 1) (by omega) (by omega)
      · rw [if_neg c1, if_neg (show ¬ j < posS ah t l by omega), if_neg (show ¬ j = posS ah t l by omega)]
        by_cases c3 : i = posS ah t l
        · rw [if_pos c3]; exact pos_ge O ht L hm (by omega) (by omega)
        · rw [if_neg c3]; exact L.2 (i - 1) (j - 1) (by omega) (by omega)
  · rw [if_pos rfl]; exact L
/-! slopes -/
theorem sl_le {x1 n1 x2 n2 x3 n3 : Int} (h1 : 0 < n1) (h2 : 0 < n2) (h3 : 0 < n3) (a : x1 * n2 ≤ x2 * n1) (b : x2 * n3 ≤ x3 * n2) : x1 * n3 ≤ x3 * n1 := by
  have e1 := Int.mul_le_mul_of_nonneg_right a (Int.le_of_lt h3)
  have e2 := Int.mul_le_mul_of_nonneg_right b (Int.le_of_lt h1)
  refine Int.le_of_mul_le_mul_right ?_ h2
  have r1 : x1 * n3 * n2 = x1 * n2 * n3 := by rw [Int.mul_assoc, Int.mul_comm n3, ← Int.mul_assoc]
  have r2 : x2 * n1 * n3 = x2 * n3 * n1 := by rw [Int.mul_assoc, Int.mul_comm n1, ← Int.mul_assoc]
  have r3 : x3 * n2 * n1 = x3 * n1 * n2 := by rw [Int.mul_assoc, Int.mul_comm n2, ← Int.mul_assoc]
  omega
theorem sl_lt {x1 n1 x2 n2 x3 n3 : Int} (h1 : 0 < n1) (h2 : 0 < n2) (h3 : 0 < n3) (a : x1 * n2 ≤ x2 * n1) (b : x2 * n3 ≤ x3 * n2) (c : x1 * n2 < x2 * n1 ∨ x2 * n3 < x3 * n2) : x1 * n3 < x3 * n1 := by
  have e1 := Int.mul_le_mul_of_nonneg_right a (Int.le_of_lt h3)
  have e2 := Int.mul_le_mul_of_nonneg_right b (Int.le_of_lt h1)
  have e3 : x1 * n2 * n3 < x2 * n1 * n3 ∨ x2 * n3 * n1 < x3 * n2 * n1 := by
    rcases c with c | c
    · exact Or.inl (Int.mul_lt_mul_of_pos_right c h3)
    · exact Or.inr (Int.mul_lt_mul_of_pos_right c h1)
  have r1 : x1 * n3 * n2 = x1 * n2 * n3 := by rw [Int.mul_assoc, Int.mul_comm n3, ← Int.mul_assoc]
  have r2 : x2 * n1 * n3 = x2 * n3 * n1 := by rw [Int.mul_assoc, Int.mul_comm n1, ← Int.mul_assoc]
  have r3 : x3 * n2 * n1 = x3 * n1 * n2 := by rw [Int.mul_assoc, Int.mul_comm n2, ← Int.mul_assoc]
  refine Int.lt_of_mul_lt_mul_right ?_ (Int.le_of_lt h2)
  omega
