/-! PURE PART SM: tokens, words, numbers: what they are -/
set_option maxRecDepth 100000
def isLt (c : Int32) : Bool := !decide (c < 97) && !decide (122 < c)
def isDg (c : Int32) : Bool := !decide (c < 48) && !decide (57 < c)
def isBl (c : Int32) : Bool := decide (c = 32) || decide (c = 10)
def runE (T : Nat → Int32) (tm : Nat) (P : Int32 → Bool) (p : Nat) : Nat := (findS (fun q => !P (T q)) (tm - p) p).getD tm
def endT (T : Nat → Int32) (tm b : Nat) : Nat := if b = tm then tm else if isLt (T b) = true then runE T tm isLt b else if isDg (T b) = true then runE T tm isDg b else b + 1
def tkS (T : Nat → Int32) (tm p : Nat) : Nat × Nat := (runE T tm isBl p, endT T tm (runE T tm isBl p))
def badT (T : Nat → Int32) (tm : Nat) (t : Nat × Nat) : Bool := decide (t.1 < tm) && (!isLt (T t.1) && (!isDg (T t.1) && (!decide (T t.1 = 59) && !decide (T t.1 = 47))))
theorem run_bd {T : Nat → Int32} {tm : Nat} {P : Int32 → Bool} {p : Nat} (hp : p ≤ tm) : p ≤ runE T tm P p ∧ runE T tm P p ≤ tm := by
  unfold runE
  cases hf : findS (fun q => !P (T q)) (tm - p) p with
  | none => exact ⟨hp, Nat.le_refl _⟩
  | some j => have := findS_some hf; exact ⟨this.1, by show j ≤ tm; omega⟩
theorem run_all {T : Nat → Int32} {tm : Nat} {P : Int32 → Bool} {p q : Nat} (h1 : p ≤ q) (h2 : q < runE T tm P p) : P (T q) = true := by
  unfold runE at h2
  cases hf : findS (fun q => !P (T q)) (tm - p) p with
  | none =>
    rw [hf] at h2
    have h2' : q < tm := h2
    have := findS_none hf q h1 (by omega)
    simpa using this
  | some j =>
    rw [hf] at h2
    have h2' : q < j := h2
    have := (findS_some hf).2.2.2 q h1 h2'
    simpa using this
theorem run_stop {T : Nat → Int32} {tm : Nat} {P : Int32 → Bool} {p : Nat} (h2 : runE T tm P p < tm) : P (T (runE T tm P p)) = false := by
  unfold runE at h2 ⊢
  cases hf : findS (fun q => !P (T q)) (tm - p) p with
  | none => rw [hf] at h2; exact absurd h2 (Nat.lt_irrefl _)
  | some j =>
    have := (findS_some hf).2.2.1
    simpa using this
/-- a run is known by where it stops -/
theorem run_is {T : Nat → Int32} {tm : Nat} {P : Int32 → Bool} {p q : Nat} (h1 : p ≤ q) (h2 : q ≤ tm) (h3 : ∀ i, p ≤ i → i < q → P (T i) = true) (h4 : q < tm → P (T q) = false) : runE T tm P p = q := by
  unfold runE
  rcases Nat.lt_or_ge q tm with z | z
  · rw [findS_is h1 (by omega) (by show (!P (T q)) = true; rw [h4 z]; rfl) (fun i a b => by show (!P (T i)) = false; rw [h3 i a b]; rfl)]
    rfl
  · rw [findS_no (fun i a b => by show (!P (T i)) = false; rw [h3 i a (by omega)]; rfl)]
    show tm = q
    omega
theorem run_s {T : Nat → Int32} {tm : Nat} {P : Int32 → Bool} {p : Nat} (hp : p < tm) (h : P (T p) = true) : runE T tm P p = runE T tm P (p + 1) := by
  obtain ⟨b1, b2⟩ := run_bd (T := T) (P := P) (p := p + 1) (tm := tm) (by omega)
  refine run_is (by omega) b2 (fun i a b => ?_) (fun z => run_stop z)
  rcases Nat.eq_or_lt_of_le a with e | e
  · rw [← e]; exact h
  · exact run_all e b
theorem run_0 {T : Nat → Int32} {tm : Nat} {P : Int32 → Bool} {p : Nat} (hp : p ≤ tm) (h : p < tm → P (T p) = false) : runE T tm P p = p := run_is (Nat.le_refl _) hp (fun i a b => by omega) h
theorem end_bd {T : Nat → Int32} {tm b : Nat} (hb : b ≤ tm) : b ≤ endT T tm b ∧ endT T tm b ≤ tm ∧ (b < tm → b < endT T tm b) := by
  unfold endT
  by_cases c : b = tm
  · rw [if_pos c]; omega
  · rw [if_neg c]
    by_cases l : isLt (T b) = true
    · rw [if_pos l]
      have r1 := run_s (tm := tm) (by omega) l
      have r2 := run_bd (T := T) (P := isLt) (p := b + 1) (tm := tm) (by omega)
      omega
    · rw [if_neg l]
      by_cases d : isDg (T b) = true
      · rw [if_pos d]
        have r1 := run_s (tm := tm) (by omega) d
        have r2 := run_bd (T := T) (P := isDg) (p := b + 1) (tm := tm) (by omega)
        omega
      · rw [if_neg d]; omega
def tkOk (tm : Nat) (t : Nat × Nat) : Prop := t.1 ≤ t.2 ∧ t.2 ≤ tm ∧ (t.1 < tm → t.1 < t.2)
theorem tk_ok {T : Nat → Int32} {tm p : Nat} (hp : p ≤ tm) : tkOk tm (tkS T tm p) ∧ p ≤ (tkS T tm p).1 := by
  have r := run_bd (T := T) (P := isBl) hp
  have e := end_bd (T := T) r.2
  exact ⟨⟨e.1, e.2.1, e.2.2⟩, r.1⟩
/-! words -/
def wdS (T : Nat → Int32) (tm i : Nat) (t : Nat × Nat) : Bool := decide (t.1 ≠ tm) && (decide (t.2 - t.1 = sLn i) && !anyS (fun j => !decide (T (t.1 + j) = sBt i j)) (sLn i))
theorem lt_all : ∀ i, i < 17 → 4 ≤ i → 0 < sLn i ∧ isLt (sBt i 0) = true := by decide
theorem bad_word {T : Nat → Int32} {tm : Nat} {t : Nat × Nat} (h : badT T tm t = true) {i : Nat} (h4 : 4 ≤ i) (h17 : i < 17) : wdS T tm i t = false := by
  obtain ⟨l1, l2⟩ := lt_all i h17 h4
  cases hw : wdS T tm i t
  · rfl
  · exfalso
    unfold wdS at hw
    rw [Bool.and_eq_true, Bool.and_eq_true, Bool.not_eq_true'] at hw
    have h0 : T (t.1 + 0) = sBt i 0 := by
      apply Classical.byContradiction
      intro z
      have : anyS (fun j => !decide (T (t.1 + j) = sBt i j)) (sLn i) = true := anyS_iff.2 ⟨0, l1, by simp only [Bool.not_eq_true', decide_eq_false_iff_not]; exact z⟩
      rw [hw.2.2] at this; cases this
    unfold badT at h
    rw [Bool.and_eq_true, Bool.and_eq_true, Bool.not_eq_true'] at h
    rw [Nat.add_zero] at h0
    rw [h0, l2] at h
    exact absurd h.2.1 (by decide)
theorem over_word {T : Nat → Int32} {tm : Nat} {t : Nat × Nat} (h : t.1 = tm) (i : Nat) : wdS T tm i t = false := by
  unfold wdS
  rw [decide_eq_false (fun z => z h)]; rfl
/-! numbers -/
def nvX (T : Nat → Int32) (b k : Nat) : Int32 := foldS (fun i a => if 10 * a + T (b + i) - 48 < 1000 then 10 * a + T (b + i) - 48 else 1000) 0 k
def nvM (T : Nat → Int32) (b k : Nat) : Int32 := foldS (fun i a => if a ≤ 999 then 10 * a + T (b + i) - 48 else 9999) 0 k
theorem dg_of {c : Int32} (h : isDg c = true) : 48 ≤ c.toInt ∧ c.toInt ≤ 57 := by
  unfold isDg at h
  rw [Bool.and_eq_true, Bool.not_eq_true', Bool.not_eq_true', decide_eq_false_iff_not, decide_eq_false_iff_not, Int32.lt_iff_toInt_lt, Int32.lt_iff_toInt_lt] at h
  have e1 : (48 : Int32).toInt = 48 := by decide
  have e2 : (57 : Int32).toInt = 57 := by decide
  omega
theorem nv_step {a c : Int32} (ha : 0 ≤ a.toInt ∧ a.toInt ≤ 10000) (hc : isDg c = true) : (10 * a + c - 48).toInt = 10 * a.toInt + c.toInt - 48 := by
  have d := dg_of hc
  have e10 : (10 : Int32).toInt = 10 := by decide
  have e48 : (48 : Int32).toInt = 48 := by decide
  have m : (10 * a).toInt = 10 * a.toInt := by rw [i_mul (by rw [e10]; omega) (by rw [e10]; omega), e10]
  have p : (10 * a + c).toInt = 10 * a.toInt + c.toInt := by rw [i_add (by rw [m]; omega) (by rw [m]; omega), m]
  rw [i_sub (by rw [p, e48]; omega) (by rw [p, e48]; omega), p, e48]
/-- both counts agree below a thousand -/
theorem nv_rel {T : Nat → Int32} {b : Nat} : ∀ k, (∀ i, i < k → isDg (T (b + i)) = true) → (0 ≤ (nvX T b k).toInt ∧ (nvX T b k).toInt ≤ 1000 ∧ 0 ≤ (nvM T b k).toInt ∧ (nvM T b k).toInt ≤ 9999) ∧ (((nvX T b k).toInt < 1000 ∧ (nvM T b k).toInt = (nvX T b k).toInt) ∨ ((nvX T b k).toInt = 1000 ∧ 1000 ≤ (nvM T b k).toInt)) := by
  intro k
  induction k with
  | zero =>
    intro _
    have e1 : nvX T b 0 = 0 := rfl
    have e2 : nvM T b 0 = 0 := rfl
    rw [e1, e2]
    exact ⟨⟨by decide, by decide, by decide, by decide⟩, Or.inl ⟨by decide, rfl⟩⟩
  | succ k ih =>
    intro h
    obtain ⟨⟨i1, i2, i3, i4⟩, i5⟩ := ih (fun i hi => h i (by omega))
    have hd := h k (by omega)
    have dd := dg_of hd
    show (0 ≤ (if 10 * nvX T b k + T (b + k) - 48 < 1000 then 10 * nvX T b k + T (b + k) - 48 else 1000).toInt ∧ (if 10 * nvX T b k + T (b + k) - 48 < 1000 then 10 * nvX T b k + T (b + k) - 48 else 1000).toInt ≤ 1000 ∧ 0 ≤ (if nvM T b k ≤ 999 then 10 * nvM T b k + T (b + k) - 48 else 9999).toInt ∧ (if nvM T b k ≤ 999 then 10 * nvM T b k + T (b + k) - 48 else 9999).toInt ≤ 9999) ∧ (((if 10 * nvX T b k + T (b + k) - 48 < 1000 then 10 * nvX T b k + T (b + k) - 48 else 1000).toInt < 1000 ∧ (if nvM T b k ≤ 999 then 10 * nvM T b k + T (b + k) - 48 else 9999).toInt = (if 10 * nvX T b k + T (b + k) - 48 < 1000 then 10 * nvX T b k + T (b + k) - 48 else 1000).toInt) ∨ ((if 10 * nvX T b k + T (b + k) - 48 < 1000 then 10 * nvX T b k + T (b + k) - 48 else 1000).toInt = 1000 ∧ 1000 ≤ (if nvM T b k ≤ 999 then 10 * nvM T b k + T (b + k) - 48 else 9999).toInt))
    have sx := nv_step (a := nvX T b k) (c := T (b + k)) ⟨i1, by omega⟩ hd
    have sm := nv_step (a := nvM T b k) (c := T (b + k)) ⟨i3, by omega⟩ hd
    have e1000 : (1000 : Int32).toInt = 1000 := by decide
    have e9999 : (9999 : Int32).toInt = 9999 := by decide
    have e999 : (999 : Int32).toInt = 999 := by decide
    have cx : (10 * nvX T b k + T (b + k) - 48 < 1000) = (10 * (nvX T b k).toInt + (T (b + k)).toInt - 48 < 1000) := by rw [Int32.lt_iff_toInt_lt, sx, e1000]
    have cm : (nvM T b k ≤ 999) = ((nvM T b k).toInt ≤ 999) := by rw [Int32.le_iff_toInt_le, e999]
    by_cases x1 : 10 * nvX T b k + T (b + k) - 48 < 1000
    · have x1' := x1
      rw [cx] at x1'
      rw [if_pos x1, sx]
      by_cases y1 : nvM T b k ≤ 999
      · have y1' := y1
        rw [cm] at y1'
        rw [if_pos y1, sm]
        omega
      · have y1' := y1
        rw [cm] at y1'
        rw [if_neg y1, e9999]
        omega
    · have x1' := x1
      rw [cx] at x1'
      rw [if_neg x1, e1000]
      by_cases y1 : nvM T b k ≤ 999
      · have y1' := y1
        rw [cm] at y1'
        rw [if_pos y1, sm]
        omega
      · have y1' := y1
        rw [cm] at y1'
        rw [if_neg y1, e9999]
        omega
theorem nv_in {T : Nat → Int32} {b k : Nat} (h : ∀ i, i < k → isDg (T (b + i)) = true) {lo hi : Int32} (hh : hi.toInt ≤ 99) : inS (nvM T b k) lo hi = inS (nvX T b k) lo hi ∧ (inS (nvX T b k) lo hi = true → nvM T b k = nvX T b k) := by
  obtain ⟨⟨i1, i2, i3, i4⟩, i5⟩ := nv_rel k h
  rcases i5 with ⟨z1, z2⟩ | ⟨z1, z2⟩
  · have e : nvM T b k = nvX T b k := Int32.toInt_inj.1 z2
    rw [e]; exact ⟨rfl, fun _ => rfl⟩
  · have n1 : inS (nvX T b k) lo hi = false := by
      unfold inS
      rw [show decide (hi < nvX T b k) = true from decide_eq_true (by rw [Int32.lt_iff_toInt_lt]; omega)]
      simp
    have n2 : inS (nvM T b k) lo hi = false := by
      unfold inS
      rw [show decide (hi < nvM T b k) = true from decide_eq_true (by rw [Int32.lt_iff_toInt_lt]; omega)]
      simp
    rw [n1, n2]
    exact ⟨rfl, fun z => by cases z⟩
/-- a token that begins with a digit is all digits -/
theorem dg_run {T : Nat → Int32} {tm p : Nat} (hp : p ≤ tm) (hd : isDg (T (tkS T tm p).1) = true) (hl : (tkS T tm p).1 < tm) : ∀ i, (tkS T tm p).1 + i < (tkS T tm p).2 → isDg (T ((tkS T tm p).1 + i)) = true := by
  have e : (tkS T tm p).2 = runE T tm isDg (tkS T tm p).1 := by
    show endT T tm (runE T tm isBl p) = runE T tm isDg (runE T tm isBl p)
    have hd' : isDg (T (runE T tm isBl p)) = true := hd
    have hl' : runE T tm isBl p < tm := hl
    have nl : ¬ (isLt (T (runE T tm isBl p)) = true) := by
      intro z
      have d := dg_of hd'
      unfold isLt at z
      rw [Bool.and_eq_true, Bool.not_eq_true', Bool.not_eq_true', decide_eq_false_iff_not, decide_eq_false_iff_not, Int32.lt_iff_toInt_lt] at z
      have e1 : (97 : Int32).toInt = 97 := by decide
      omega
    unfold endT
    rw [if_neg (by omega), if_neg nl, if_pos hd']
  intro i hi
  rw [e] at hi
  exact run_all (by omega) hi
