/-! PURE PART SX: the sheet's reader: words and signs -/
set_option maxRecDepth 100000
theorem sj_idx {n : Nat} {K : Nat → Nat} {h : AH} (hn : 20000 < n) (C : CK K h) {i j : Nat} (hi : i < 17) (hj : j < sLn i) (h1 : j < 2 ^ 31) : F_SJ6_indexOf n K (K (i + 1)) 32 (nI j) h = some (sSp i (sLn i - j) j, h) := by
  have t1 : (h.kind (K (i + 1)) = 20) = True := eq_true (C.1 i hi).1
  have t2 : sOk K h i = True := eq_true (C.1 i hi).2
  have t3 : inb (nI j) (sLn i) = True := eq_true ((inb_nI h1).2 hj)
  have t4 : (100 < n) = True := eq_true (by omega)
  have t5 : ((32 : Int32) = 32) = True := eq_true rfl
  simp only [F_SJ6_indexOf, t1, t2, t3, t4, t5, sIx_K C hi, ix_nI h1, and_self, chk_true, bnd_some, ob_some, oc_some, oc_none, hl_eq, jn_eq, ix_0, ix_1, if_true, if_false, inb0_2, inb1_2, not_true_eq_false, not_false_eq_true, ite_true, ite_false, true_or, or_true, or_self, zero_eq_one_I, one_eq_zero_I]
/-- a word within a text of words -/
def sgOk (s off len i : Nat) : Prop := off + len < sLn s ∧ sLn i = len ∧ sSp s (sLn s - off) off = nI (off + len) ∧ ∀ j, j < len → sBt s (off + j) = sBt i j
theorem sg_wd {T : Nat → Int32} {tm s off len i : Nat} {t : Tk} (sg : sgOk s off len i) (ht : t.1 ≠ tm) (k1 : t.1 ≤ t.2) : wdS T tm i t = (match findS (fun q => !(decide (t.1 + q < t.2) && decide (T (t.1 + q) = sBt s (off + q)))) len 0 with | some _ => false | none => decide (len = t.2 - t.1)) := by
  obtain ⟨g1, g2, g3, g4⟩ := sg
  unfold wdS
  rw [decide_eq_true ht, Bool.true_and, g2]
  cases hf : findS (fun q => !(decide (t.1 + q < t.2) && decide (T (t.1 + q) = sBt s (off + q)))) len 0 with
  | some q =>
    obtain ⟨a1, a2, a3, a4⟩ := findS_some hf
    show _ = false
    by_cases c : t.2 - t.1 = len
    · have lt : t.1 + q < t.2 := by omega
      have a3' : (!(decide (t.1 + q < t.2) && decide (T (t.1 + q) = sBt s (off + q)))) = true := a3
      rw [decide_eq_true lt, Bool.true_and, g4 q (by omega)] at a3'
      have : anyS (fun j => !decide (T (t.1 + j) = sBt i j)) len = true := anyS_iff.2 ⟨q, by omega, a3'⟩
      rw [this]; simp
    · rw [decide_eq_false c]; rfl
  | none =>
    have no := findS_none hf
    show _ = decide (len = t.2 - t.1)
    have : anyS (fun j => !decide (T (t.1 + j) = sBt i j)) len = false := by
      cases hy : anyS (fun j => !decide (T (t.1 + j) = sBt i j)) len
      · rfl
      · obtain ⟨q, hq, h⟩ := anyS_iff.1 hy
        have z := no q (by omega) (by omega)
        have z' : (!(decide (t.1 + q < t.2) && decide (T (t.1 + q) = sBt s (off + q)))) = false := z
        rw [g4 q hq] at z'
        simp at z' h
        exact absurd z'.2 h
    rw [this]
    by_cases c : t.2 - t.1 = len
    · rw [decide_eq_true c, decide_eq_true c.symm]; rfl
    · rw [decide_eq_false c, decide_eq_false (fun z => c z.symm)]; rfl
theorem x_seg {n : Nat} {K : Nat → Nat} {x : Nat} {Z : Zt} {h0 h : AH} {cc ss : Nat} {e c : Nat → Nat} {E : Nat → Nat → Nat} {b : Nat} {t : Tk} (hn : 20000 < n) (R : TX K x Z h0 cc ss e c E b t h) (ht : t.1 ≠ Z.tm) {s off len i k : Nat} (hs : s < 17) (sg : sgOk s off len i) (f : Nat) : F_X1_word_L4 n K (x + 2) (some (K (s + 1))) (f + 1) (nI off) (nI k) h = if wdS Z.T Z.tm i t = true then some (nI k, h) else F_X1_word_L4 n K (x + 2) (some (K (s + 1))) f (nI (off + len + 1)) (nI (k + 1)) h := by
  have R0 := R
  obtain ⟨B, r2, r3, tk, _⟩ := R
  have H := BX_rd B
  have h6 := H.2.2.2
  have k1 := tk.1
  have k2 := tk.2.1
  have C := B.2.2.1
  have kd := (C.1 s hs).1
  obtain ⟨a, b', c', d'⟩ := H.1
  have l30 := sLn_30 s hs
  have sg0 := sg
  obtain ⟨g1, g2, g3, g4⟩ := sg
  have ov := x_isOver (n := n) R0
  rw [decide_eq_false ht] at ov
  have tf : (bI false = 0) = True := eq_true (by decide)
  have e1 : (nI (sLn s) ≤ nI off) = False := eq_false (nI_ge (by omega) (by omega))
  have ei := sj_idx (n := n) hn C hs (j := off) (by omega) (by omega)
  rw [g3] at ei
  have df : nI (off + len) - nI off = nI len := by rw [nI_diff (by omega)]; congr 1; omega
  have inner : ∀ kt : Int32 → AH → Option (Int32 × AH), F_X1_word_L31 n K (nI (off + len)) (nI off) (nI k) (x + 2) (some (K (s + 1))) n 0 h kt = selS (findS (fun q => !(decide (t.1 + q < t.2) && decide (Z.T (t.1 + q) = sBt s (off + q)))) len 0) (fun q => kt (nI q) h) (kt (nI len) h) := by
    intro kt
    refine loopG (fun f i => F_X1_word_L31 n K (nI (off + len)) (nI off) (nI k) (x + 2) (some (K (s + 1))) f i h kt) len _ _ _ ?_ ?_ n (by omega)
    · intro f q hq
      have e3 : (nI len ≤ nI q) = False := eq_false (nI_ge hq (by omega))
      by_cases z : t.1 + q < t.2
      · have e4 : (nI t.2 ≤ nI (t.1 + q)) = False := eq_false (nI_ge z (by omega))
        obtain ⟨b1, b2, b3⟩ := x_at H (p := t.1 + q) (by omega)
        have ec := sj_at (n := n) C hs (j := off + q) (by omega) (by omega)
        by_cases y : Z.T (t.1 + q) = sBt s (off + q)
        · have y' : (Z.T (t.1 + q) = sBt s (off + q)) = True := eq_true y
          simp only [F_X1_word_L31, chk_true, bnd_some, ob_some, oc_some, oc_none, hl_eq, jn_eq, ix_0, ix_1, if_true, if_false, inb0_2, inb1_2, not_true_eq_false, not_false_eq_true, ite_true, ite_false, true_or, or_true, or_self, zero_eq_one_I, one_eq_zero_I, df, e3, a, b', c', d', r2, r3, nI_add, e4, b1, b2, kd, ec, y', nI_1, decide_eq_true z, decide_true, Bool.and_self, Bool.not_true, Bool.false_eq_true]
        · have y' : (Z.T (t.1 + q) = sBt s (off + q)) = False := eq_false y
          simp only [F_X1_word_L31, chk_true, bnd_some, ob_some, oc_some, oc_none, hl_eq, jn_eq, ix_0, ix_1, if_true, if_false, inb0_2, inb1_2, not_true_eq_false, not_false_eq_true, ite_true, ite_false, true_or, or_true, or_self, zero_eq_one_I, one_eq_zero_I, df, e3, a, b', c', d', r2, r3, nI_add, e4, b1, b2, kd, ec, y', decide_eq_true z, decide_false, Bool.and_false, Bool.not_false]
      · have e4 : (nI t.2 ≤ nI (t.1 + q)) = True := eq_true (nI_le (by omega) (by omega))
        simp only [F_X1_word_L31, chk_true, bnd_some, ob_some, oc_some, oc_none, hl_eq, jn_eq, ix_0, ix_1, if_true, if_false, inb0_2, inb1_2, not_true_eq_false, not_false_eq_true, ite_true, ite_false, true_or, or_true, or_self, zero_eq_one_I, one_eq_zero_I, df, e3, a, r2, r3, nI_add, e4, decide_eq_false z, Bool.false_and, Bool.not_false]
    · intro f
      have e3 : (nI len ≤ nI len) = True := eq_true (nI_le (Nat.le_refl _) (by omega))
      simp only [F_X1_word_L31, df, e3, if_true]
  rw [sg_wd sg0 ht k1]
  simp only [F_X1_word_L4, chk_true, bnd_some, ob_some, oc_some, oc_none, hl_eq, jn_eq, ix_0, ix_1, if_true, if_false, inb0_2, inb1_2, not_true_eq_false, not_false_eq_true, ite_true, ite_false, true_or, or_true, or_self, zero_eq_one_I, one_eq_zero_I, kd, sj_len C hs, e1, a, ov, tf, ei, inner]
  cases hf : findS (fun q => !(decide (t.1 + q < t.2) && decide (Z.T (t.1 + q) = sBt s (off + q)))) len 0 with
  | some q =>
    obtain ⟨a1, a2, a3, a4⟩ := findS_some hf
    have q1 : (nI q = nI len) = False := eq_false (fun z => by have := (nI_eq (by omega) (by omega)).1 z; omega)
    simp only [selS, df, q1, nI_1, not_false_eq_true, if_true, Bool.false_eq_true, if_false]
  | none =>
    have q2 : (nI len = nI (t.2 - t.1)) = (len = t.2 - t.1) := propext (nI_eq (by omega) (by omega))
    have q3 : (nI len = nI len) = True := eq_true rfl
    by_cases y : len = t.2 - t.1
    · have y' : (len = t.2 - t.1) = True := eq_true y
      simp only [selS, chk_true, bnd_some, ob_some, oc_some, oc_none, hl_eq, jn_eq, ix_0, ix_1, if_true, if_false, inb0_2, inb1_2, not_true_eq_false, not_false_eq_true, ite_true, ite_false, true_or, or_true, or_self, zero_eq_one_I, one_eq_zero_I, df, q3, a, r2, r3, nI_diff k1, q2, y', decide_true]
    · have y' : (len = t.2 - t.1) = False := eq_false y
      simp only [selS, chk_true, bnd_some, ob_some, oc_some, oc_none, hl_eq, jn_eq, ix_0, ix_1, if_true, if_false, inb0_2, inb1_2, not_true_eq_false, not_false_eq_true, ite_true, ite_false, true_or, or_true, or_self, zero_eq_one_I, one_eq_zero_I, df, q3, a, r2, r3, nI_diff k1, q2, y', nI_1, decide_false, Bool.false_eq_true]
theorem x_wend {n : Nat} {K : Nat → Nat} {y : Nat} {h : AH} (C : CK K h) {s k : Nat} (hs : s < 17) (f : Nat) : F_X1_word_L4 n K y (some (K (s + 1))) (f + 1) (nI (sLn s)) (nI k) h = some (-1, h) := by
  have l30 := sLn_30 s hs
  have e1 : (nI (sLn s) ≤ nI (sLn s)) = True := eq_true (nI_le (Nat.le_refl _) (by omega))
  simp only [F_X1_word_L4, chk_true, bnd_some, ob_some, oc_some, oc_none, hl_eq, jn_eq, ix_0, ix_1, if_true, if_false, inb0_2, inb1_2, not_true_eq_false, not_false_eq_true, ite_true, ite_false, true_or, or_true, or_self, zero_eq_one_I, one_eq_zero_I, (C.1 s hs).1, sj_len C hs, e1]
theorem x_wover {n : Nat} {K : Nat → Nat} {x : Nat} {Z : Zt} {h0 h : AH} {cc ss : Nat} {e c : Nat → Nat} {E : Nat → Nat → Nat} {b : Nat} {t : Tk} (hn : 20000 < n) (R : TX K x Z h0 cc ss e c E b t h) (ht : t.1 = Z.tm) {s : Nat} (hs : s < 17) : F_X1_word n K (x + 2) (some (K (s + 1))) h = some (-1, h) := by
  obtain ⟨f, hf⟩ : ∃ f, n = f + 1 := ⟨n - 1, by omega⟩
  have C := R.1.2.2.1
  have a := (BX_rd R.1).1.1
  have ov := x_isOver (n := n) R
  rw [decide_eq_true ht] at ov
  have tt : (bI true = 0) = False := eq_false (by decide)
  have e : F_X1_word n K (x + 2) (some (K (s + 1))) h = F_X1_word_L4 n K (x + 2) (some (K (s + 1))) (f + 1) 0 0 h := by rw [F_X1_word, ← hf]
  rw [e]
  by_cases c : nI (sLn s) ≤ 0
  · simp only [F_X1_word_L4, chk_true, bnd_some, ob_some, oc_some, oc_none, hl_eq, jn_eq, ix_0, ix_1, if_true, if_false, inb0_2, inb1_2, not_true_eq_false, not_false_eq_true, ite_true, ite_false, true_or, or_true, or_self, zero_eq_one_I, one_eq_zero_I, (C.1 s hs).1, sj_len C hs, eq_true c]
  · simp only [F_X1_word_L4, chk_true, bnd_some, ob_some, oc_some, oc_none, hl_eq, jn_eq, ix_0, ix_1, if_true, if_false, inb0_2, inb1_2, not_true_eq_false, not_false_eq_true, ite_true, ite_false, true_or, or_true, or_self, zero_eq_one_I, one_eq_zero_I, (C.1 s hs).1, sj_len C hs, eq_false c, a, ov, tt]
def wO0 (T : Nat → Int32) (tm : Nat) (t : Tk) : Option Nat := if wdS T tm 8 t = true then some 0 else if wdS T tm 9 t = true then some 1 else if wdS T tm 10 t = true then some 2 else if wdS T tm 12 t = true then some 3 else if wdS T tm 13 t = true then some 4 else none
def wO2 (T : Nat → Int32) (tm : Nat) (t : Tk) : Option Nat := if wdS T tm 11 t = true then some 0 else none
def wO3 (T : Nat → Int32) (tm : Nat) (t : Tk) : Option Nat := if wdS T tm 14 t = true then some 0 else if wdS T tm 15 t = true then some 1 else if wdS T tm 16 t = true then some 2 else none
theorem me_if {T : Nat → Int32} {tm : Nat} {t : Tk} : meT T tm t = if wdS T tm 4 t = true then some 0 else if wdS T tm 5 t = true then some 1 else if wdS T tm 6 t = true then some 2 else if wdS T tm 7 t = true then some 3 else none := rfl
theorem sel_if {c : Prop} {d : Decidable c} {k : Nat} {o : Option Nat} : selS (@ite _ c d (some k) o) nI (-1) = @ite _ c d (nI k) (selS o nI (-1)) := by
  by_cases z : c
  · rw [if_pos z, if_pos z]; rfl
  · rw [if_neg z, if_neg z]
theorem some_if {c : Prop} {d : Decidable c} {a b : Int32} {h : AH} : (some (@ite _ c d a b, h) : Option (Int32 × AH)) = @ite _ c d (some (a, h)) (some (b, h)) := by
  by_cases z : c
  · rw [if_pos z, if_pos z]
  · rw [if_neg z, if_neg z]
theorem sg0 : sgOk 0 0 4 8 ∧ sgOk 0 5 7 9 ∧ sgOk 0 13 5 10 ∧ sgOk 0 19 5 12 ∧ sgOk 0 25 3 13 := by unfold sgOk; decide
theorem sg1 : sgOk 1 0 4 4 ∧ sgOk 1 5 6 5 ∧ sgOk 1 12 4 6 ∧ sgOk 1 17 4 7 := by unfold sgOk; decide
theorem sg2 : sgOk 2 0 2 11 := by unfold sgOk; decide
theorem sg3 : sgOk 3 0 4 14 ∧ sgOk 3 5 4 15 ∧ sgOk 3 10 5 16 := by unfold sgOk; decide
theorem x_word0 {n : Nat} {K : Nat → Nat} {x : Nat} {Z : Zt} {h0 h : AH} {cc ss : Nat} {e c : Nat → Nat} {E : Nat → Nat → Nat} {b : Nat} {t : Tk} (hn : 20000 < n) (R : TX K x Z h0 cc ss e c E b t h) : F_X1_word n K (x + 2) (some (K 1)) h = some (selS (wO0 Z.T Z.tm t) nI (-1), h) := by
  by_cases ht : t.1 = Z.tm
  · rw [show K 1 = K (0 + 1) from rfl, x_wover hn R ht (by omega)]
    unfold wO0
    rw [over_word ht, over_word ht, over_word ht, over_word ht, over_word ht]; rfl
  · obtain ⟨f, hf⟩ : ∃ f, n = f + 6 := ⟨n - 6, by omega⟩
    have ev : F_X1_word n K (x + 2) (some (K 1)) h = F_X1_word_L4 n K (x + 2) (some (K (0 + 1))) (f + 5 + 1) (nI 0) (nI 0) h := by
      have : f + 5 + 1 = n := by omega
      rw [this]; rfl
    obtain ⟨s1, s2, s3, s4, s5⟩ := sg0
    rw [ev, x_seg hn R ht (by omega) s1 (f + 5), x_seg hn R ht (by omega) s2 (f + 4), x_seg hn R ht (by omega) s3 (f + 3), x_seg hn R ht (by omega) s4 (f + 2), x_seg hn R ht (by omega) s5 (f + 1)]
    rw [show nI (25 + 3 + 1) = nI (sLn 0) from by decide, x_wend R.1.2.2.1 (by omega) f]
    unfold wO0
    rw [sel_if, sel_if, sel_if, sel_if, sel_if, some_if, some_if, some_if, some_if, some_if]
    rfl
theorem x_word1 {n : Nat} {K : Nat → Nat} {x : Nat} {Z : Zt} {h0 h : AH} {cc ss : Nat} {e c : Nat → Nat} {E : Nat → Nat → Nat} {b : Nat} {t : Tk} (hn : 20000 < n) (R : TX K x Z h0 cc ss e c E b t h) : F_X1_word n K (x + 2) (some (K 2)) h = some (selS (meT Z.T Z.tm t) nI (-1), h) := by
  rw [me_if]
  by_cases ht : t.1 = Z.tm
  · rw [show K 2 = K (1 + 1) from rfl, x_wover hn R ht (by omega)]
    rw [over_word ht, over_word ht, over_word ht, over_word ht]; rfl
  · obtain ⟨f, hf⟩ : ∃ f, n = f + 5 := ⟨n - 5, by omega⟩
    have ev : F_X1_word n K (x + 2) (some (K 2)) h = F_X1_word_L4 n K (x + 2) (some (K (1 + 1))) (f + 4 + 1) (nI 0) (nI 0) h := by
      have : f + 4 + 1 = n := by omega
      rw [this]; rfl
    obtain ⟨s1, s2, s3, s4⟩ := sg1
    rw [ev, x_seg hn R ht (by omega) s1 (f + 4), x_seg hn R ht (by omega) s2 (f + 3), x_seg hn R ht (by omega) s3 (f + 2), x_seg hn R ht (by omega) s4 (f + 1)]
    rw [show nI (17 + 4 + 1) = nI (sLn 1) from by decide, x_wend R.1.2.2.1 (by omega) f]
    rw [sel_if, sel_if, sel_if, sel_if, some_if, some_if, some_if, some_if]
    rfl
theorem x_word2 {n : Nat} {K : Nat → Nat} {x : Nat} {Z : Zt} {h0 h : AH} {cc ss : Nat} {e c : Nat → Nat} {E : Nat → Nat → Nat} {b : Nat} {t : Tk} (hn : 20000 < n) (R : TX K x Z h0 cc ss e c E b t h) : F_X1_word n K (x + 2) (some (K 3)) h = some (selS (wO2 Z.T Z.tm t) nI (-1), h) := by
  unfold wO2
  by_cases ht : t.1 = Z.tm
  · rw [show K 3 = K (2 + 1) from rfl, x_wover hn R ht (by omega)]
    rw [over_word ht]; rfl
  · obtain ⟨f, hf⟩ : ∃ f, n = f + 2 := ⟨n - 2, by omega⟩
    have ev : F_X1_word n K (x + 2) (some (K 3)) h = F_X1_word_L4 n K (x + 2) (some (K (2 + 1))) (f + 1 + 1) (nI 0) (nI 0) h := by
      have : f + 1 + 1 = n := by omega
      rw [this]; rfl
    rw [ev, x_seg hn R ht (by omega) sg2 (f + 1)]
    rw [show nI (0 + 2 + 1) = nI (sLn 2) from by decide, x_wend R.1.2.2.1 (by omega) f]
    rw [sel_if, some_if]
    rfl
theorem x_word3 {n : Nat} {K : Nat → Nat} {x : Nat} {Z : Zt} {h0 h : AH} {cc ss : Nat} {e c : Nat → Nat} {E : Nat → Nat → Nat} {b : Nat} {t : Tk} (hn : 20000 < n) (R : TX K x Z h0 cc ss e c E b t h) : F_X1_word n K (x + 2) (some (K 4)) h = some (selS (wO3 Z.T Z.tm t) nI (-1), h) := by
  unfold wO3
  by_cases ht : t.1 = Z.tm
  · rw [show K 4 = K (3 + 1) from rfl, x_wover hn R ht (by omega)]
    rw [over_word ht, over_word ht, over_word ht]; rfl
  · obtain ⟨f, hf⟩ : ∃ f, n = f + 4 := ⟨n - 4, by omega⟩
    have ev : F_X1_word n K (x + 2) (some (K 4)) h = F_X1_word_L4 n K (x + 2) (some (K (3 + 1))) (f + 3 + 1) (nI 0) (nI 0) h := by
      have : f + 3 + 1 = n := by omega
      rw [this]; rfl
    obtain ⟨s1, s2, s3⟩ := sg3
    rw [ev, x_seg hn R ht (by omega) s1 (f + 3), x_seg hn R ht (by omega) s2 (f + 2), x_seg hn R ht (by omega) s3 (f + 1)]
    rw [show nI (10 + 5 + 1) = nI (sLn 3) from by decide, x_wend R.1.2.2.1 (by omega) f]
    rw [sel_if, sel_if, sel_if, some_if, some_if, some_if]
    rfl
theorem x_needsWord {n : Nat} {K : Nat → Nat} {x : Nat} {Z : Zt} {h0 h : AH} {cc ss cM sM : Nat} {e c : Nat → Nat} {E : Nat → Nat → Nat} {b : Nat} {t : Tk} (hn : 20000 < n) (R : TX K x Z h0 cc ss e c E b t h) (hc : cc + 1 ≤ cM) (hs : ss + 7 ≤ sM) {w : Option Nat} {o : Option Nat} (hw : F_X1_word n K (x + 2) w h = some (selS o nI (-1), h)) (ho : ∀ k, o = some k → k < 100) : XO (F_X1_needsWord n K (x + 2) w h) (passP true Z.T Z.tm o.isSome (o.getD 0) t) (FX K x Z h0 cM sM) (fun k r u h' => r = nI k ∧ o = some k ∧ TX K x Z h0 cc ss e c E b u h' ∧ KX x h h') := by
  have a := (BX_rd R.1).1.1
  cases o with
  | none =>
    obtain ⟨fa, fh, fe, fq⟩ := x_fail (n := n) R hc hs
    refine ⟨fa, fh, ?_, fq⟩
    have t : ((-1 : Int32) = -1) = True := eq_true rfl
    simp only [F_X1_needsWord, chk_true, bnd_some, ob_some, oc_some, oc_none, hl_eq, jn_eq, ix_0, ix_1, if_true, if_false, inb0_2, inb1_2, not_true_eq_false, not_false_eq_true, ite_true, ite_false, true_or, or_true, or_self, zero_eq_one_I, one_eq_zero_I, a, hw, selS, t, fe]
  | some k =>
    have k1 := ho k rfl
    have t : (nI k = -1) = False := nI_m1 (by omega)
    have nx := x_next (n := n) hn R hc hs k
    have es : passP true Z.T Z.tm (some k).isSome ((some k).getD 0) = adv true Z.T Z.tm k := rfl
    rw [es]
    simp only [F_X1_needsWord, chk_true, bnd_some, ob_some, oc_some, oc_none, hl_eq, jn_eq, ix_0, ix_1, if_true, if_false, inb0_2, inb1_2, not_true_eq_false, not_false_eq_true, ite_true, ite_false, true_or, or_true, or_self, zero_eq_one_I, one_eq_zero_I, a, hw, selS, t]
    rcases hq : adv true Z.T Z.tm k _ with q | ⟨v', u⟩
    · rw [hq] at nx
      obtain ⟨aa, h', e1, q1⟩ := nx
      exact ⟨aa, h', by rw [e1, bndT_inl], q1⟩
    · rw [hq] at nx
      obtain ⟨rr, h', e1, q1, q2, q3⟩ := nx
      exact ⟨nI k, h', by rw [e1, bndT_inr], by rw [q1], by rw [q1], q2, q3⟩
theorem x_needs {β : Type} {n : Nat} {K : Nat → Nat} {x : Nat} {Z : Zt} {h0 h : AH} {cc ss cM sM : Nat} {e c : Nat → Nat} {E : Nat → Nat → Nat} {b : Nat} {t : Tk} (hn : 20000 < n) (R : TX K x Z h0 cc ss e c E b t h) (hc : cc + 1 ≤ cM) (hs : ss + 7 ≤ sM) (v : Int32) (w : β) : XO (F_X1_needs n K (x + 2) v h) (passP true Z.T Z.tm (sgT Z.T Z.tm v t) w t) (FX K x Z h0 cM sM) (fun w' _ u h' => w' = w ∧ TX K x Z h0 cc ss e c E b u h' ∧ KX x h h') := by
  have H := BX_rd R.1
  obtain ⟨a, b', c', d'⟩ := H.1
  have k1 := R.2.2.2.1.1
  have k2 := R.2.2.2.1.2.1
  have r3 := R.2.2.1
  obtain ⟨fa, fh, fe, fq⟩ := x_fail (n := n) R hc hs
  have ov := x_isOver (n := n) R
  have tt : (bI true = 0) = False := eq_false (by decide)
  have tf : (bI false = 0) = True := eq_true (by decide)
  unfold sgT
  by_cases z : t.1 = Z.tm
  · rw [decide_eq_true z] at ov
    rw [decide_eq_false (show ¬ t.1 < Z.tm by omega), Bool.false_and]
    refine ⟨fa, fh, ?_, fq⟩
    simp only [F_X1_needs, chk_true, bnd_some, ob_some, oc_some, oc_none, hl_eq, jn_eq, ix_0, ix_1, if_true, if_false, inb0_2, inb1_2, not_true_eq_false, not_false_eq_true, ite_true, ite_false, true_or, or_true, or_self, zero_eq_one_I, one_eq_zero_I, a, ov, tt, fe]
  · rw [decide_eq_false z] at ov
    have lt : t.1 < Z.tm := by omega
    obtain ⟨a1, a2, a3⟩ := x_at H lt
    rw [decide_eq_true lt, Bool.true_and]
    by_cases y : Z.T t.1 = v
    · rw [decide_eq_true y]
      have y' : (Z.T t.1 = v) = True := eq_true y
      have nx := x_next (n := n) hn R hc hs w
      have es : passP true Z.T Z.tm true w t = adv true Z.T Z.tm w t := rfl
      rw [es]
      simp only [F_X1_needs, chk_true, bnd_some, ob_some, oc_some, oc_none, hl_eq, jn_eq, ix_0, ix_1, if_true, if_false, inb0_2, inb1_2, not_true_eq_false, not_false_eq_true, ite_true, ite_false, true_or, or_true, or_self, zero_eq_one_I, one_eq_zero_I, a, b', c', d', ov, tf, r3, a1, a2, y']
      rcases hq : adv true Z.T Z.tm w t with q | ⟨v', u⟩
      · rw [hq] at nx
        obtain ⟨aa, h', e1, q1⟩ := nx
        exact ⟨aa, h', by rw [e1, bndT_inl], q1⟩
      · rw [hq] at nx
        obtain ⟨rr, h', e1, q1, q2, q3⟩ := nx
        exact ⟨(), h', by rw [e1, bndT_inr], q1, q2, q3⟩
    · rw [decide_eq_false y]
      have y' : (Z.T t.1 = v) = False := eq_false y
      refine ⟨fa, fh, ?_, fq⟩
      simp only [F_X1_needs, chk_true, bnd_some, ob_some, oc_some, oc_none, hl_eq, jn_eq, ix_0, ix_1, if_true, if_false, inb0_2, inb1_2, not_true_eq_false, not_false_eq_true, ite_true, ite_false, true_or, or_true, or_self, zero_eq_one_I, one_eq_zero_I, a, b', c', d', ov, tf, r3, a1, a2, y', fe]
