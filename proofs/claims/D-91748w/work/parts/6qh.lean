/-! PURE PART QH: doubt -/
set_option maxRecDepth 100000
/-- a loop whose counter starts at o -/
theorem loopUO {σ β : Type} (F : Nat → Int32 → σ → Option β) (o N : Nat) (Inv : Nat → σ → Prop) (P : Option β → Prop)
    (step : ∀ f k s, k < N → Inv k s → P (F (f + 1) (nI (o + k)) s) ∨ ∃ s', Inv (k + 1) s' ∧ F (f + 1) (nI (o + k)) s = F f (nI (o + (k + 1))) s')
    (fin : ∀ f s, Inv N s → P (F (f + 1) (nI (o + N)) s)) (s : σ) (fuel : Nat) (hf : N < fuel) (h0 : Inv 0 s) : P (F fuel (nI o) s) := by
  have key := loopU (fun f i s => F f (nI o + i) s) N Inv P
    (by
      intro f k s hk hs
      simp only [nI_add]
      exact step f k s hk hs)
    (by
      intro f s hs
      simp only [nI_add]
      exact fin f s hs) N 0 s fuel (by omega) hf h0
  simpa only [nI_add, Nat.add_zero] using key
abbrev N3 : Type := Nat × Nat × Nat
/-- points, those rather for p, those rather for k -/
def dbG (d : Int32) (t : N3) : N3 := (t.1 + 1, t.2.1 + (if d < 0 then 1 else 0), t.2.2 + (if 0 < d then 1 else 0))
def okN (t : N3) : Prop := t.2.1 + t.2.2 ≤ t.1
theorem ok_dbG {d : Int32} {t : N3} (h : okN t) : okN (dbG d t) := by
  unfold okN dbG at *
  by_cases c1 : d < 0
  · have c2 : ¬ 0 < d := by
      intro z
      rw [Int32.lt_iff_toInt_lt] at c1 z
      omega
    simp [c1, c2]; omega
  · simp [c1]; split <;> omega
def dfS (S : St) (v p k : Nat) (x y : Nat) : Int32 := wayS (S.V v 3) (S.V v 4) (S.V v 5) (nI x) (nI y) (S.P p 0) (S.P p 1) - wayS (S.V v 3) (S.V v 4) (S.V v 5) (nI x) (nI y) (S.P k 0) (S.P k 1)
def lowN (a e : Nat) : Nat := a - e
def cntN (a e : Nat) : Nat := (if a + e < 99 then a + e else 99) + 1 - (a - e)
def rowT (S : St) (v p k e b : Nat) (x : Nat) (t : N3) : N3 := foldS (fun j t => dbG (dfS S v p k x (lowN b e + j)) t) t (cntN b e)
def boxT (S : St) (v p k e a b : Nat) : N3 := foldS (fun i t => rowT S v p k e b (lowN a e + i) t) (0, 0, 0) (cntN a e)
theorem ok_row {S : St} {v p k e b x : Nat} {t : N3} (h : okN t) : okN (rowT S v p k e b x t) := fold_inv h (fun _ _ _ ha => ok_dbG ha)
theorem row_1 {S : St} {v p k e b x : Nat} {t : N3} : (rowT S v p k e b x t).1 = t.1 + cntN b e := by
  unfold rowT
  generalize cntN b e = N
  induction N with
  | zero => rfl
  | succ N ih => rw [foldS]; show _ + 1 = _; rw [ih]; omega
theorem box_1 {S : St} {v p k e a b : Nat} : (boxT S v p k e a b).1 = cntN a e * cntN b e := by
  unfold boxT
  generalize cntN a e = N
  induction N with
  | zero => simp [foldS]
  | succ N ih => rw [foldS, row_1, ih, Nat.succ_mul]
theorem lo_if {a e : Nat} (ha : a < 100) (he : e < 6) : (if (0 : Int32) < nI a - nI e then nI a - nI e else 0) = nI (lowN a e) := by
  unfold lowN
  rcases Nat.lt_or_ge e a with h | h
  · rw [pk_sub (by omega), if_pos]
    rw [← nI_0, nI_ltI (by omega) (by omega)]; omega
  · have e1 : (nI a - nI e).toInt = (a : Int) - e := pk_sub_toInt (by omega) (by omega)
    rw [if_neg, show a - e = 0 by omega]; rfl
    rw [Int32.lt_iff_toInt_lt, e1]
    show ¬ (0 : Int) < _
    omega
theorem hi_if {a e : Nat} (ha : a < 100) (he : e < 6) : (if nI a + nI e < (99 : Int32) then nI a + nI e else 99) = nI (if a + e < 99 then a + e else 99) := by
  rw [nI_add]
  have : (nI (a + e) < (99 : Int32)) = (a + e < 99) := propext (nI_ltI (b := 99) (by omega) (by omega))
  simp only [this]
  by_cases c : a + e < 99
  · simp only [c, if_true]
  · simp only [c, if_false]; rfl
theorem cnt_hi {a e k : Nat} (ha : a < 100) (he : e < 6) (hk : k < 1000) : (nI (if a + e < 99 then a + e else 99) < nI (lowN a e + k)) = (cntN a e ≤ k) := by
  rw [nI_ltI (by split <;> omega) (by unfold lowN; omega)]
  unfold lowN cntN
  refine propext ⟨fun z => ?_, fun z => ?_⟩
  · split at z <;> split <;> omega
  · split at z <;> split <;> omega
theorem cntN_le {a e : Nat} (ha : a < 100) (he : e < 6) : cntN a e ≤ 12 ∧ 0 < cntN a e := by
  unfold cntN
  split <;> omega
def sureX (t : N3) : Int32 := if t.2.2 = t.1 then 2 else if t.2.1 = t.1 then -2 else if t.2.2 + t.2.1 = 0 then 0 else 1
def sureM (t : N3) : Int32 := if t.2.1 = t.1 then 1 else if t.2.2 = t.1 then -1 else if t.2.2 + t.2.1 = 0 then 2 else 0
theorem i0_lt {d : Int32} (h : ¬ d < 0) (h2 : ¬ 0 < d) : d = 0 := by
  rw [Int32.lt_iff_toInt_lt] at h h2
  apply Int32.toInt_inj.1
  have : (0 : Int32).toInt = 0 := rfl
  omega
theorem x_surelyL {n : Nat} {K : Nat → Nat} {x : Nat} {h : AH} {ev ep b : Nat} {Ev Ep : Nat → Nat} {S : St} (hn : 20000 < n) (X : XA K x h ev Ev ep Ep b S) {v p k e a b : Nat} (hv : v < S.nv) (hp : p < S.np) (hk : k < S.np) (hb : S.V v 1 = nI b) (hb' : b < 100) (he : e < 6) (x0 : Nat) (t : N3) (kk : Int32 → Int32 → Int32 → AH → Option (Int32 × AH)) : F_X0_surely_L49 n K (nI x0) (Ev v) (nI e) (some (Ep k)) (some (Ep p)) n (nI (lowN b e)) (nI t.1) (nI t.2.1) (nI t.2.2) h kk = kk (nI (rowT S v p k e b x0 t).1) (nI (rowT S v p k e b x0 t).2.1) (nI (rowT S v p k e b x0 t).2.2) h := by
  obtain ⟨gk, f3, f0, f1, f2, f4, f5⟩ := X.2.1.2.2 v hv
  obtain ⟨p1, p2, p3⟩ := X.2.2.1.2.2 p hp
  obtain ⟨k1, k2, k3⟩ := X.2.2.1.2.2 k hk
  have c12 := cntN_le hb' he
  exact loopUO (fun f i (s : N3) => F_X0_surely_L49 n K (nI x0) (Ev v) (nI e) (some (Ep k)) (some (Ep p)) f i (nI s.1) (nI s.2.1) (nI s.2.2) h kk) (lowN b e) (cntN b e) (fun j s => s = foldS (fun j t => dbG (dfS S v p k x0 (lowN b e + j)) t) t j) (fun o => o = kk (nI (rowT S v p k e b x0 t).1) (nI (rowT S v p k e b x0 t).2.1) (nI (rowT S v p k e b x0 t).2.2) h)
    (by
      intro f j s hj hs
      right
      refine ⟨dbG (dfS S v p k x0 (lowN b e + j)) s, by rw [foldS, ← hs], ?_⟩
      have e1 := cnt_hi (k := j) hb' he (by omega)
      have e2 : (cntN b e ≤ j) = False := eq_false (by omega)
      simp only [F_X0_surely_L49, chk_true, bnd_some, ob_some, oc_some, oc_none, hl_eq, jn_eq, ix_0, ix_1, if_true, if_false, inb0_2, inb1_2, not_true_eq_false, not_false_eq_true, ite_true, ite_false, true_or, or_true, or_self, zero_eq_one_I, one_eq_zero_I, gk, and_self, f1, hb, hi_if hb' he, e1, e2, p1, p2, p3, k1, k2, k3, x_wayFrom X.2.1 hv, nI_1, i_le, dbG, Nat.add_assoc]
      rw [show wayS (S.V v 3) (S.V v 4) (S.V v 5) (nI x0) (nI (lowN b e + j)) (S.P p 0) (S.P p 1) - wayS (S.V v 3) (S.V v 4) (S.V v 5) (nI x0) (nI (lowN b e + j)) (S.P k 0) (S.P k 1) = dfS S v p k x0 (lowN b e + j) from rfl]
      generalize dfS S v p k x0 (lowN b e + j) = d
      by_cases c1 : d < 0
      · by_cases c2 : 0 < d <;> simp [c1, c2, nI_1]
      · by_cases c2 : 0 < d <;> simp [c1, c2, nI_1])
    (by
      intro f s hs
      have e1 := cnt_hi (k := cntN b e) hb' he (by omega)
      have e2 : (cntN b e ≤ cntN b e) = True := eq_true (Nat.le_refl _)
      simp only [F_X0_surely_L49, chk_true, bnd_some, ob_some, oc_some, oc_none, hl_eq, jn_eq, ix_0, ix_1, if_true, if_false, inb0_2, inb1_2, not_true_eq_false, not_false_eq_true, ite_true, ite_false, true_or, or_true, or_self, zero_eq_one_I, one_eq_zero_I, gk, and_self, f1, hb, hi_if hb' he, e1, e2, hs, rowT]) t n (by omega) rfl
theorem x_surely {n : Nat} {K : Nat → Nat} {x : Nat} {h : AH} {ev ep b : Nat} {Ev Ep : Nat → Nat} {S : St} (hn : 20000 < n) (X : XA K x h ev Ev ep Ep b S) {v p k e a b : Nat} (hv : v < S.nv) (hp : p < S.np) (hk : k < S.np) (ha : S.V v 0 = nI a) (ha' : a < 100) (hb : S.V v 1 = nI b) (hb' : b < 100) (he : e < 6) : F_X0_surely n K x (some (Ev v)) (nI e) (some (Ep k)) (some (Ep p)) h = some (sureX (boxT S v p k e a b), h) := by
  obtain ⟨gk, f3, f0, f1, f2, f4, f5⟩ := X.2.1.2.2 v hv
  have c12 := cntN_le ha' he
  have c12b := cntN_le hb' he
  have okb : okN (boxT S v p k e a b) := fold_inv (Nat.le_refl _) (fun _ _ _ h => ok_row h)
  have hb1 : (boxT S v p k e a b).1 ≤ 144 := by rw [box_1]; exact Nat.le_trans (Nat.mul_le_mul c12.1 c12b.1) (by omega)
  have key := loopUO (fun f i (s : N3) => F_X0_surely_L21 n K (Ev v) (nI e) (some (Ep k)) (some (Ep p)) f i (nI s.1) (nI s.2.1) (nI s.2.2) h) (lowN a e) (cntN a e) (fun i s => s = foldS (fun i t => rowT S v p k e b (lowN a e + i) t) (0, 0, 0) i) (fun o => o = some (sureX (boxT S v p k e a b), h))
    (by
      intro f i s hi hs
      right
      refine ⟨rowT S v p k e b (lowN a e + i) s, by rw [foldS, ← hs], ?_⟩
      have e1 := cnt_hi (k := i) ha' he (by omega)
      have e2 : (cntN a e ≤ i) = False := eq_false (by omega)
      simp only [F_X0_surely_L21, chk_true, bnd_some, ob_some, oc_some, oc_none, hl_eq, jn_eq, ix_0, ix_1, if_true, if_false, inb0_2, inb1_2, not_true_eq_false, not_false_eq_true, ite_true, ite_false, true_or, or_true, or_self, zero_eq_one_I, one_eq_zero_I, gk, and_self, f0, f1, ha, hb, hi_if ha' he, lo_if hb' he, e1, e2, x_surelyL (a := a) hn X hv hp hk hb hb' he, nI_1, Nat.add_assoc])
    (by
      intro f s hs
      have e1 := cnt_hi (k := cntN a e) ha' he (by omega)
      have e2 : (cntN a e ≤ cntN a e) = True := eq_true (Nat.le_refl _)
      have hs' : s = boxT S v p k e a b := hs
      rw [← hs'] at okb hb1 ⊢
      obtain ⟨c, bb, aa⟩ := s
      unfold okN at okb
      have q1 : (nI aa = nI c) = (aa = c) := propext (nI_eq (by simp at *; omega) (by simp at *; omega))
      have q2 : (nI bb = nI c) = (bb = c) := propext (nI_eq (by simp at *; omega) (by simp at *; omega))
      have q3 : (nI aa + nI bb = 0) = (aa + bb = 0) := by rw [nI_add, ← nI_0]; exact propext (nI_eq (by simp at *; omega) (by omega))
      simp only [F_X0_surely_L21, chk_true, bnd_some, ob_some, oc_some, oc_none, hl_eq, jn_eq, ix_0, ix_1, if_true, if_false, inb0_2, inb1_2, not_true_eq_false, not_false_eq_true, ite_true, ite_false, true_or, or_true, or_self, zero_eq_one_I, one_eq_zero_I, gk, and_self, f0, ha, hi_if ha' he, e1, e2, q1, q2, q3, sureX]
      by_cases c1 : aa = c
      · simp [c1]
      · by_cases c2 : bb = c
        · simp [c1, c2]
        · by_cases c3 : aa + bb = 0 <;> simp only [c1, c2, c3, not_true_eq_false, not_false_eq_true, if_true, if_false]) (0, 0, 0) n (by omega) rfl
  simp only [F_X0_surely, chk_true, bnd_some, ob_some, oc_some, oc_none, hl_eq, jn_eq, ix_0, ix_1, if_true, if_false, inb0_2, inb1_2, not_true_eq_false, not_false_eq_true, ite_true, ite_false, true_or, or_true, or_self, zero_eq_one_I, one_eq_zero_I, gk, and_self, f0, ha, lo_if ha' he]
  exact key
theorem m_sureL {n : Nat} {K : Nat → Nat} {m : Nat} {h : AH} {S : St} (hn : 20000 < n) (M : MA m h S) {v p k e b : Nat} (hv : v < S.nv) (hp : p < S.np) (hk : k < S.np) (hb : S.V v 1 = nI b) (hb' : b < 100) (he : e < 6) (x0 : Nat) (t : N3) (okt : okN t) (kk : Int32 → Int32 → Int32 → AH → Option (Int32 × AH)) : F_X3_sure_L64 n K (nI x0) m (nI v) (nI p) (nI k) (nI e) n (nI (lowN b e)) (bI (decide (t.2.1 + t.2.2 = 0))) (bI (decide (t.2.2 = t.1))) (bI (decide (t.2.1 = t.1))) h kk = kk (bI (decide ((rowT S v p k e b x0 t).2.1 + (rowT S v p k e b x0 t).2.2 = 0))) (bI (decide ((rowT S v p k e b x0 t).2.2 = (rowT S v p k e b x0 t).1))) (bI (decide ((rowT S v p k e b x0 t).2.1 = (rowT S v p k e b x0 t).1))) h := by
  obtain ⟨g0, g1, g2, g3, g4, g5⟩ := M.2.1.2.2 v hv
  have h15 := mnv hn M
  have h20 := mnp hn M
  obtain ⟨p2, p3⟩ := M.2.2.1.2.2 p hp
  obtain ⟨k2, k3⟩ := M.2.2.1.2.2 k hk
  have v1 : ix (nI v) = v := ix_nI (by omega)
  have v2 : inb (nI v) 15 = True := eq_true ((inb_nI (by omega)).2 (by omega))
  have i1 : ix (nI p) = p := ix_nI (by omega)
  have i2 : inb (nI p) 20 = True := eq_true ((inb_nI (by omega)).2 (by omega))
  have i3 : ix (nI k) = k := ix_nI (by omega)
  have i4 : inb (nI k) 20 = True := eq_true ((inb_nI (by omega)).2 (by omega))
  have c12 := cntN_le hb' he
  exact loopUO (fun f i (s : N3) => F_X3_sure_L64 n K (nI x0) m (nI v) (nI p) (nI k) (nI e) f i (bI (decide (s.2.1 + s.2.2 = 0))) (bI (decide (s.2.2 = s.1))) (bI (decide (s.2.1 = s.1))) h kk) (lowN b e) (cntN b e) (fun j s => okN s ∧ s = foldS (fun j t => dbG (dfS S v p k x0 (lowN b e + j)) t) t j) (fun o => o = kk (bI (decide ((rowT S v p k e b x0 t).2.1 + (rowT S v p k e b x0 t).2.2 = 0))) (bI (decide ((rowT S v p k e b x0 t).2.2 = (rowT S v p k e b x0 t).1))) (bI (decide ((rowT S v p k e b x0 t).2.1 = (rowT S v p k e b x0 t).1))) h)
    (by
      intro f j s hj hs
      right
      refine ⟨dbG (dfS S v p k x0 (lowN b e + j)) s, ⟨ok_dbG hs.1, by rw [foldS, ← hs.2]⟩, ?_⟩
      have e1 := cnt_hi (k := j) hb' he (by omega)
      have e2 : (cntN b e ≤ j) = False := eq_false (by omega)
      have oks := hs.1
      obtain ⟨c, bb, aa⟩ := s
      unfold okN at oks
      have oks' : bb + aa ≤ c := oks
      simp only [F_X3_sure_L64, chk_true, bnd_some, ob_some, oc_some, oc_none, hl_eq, jn_eq, ix_0, ix_1, if_true, if_false, inb0_2, inb1_2, not_true_eq_false, not_false_eq_true, ite_true, ite_false, true_or, or_true, or_self, zero_eq_one_I, one_eq_zero_I, ms_k0, ms_k1, ms_n1, ms_k2, ms_n2, ms_k3, ms_n3, ms_k4, ms_n4, ms_k5, ms_n5, ms_k6, ms_n6, ms_k7, ms_n7, ms_k8, ms_n8, ms_k9, ms_n9, ms_k10, ms_n10, ms_k11, ms_n11, ms_k12, ms_n12, ms_k13, ms_n13, ms_k14, ms_n14, ms_k15, ms_n15, ms_k16, ms_n16, ms_k17, ms_n17, ms_k18, ms_n18, ms_k19, ms_n19, ms_k20, ms_n20, ms_k21, ms_n21, ms_k22, ms_n22, ms_k23, ms_n23, ms_k24, ms_n24, ms_k25, ms_n25, ms_k26, ms_n26, ms_k27, ms_n27, ms_k28, ms_n28, ms_k29, ms_n29, ms_k30, ms_n30, ms_k31, ms_n31, ms_k32, ms_n32, ms_k33, ms_n33, ms_k34, ms_n34, ms_k35, ms_n35, ms_k36, ms_n36, ms_k37, ms_n37, ms_k38, ms_n38, ms_k39, ms_n39, ms_k40, ms_n40, ms_k41, ms_n41, ms_k50, ms_n50, ms_k51, ms_n51, ms_k52, ms_n52, ms_k53, ms_n53, ms_r0_0, ms_r0_6, ms_r2_0, ms_r2_1, ms_r0_7, ms_r5_0, ms_r5_1, ms_r0_8, ms_r8_0, ms_r8_1, ms_r0_9, ms_r11_0, ms_r11_1, ms_r0_10, ms_r14_0, ms_r14_1, ms_r0_11, ms_r17_0, ms_r17_1, ms_r0_12, ms_r20_0, ms_r20_1, ms_r0_13, ms_r23_0, ms_r23_1, ms_r0_14, ms_r0_15, ms_r0_16, ms_r0_17, ms_r0_18, ms_r0_23, ms_r0_24, ms_r0_25, ms_r0_26, ms_r0_30, ms_r0_31, ms_r0_32, ms_r0_35, ms_r0_36, ms_r0_39, ms_r0_40, ms_r0_41, ms_r0_42, ms_r0_43, ms_r0_47, M.1, v1, v2, i1, i2, i3, i4, g1, hb, hi_if hb' he, e1, e2, p2, p3, k2, k3, m_wayFrom M.1 M.2.1 hv, nI_1, i_le, dbG, Nat.add_assoc, bI_0]
      rw [show wayS (S.V v 3) (S.V v 4) (S.V v 5) (nI x0) (nI (lowN b e + j)) (S.P p 0) (S.P p 1) - wayS (S.V v 3) (S.V v 4) (S.V v 5) (nI x0) (nI (lowN b e + j)) (S.P k 0) (S.P k 1) = dfS S v p k x0 (lowN b e + j) from rfl]
      generalize dfS S v p k x0 (lowN b e + j) = d
      have r1 : decide (bb = c + 1) = false := decide_eq_false (by omega)
      have r2 : decide (aa = c + 1) = false := decide_eq_false (by omega)
      have r3 : decide (bb + 1 = c + 1) = decide (bb = c) := by
        by_cases q : bb = c <;> simp [q]
      have r4 : decide (aa + 1 = c + 1) = decide (aa = c) := by
        by_cases q : aa = c <;> simp [q]
      have r5 : decide (bb + (1 + aa) = 0) = false := decide_eq_false (by omega)
      have r6 : decide (bb + (aa + 1) = 0) = false := decide_eq_false (by omega)
      have tf : (true = false) = False := eq_false (by decide)
      have ff : (false = false) = True := eq_true rfl
      by_cases c1 : d < 0
      · have c2 : ¬ 0 < d := by
          intro z
          rw [Int32.lt_iff_toInt_lt] at c1 z
          omega
        have c3 : ¬ d = 0 := by intro z; rw [z] at c1; exact absurd c1 (by decide)
        rcases Bool.eq_false_or_eq_true (decide (bb + aa = 0)) with A | A <;> rcases Bool.eq_false_or_eq_true (decide (aa = c)) with O | O <;> rcases Bool.eq_false_or_eq_true (decide (bb = c)) with B | B <;> simp only [A, O, B, c1, c2, c3, tf, ff, not_true_eq_false, not_false_eq_true, if_true, if_false, ite_true, ite_false, Nat.add_zero, Nat.zero_add, r1, r2, r3, r4, r5, r6, bI, Bool.false_eq_true]
      · by_cases c2 : 0 < d
        · have c3 : ¬ d = 0 := by intro z; rw [z] at c2; exact absurd c2 (by decide)
          rcases Bool.eq_false_or_eq_true (decide (bb + aa = 0)) with A | A <;> rcases Bool.eq_false_or_eq_true (decide (aa = c)) with O | O <;> rcases Bool.eq_false_or_eq_true (decide (bb = c)) with B | B <;> simp only [A, O, B, c1, c2, c3, tf, ff, not_true_eq_false, not_false_eq_true, if_true, if_false, ite_true, ite_false, Nat.add_zero, Nat.zero_add, r1, r2, r3, r4, r5, r6, bI, Bool.false_eq_true]
        · have c3 : (d = 0) = True := eq_true (i0_lt c1 c2)
          rcases Bool.eq_false_or_eq_true (decide (bb + aa = 0)) with A | A <;> rcases Bool.eq_false_or_eq_true (decide (aa = c)) with O | O <;> rcases Bool.eq_false_or_eq_true (decide (bb = c)) with B | B <;> simp only [A, O, B, c1, c2, c3, tf, ff, not_true_eq_false, not_false_eq_true, if_true, if_false, ite_true, ite_false, Nat.add_zero, Nat.zero_add, r1, r2, r3, r4, r5, r6, bI, Bool.false_eq_true])
    (by
      intro f s hs
      have e1 := cnt_hi (k := cntN b e) hb' he (by omega)
      have e2 : (cntN b e ≤ cntN b e) = True := eq_true (Nat.le_refl _)
      simp only [F_X3_sure_L64, chk_true, bnd_some, ob_some, oc_some, oc_none, hl_eq, jn_eq, ix_0, ix_1, if_true, if_false, inb0_2, inb1_2, not_true_eq_false, not_false_eq_true, ite_true, ite_false, true_or, or_true, or_self, zero_eq_one_I, one_eq_zero_I, ms_k0, ms_k1, ms_n1, ms_k2, ms_n2, ms_k3, ms_n3, ms_k4, ms_n4, ms_k5, ms_n5, ms_k6, ms_n6, ms_k7, ms_n7, ms_k8, ms_n8, ms_k9, ms_n9, ms_k10, ms_n10, ms_k11, ms_n11, ms_k12, ms_n12, ms_k13, ms_n13, ms_k14, ms_n14, ms_k15, ms_n15, ms_k16, ms_n16, ms_k17, ms_n17, ms_k18, ms_n18, ms_k19, ms_n19, ms_k20, ms_n20, ms_k21, ms_n21, ms_k22, ms_n22, ms_k23, ms_n23, ms_k24, ms_n24, ms_k25, ms_n25, ms_k26, ms_n26, ms_k27, ms_n27, ms_k28, ms_n28, ms_k29, ms_n29, ms_k30, ms_n30, ms_k31, ms_n31, ms_k32, ms_n32, ms_k33, ms_n33, ms_k34, ms_n34, ms_k35, ms_n35, ms_k36, ms_n36, ms_k37, ms_n37, ms_k38, ms_n38, ms_k39, ms_n39, ms_k40, ms_n40, ms_k41, ms_n41, ms_k50, ms_n50, ms_k51, ms_n51, ms_k52, ms_n52, ms_k53, ms_n53, ms_r0_0, ms_r0_6, ms_r2_0, ms_r2_1, ms_r0_7, ms_r5_0, ms_r5_1, ms_r0_8, ms_r8_0, ms_r8_1, ms_r0_9, ms_r11_0, ms_r11_1, ms_r0_10, ms_r14_0, ms_r14_1, ms_r0_11, ms_r17_0, ms_r17_1, ms_r0_12, ms_r20_0, ms_r20_1, ms_r0_13, ms_r23_0, ms_r23_1, ms_r0_14, ms_r0_15, ms_r0_16, ms_r0_17, ms_r0_18, ms_r0_23, ms_r0_24, ms_r0_25, ms_r0_26, ms_r0_30, ms_r0_31, ms_r0_32, ms_r0_35, ms_r0_36, ms_r0_39, ms_r0_40, ms_r0_41, ms_r0_42, ms_r0_43, ms_r0_47, M.1, v1, v2, g1, hb, hi_if hb' he, e1, e2]
      rw [hs.2]
      rfl) t n (by omega) ⟨okt, rfl⟩
theorem m_sure {n : Nat} {K : Nat → Nat} {m : Nat} {h : AH} {S : St} (hn : 20000 < n) (M : MA m h S) {v p k e a b : Nat} (hv : v < S.nv) (hp : p < S.np) (hk : k < S.np) (ha : S.V v 0 = nI a) (ha' : a < 100) (hb : S.V v 1 = nI b) (hb' : b < 100) (he : e < 6) : F_X3_sure n K m (nI v) (nI p) (nI k) (nI e) h = some (sureM (boxT S v p k e a b), h) := by
  obtain ⟨g0, g1, g2, g3, g4, g5⟩ := M.2.1.2.2 v hv
  have h15 := mnv hn M
  have v1 : ix (nI v) = v := ix_nI (by omega)
  have v2 : inb (nI v) 15 = True := eq_true ((inb_nI (by omega)).2 (by omega))
  have c12 := cntN_le ha' he
  have key := loopUO (fun f i (s : N3) => F_X3_sure_L26 n K m (nI v) (nI p) (nI k) (nI e) f i (bI (decide (s.2.1 + s.2.2 = 0))) (bI (decide (s.2.2 = s.1))) (bI (decide (s.2.1 = s.1))) h) (lowN a e) (cntN a e) (fun i s => okN s ∧ s = foldS (fun i t => rowT S v p k e b (lowN a e + i) t) (0, 0, 0) i) (fun o => o = some (sureM (boxT S v p k e a b), h))
    (by
      intro f i s hi hs
      right
      refine ⟨rowT S v p k e b (lowN a e + i) s, ⟨ok_row hs.1, by rw [foldS, ← hs.2]⟩, ?_⟩
      have e1 := cnt_hi (k := i) ha' he (by omega)
      have e2 : (cntN a e ≤ i) = False := eq_false (by omega)
      simp only [F_X3_sure_L26, chk_true, bnd_some, ob_some, oc_some, oc_none, hl_eq, jn_eq, ix_0, ix_1, if_true, if_false, inb0_2, inb1_2, not_true_eq_false, not_false_eq_true, ite_true, ite_false, true_or, or_true, or_self, zero_eq_one_I, one_eq_zero_I, ms_k0, ms_k1, ms_n1, ms_k2, ms_n2, ms_k3, ms_n3, ms_k4, ms_n4, ms_k5, ms_n5, ms_k6, ms_n6, ms_k7, ms_n7, ms_k8, ms_n8, ms_k9, ms_n9, ms_k10, ms_n10, ms_k11, ms_n11, ms_k12, ms_n12, ms_k13, ms_n13, ms_k14, ms_n14, ms_k15, ms_n15, ms_k16, ms_n16, ms_k17, ms_n17, ms_k18, ms_n18, ms_k19, ms_n19, ms_k20, ms_n20, ms_k21, ms_n21, ms_k22, ms_n22, ms_k23, ms_n23, ms_k24, ms_n24, ms_k25, ms_n25, ms_k26, ms_n26, ms_k27, ms_n27, ms_k28, ms_n28, ms_k29, ms_n29, ms_k30, ms_n30, ms_k31, ms_n31, ms_k32, ms_n32, ms_k33, ms_n33, ms_k34, ms_n34, ms_k35, ms_n35, ms_k36, ms_n36, ms_k37, ms_n37, ms_k38, ms_n38, ms_k39, ms_n39, ms_k40, ms_n40, ms_k41, ms_n41, ms_k50, ms_n50, ms_k51, ms_n51, ms_k52, ms_n52, ms_k53, ms_n53, ms_r0_0, ms_r0_6, ms_r2_0, ms_r2_1, ms_r0_7, ms_r5_0, ms_r5_1, ms_r0_8, ms_r8_0, ms_r8_1, ms_r0_9, ms_r11_0, ms_r11_1, ms_r0_10, ms_r14_0, ms_r14_1, ms_r0_11, ms_r17_0, ms_r17_1, ms_r0_12, ms_r20_0, ms_r20_1, ms_r0_13, ms_r23_0, ms_r23_1, ms_r0_14, ms_r0_15, ms_r0_16, ms_r0_17, ms_r0_18, ms_r0_23, ms_r0_24, ms_r0_25, ms_r0_26, ms_r0_30, ms_r0_31, ms_r0_32, ms_r0_35, ms_r0_36, ms_r0_39, ms_r0_40, ms_r0_41, ms_r0_42, ms_r0_43, ms_r0_47, M.1, v1, v2, g0, g1, ha, hb, hi_if ha' he, lo_if hb' he, e1, e2, m_sureL hn M hv hp hk hb hb' he _ s hs.1, nI_1, Nat.add_assoc])
    (by
      intro f s hs
      have e1 := cnt_hi (k := cntN a e) ha' he (by omega)
      have e2 : (cntN a e ≤ cntN a e) = True := eq_true (Nat.le_refl _)
      have hs' : s = boxT S v p k e a b := hs.2
      rw [← hs']
      obtain ⟨c, bb, aa⟩ := s
      simp only [F_X3_sure_L26, chk_true, bnd_some, ob_some, oc_some, oc_none, hl_eq, jn_eq, ix_0, ix_1, if_true, if_false, inb0_2, inb1_2, not_true_eq_false, not_false_eq_true, ite_true, ite_false, true_or, or_true, or_self, zero_eq_one_I, one_eq_zero_I, ms_k0, ms_k1, ms_n1, ms_k2, ms_n2, ms_k3, ms_n3, ms_k4, ms_n4, ms_k5, ms_n5, ms_k6, ms_n6, ms_k7, ms_n7, ms_k8, ms_n8, ms_k9, ms_n9, ms_k10, ms_n10, ms_k11, ms_n11, ms_k12, ms_n12, ms_k13, ms_n13, ms_k14, ms_n14, ms_k15, ms_n15, ms_k16, ms_n16, ms_k17, ms_n17, ms_k18, ms_n18, ms_k19, ms_n19, ms_k20, ms_n20, ms_k21, ms_n21, ms_k22, ms_n22, ms_k23, ms_n23, ms_k24, ms_n24, ms_k25, ms_n25, ms_k26, ms_n26, ms_k27, ms_n27, ms_k28, ms_n28, ms_k29, ms_n29, ms_k30, ms_n30, ms_k31, ms_n31, ms_k32, ms_n32, ms_k33, ms_n33, ms_k34, ms_n34, ms_k35, ms_n35, ms_k36, ms_n36, ms_k37, ms_n37, ms_k38, ms_n38, ms_k39, ms_n39, ms_k40, ms_n40, ms_k41, ms_n41, ms_k50, ms_n50, ms_k51, ms_n51, ms_k52, ms_n52, ms_k53, ms_n53, ms_r0_0, ms_r0_6, ms_r2_0, ms_r2_1, ms_r0_7, ms_r5_0, ms_r5_1, ms_r0_8, ms_r8_0, ms_r8_1, ms_r0_9, ms_r11_0, ms_r11_1, ms_r0_10, ms_r14_0, ms_r14_1, ms_r0_11, ms_r17_0, ms_r17_1, ms_r0_12, ms_r20_0, ms_r20_1, ms_r0_13, ms_r23_0, ms_r23_1, ms_r0_14, ms_r0_15, ms_r0_16, ms_r0_17, ms_r0_18, ms_r0_23, ms_r0_24, ms_r0_25, ms_r0_26, ms_r0_30, ms_r0_31, ms_r0_32, ms_r0_35, ms_r0_36, ms_r0_39, ms_r0_40, ms_r0_41, ms_r0_42, ms_r0_43, ms_r0_47, M.1, v1, v2, g0, ha, hi_if ha' he, e1, e2, bI_0, sureM, decide_eq_false_iff_not, Nat.add_comm bb aa]
      by_cases c1 : bb = c
      · simp only [c1, not_true_eq_false, not_false_eq_true, if_true, if_false]
      · by_cases c2 : aa = c
        · simp only [c1, c2, not_true_eq_false, not_false_eq_true, if_true, if_false]
        · by_cases c3 : aa + bb = 0 <;> simp only [c1, c2, c3, not_true_eq_false, not_false_eq_true, if_true, if_false]) (0, 0, 0) n (by omega) ⟨Nat.le_refl _, rfl⟩
  simp only [F_X3_sure, chk_true, bnd_some, ob_some, oc_some, oc_none, hl_eq, jn_eq, ix_0, ix_1, if_true, if_false, inb0_2, inb1_2, not_true_eq_false, not_false_eq_true, ite_true, ite_false, true_or, or_true, or_self, zero_eq_one_I, one_eq_zero_I, ms_k0, ms_k1, ms_n1, ms_k2, ms_n2, ms_k3, ms_n3, ms_k4, ms_n4, ms_k5, ms_n5, ms_k6, ms_n6, ms_k7, ms_n7, ms_k8, ms_n8, ms_k9, ms_n9, ms_k10, ms_n10, ms_k11, ms_n11, ms_k12, ms_n12, ms_k13, ms_n13, ms_k14, ms_n14, ms_k15, ms_n15, ms_k16, ms_n16, ms_k17, ms_n17, ms_k18, ms_n18, ms_k19, ms_n19, ms_k20, ms_n20, ms_k21, ms_n21, ms_k22, ms_n22, ms_k23, ms_n23, ms_k24, ms_n24, ms_k25, ms_n25, ms_k26, ms_n26, ms_k27, ms_n27, ms_k28, ms_n28, ms_k29, ms_n29, ms_k30, ms_n30, ms_k31, ms_n31, ms_k32, ms_n32, ms_k33, ms_n33, ms_k34, ms_n34, ms_k35, ms_n35, ms_k36, ms_n36, ms_k37, ms_n37, ms_k38, ms_n38, ms_k39, ms_n39, ms_k40, ms_n40, ms_k41, ms_n41, ms_k50, ms_n50, ms_k51, ms_n51, ms_k52, ms_n52, ms_k53, ms_n53, ms_r0_0, ms_r0_6, ms_r2_0, ms_r2_1, ms_r0_7, ms_r5_0, ms_r5_1, ms_r0_8, ms_r8_0, ms_r8_1, ms_r0_9, ms_r11_0, ms_r11_1, ms_r0_10, ms_r14_0, ms_r14_1, ms_r0_11, ms_r17_0, ms_r17_1, ms_r0_12, ms_r20_0, ms_r20_1, ms_r0_13, ms_r23_0, ms_r23_1, ms_r0_14, ms_r0_15, ms_r0_16, ms_r0_17, ms_r0_18, ms_r0_23, ms_r0_24, ms_r0_25, ms_r0_26, ms_r0_30, ms_r0_31, ms_r0_32, ms_r0_35, ms_r0_36, ms_r0_39, ms_r0_40, ms_r0_41, ms_r0_42, ms_r0_43, ms_r0_47, M.1, v1, v2, g0, ha, lo_if ha' he]
  exact key
