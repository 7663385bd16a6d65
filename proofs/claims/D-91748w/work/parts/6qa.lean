/-! PURE PART QA: led, best -/
set_option maxRecDepth 100000
/-- what stands in steps: none, or a number with one before it -/
def GoodSt (S : St) (st : Nat → Int32) : Prop := ∀ k, st k = -1 ∨ ∃ d, d < 1000 ∧ st k = nI d ∧ (d = 0 ∨ ∃ i, i < S.np ∧ st i = nI (d - 1) ∧ abS S i k = true)
theorem good_stepK {S : St} {nn k : Nat} {st : Nat → Int32} (hnn : nn + 1 < 1000) (G : GoodSt S st) : GoodSt S (stepK S nn k st) := by
  unfold stepK
  by_cases hs : st k = -1
  · rw [if_pos hs]
    by_cases ha : anyS (hitS S nn k st) S.np = true
    · rw [if_pos ha]
      have old : ∀ i d, d < 1000 → st i = nI d → up1 st k (nI (nn + 1)) i = nI d := by
        intro i d hd hi
        unfold up1
        by_cases c : i = k
        · subst c
          have : (nI d = -1) = False := nI_m1 (by omega)
          rw [hs] at hi; rw [← hi] at this; simp at this
        · rw [if_neg c]; exact hi
      intro j
      by_cases c : j = k
      · subst c
        right
        obtain ⟨i, hi, hh⟩ := anyS_iff.1 ha
        unfold hitS at hh
        rw [Bool.and_eq_true, decide_eq_true_iff] at hh
        exact ⟨nn + 1, hnn, if_pos rfl, Or.inr ⟨i, hi, old i _ (by omega) hh.1, hh.2⟩⟩
      · have ej : up1 st k (nI (nn + 1)) j = st j := if_neg c
        rw [ej]
        rcases G j with h1 | ⟨d, h1, h2, h3⟩
        · exact Or.inl h1
        · refine Or.inr ⟨d, h1, h2, ?_⟩
          rcases h3 with h3 | ⟨i, h4, h5, h6⟩
          · exact Or.inl h3
          · exact Or.inr ⟨i, h4, old i _ (by omega) h5, h6⟩
    · rw [if_neg ha]; exact G
  · rw [if_neg hs]; exact G
theorem fold_inv {σ : Type} {g : Nat → σ → σ} {s : σ} {Q : σ → Prop} : ∀ {N : Nat}, Q s → (∀ k a, k < N → Q a → Q (g k a)) → Q (foldS g s N) := by
  intro N
  induction N with
  | zero => intro h _; exact h
  | succ N ih => intro h hg; exact hg N _ (by omega) (ih h (fun k a hk => hg k a (by omega)))
theorem good_steps {S : St} (h20 : S.np ≤ 20) (t : Nat) : GoodSt S (stepsS S t) := by
  unfold stepsS
  refine fold_inv ?_ ?_
  · intro k
    unfold st0
    by_cases c : k = t
    · exact Or.inr ⟨0, by omega, by rw [if_pos c]; rfl, Or.inl rfl⟩
    · exact Or.inl (if_neg c)
  · intro nn a hnn Ga
    exact fold_inv Ga (fun k b _ Gb => good_stepK (by omega) Gb)
def nxP (S : St) (st : Nat → Int32) (a i : Nat) : Bool := decide (st i = st a - 1) && abS S i a
def nxS (S : St) (st : Nat → Int32) (a : Nat) : Nat := (findS (nxP S st a) S.np 0).getD 0
def wkS (S : St) (st : Nat → Int32) (a : Nat) : Nat → Nat
  | 0 => a
  | c + 1 => nxS S st (wkS S st a c)
theorem nx_ok {S : St} {st : Nat → Int32} (G : GoodSt S st) {a d : Nat} (hd : d + 1 < 1000) (ha : st a = nI (d + 1)) : nxS S st a < S.np ∧ nxP S st a (nxS S st a) = true ∧ (∀ i, i < nxS S st a → nxP S st a i = false) ∧ st (nxS S st a) = nI d := by
  rcases G a with h1 | ⟨e, h1, h2, h3⟩
  · rw [h1] at ha
    have : (nI (d + 1) = -1) = False := nI_m1 (by omega)
    rw [← ha] at this; simp at this
  · rw [ha] at h2
    have := (nI_eq (by omega) (by omega)).1 h2
    subst this
    rcases h3 with h3 | ⟨i, h4, h5, h6⟩
    · omega
    · have hp : nxP S st a i = true := by
        unfold nxP
        rw [Bool.and_eq_true, decide_eq_true_iff, ha, nI_pred]
        exact ⟨h5, h6⟩
      unfold nxS
      cases hf : findS (nxP S st a) S.np 0 with
      | none =>
        have := findS_none hf i (by omega) (by omega)
        rw [hp] at this; cases this
      | some j =>
        obtain ⟨_, g2, g3, g4⟩ := findS_some hf
        refine ⟨by simpa using g2, g3, fun i hi => g4 i (by omega) hi, ?_⟩
        unfold nxP at g3
        rw [Bool.and_eq_true, decide_eq_true_iff, ha, nI_pred] at g3
        exact g3.1
theorem wk_ok {S : St} {st : Nat → Int32} (G : GoodSt S st) {a d : Nat} (hd : d < 1000) (hal : a < S.np) (ha : st a = nI d) : ∀ c, c ≤ d → wkS S st a c < S.np ∧ st (wkS S st a c) = nI (d - c) := by
  intro c
  induction c with
  | zero => intro _; exact ⟨hal, ha⟩
  | succ c ih =>
    intro hc
    obtain ⟨h1, h2⟩ := ih (by omega)
    obtain ⟨e, he⟩ : ∃ e, d - c = e + 1 := ⟨d - c - 1, by omega⟩
    rw [he] at h2
    obtain ⟨g1, _, _, g4⟩ := nx_ok G (by omega) h2
    refine ⟨g1, ?_⟩
    show st (nxS S st (wkS S st a c)) = _
    rw [g4]
    congr 1
    omega
theorem x_L76 {n : Nat} {K : Nat → Nat} {x : Nat} {h : AH} {ev ep b : Nat} {Ev Ep : Nat → Nat} {S : St} (hn : 20000 < n) (X : XA K x h ev Ev ep Ep b S) {st : Nat → Int32} (G : GoodSt S st) {a d : Nat} (hd : d + 1 < 1000) (hal : a < S.np) (ha : st a = nI (d + 1)) (y1 y2 : Int32) (kk : Int32 → AH → Option (Int32 × AH)) : F_X0_led_L76 n K y1 (nI a) x y2 n 0 (h.ovI (x + 17) 20 st) kk = kk (nI (nxS S st a)) (h.ovI (x + 17) 20 st) := by
  have h20 := xnp hn X
  have X' := XA_ov X (xk17 X.1) 20 st
  obtain ⟨g1, g2, g3, g4⟩ := nx_ok G hd ha
  have e1 : ix (nI a) = a := ix_nI (by omega)
  have e2 : inb (nI a) 20 = True := eq_true ((inb_nI (by omega)).2 (by omega))
  exact loopE (fun f i => F_X0_led_L76 n K y1 (nI a) x y2 f i (h.ovI (x + 17) 20 st) kk) (nxP S st a) (fun i => kk (nI i) (h.ovI (x + 17) 20 st)) (nxS S st a) g2 g3
    (by
      intro f i hi
      have hi' : i < S.np := by omega
      have e4 : ix (nI i) = i := ix_nI (by omega)
      have e5 : inb (nI i) 20 = True := eq_true ((inb_nI (by omega)).2 (by omega))
      simp only [F_X0_led_L76, chk_true, bnd_some, ob_some, oc_some, oc_none, hl_eq, jn_eq, ix_0, ix_1, if_true, if_false, inb0_2, inb1_2, not_true_eq_false, not_false_eq_true, ite_true, ite_false, true_or, or_true, or_self, zero_eq_one_I, one_eq_zero_I, AH.kind_ovI, AH.len_ovI, AH.R_ovI, AH.L_ovI, AH.n_ovI, AH.sl_ovI, XSh_ov, MSh_ov, xs_k0, xs_k1, xs_n1, xs_k2, xs_k3, xs_k4, xs_k5, xs_k6, xs_k7, xs_k8, xs_k9, xs_k10, xs_k11, xs_n11, xs_k12, xs_n12, xs_k13, xs_n13, xs_k14, xs_n14, xs_k15, xs_n15, xs_k16, xs_n16, xs_k17, xs_n17, xs_k18, xs_n18, xs_k27, xs_n27, xs_k28, xs_n28, xs_r0_0, xs_r0_1, xs_r2_8, xs_r2_9, xs_r0_2, xs_r0_3, xs_r0_4, xs_r0_8, xs_r0_9, xs_r0_10, xs_r0_18, xs_r0_19, xs_r0_20, xs_r0_21, xs_r0_22, xs_r0_25, xs_r0_26, xs_r0_27, xs_r0_28, X.1, e1, e2, e4, e5, I_ov_eq (show i < 20 by omega), I_ov_eq (show a < 20 by omega), x_pget hn X' hi', x_pget hn X' hal, x_pkind hn X hi', x_pkind hn X hal, x_above hn X' hi' hal, nI_1, bI_0, nxP]
      by_cases c : st i = st a - 1
      · rcases Bool.eq_false_or_eq_true (abS S i a) with hb | hb <;> simp [c, hb]
      · simp [c]) (nxS S st a) 0 n (by omega) (by omega)
theorem m_L80 {n : Nat} {K : Nat → Nat} {m : Nat} {h : AH} {S : St} (hn : 20000 < n) (M : MA m h S) {st : Nat → Int32} (G : GoodSt S st) {a d : Nat} (hd : d + 1 < 1000) (hal : a < S.np) (ha : st a = nI (d + 1)) (y1 y2 : Int32) (kk : Int32 → AH → Option (Int32 × AH)) : F_X3_led_L80 n K y1 (nI a) m y2 n 0 (h.ovI (m + 40) 20 st) kk = kk (nI (nxS S st a)) (h.ovI (m + 40) 20 st) := by
  have h20 := mnp hn M
  have M' := MA_ov M (mk40 m) 20 st
  obtain ⟨g1, g2, g3, g4⟩ := nx_ok G hd ha
  have e1 : ix (nI a) = a := ix_nI (by omega)
  have e2 : inb (nI a) 20 = True := eq_true ((inb_nI (by omega)).2 (by omega))
  exact loopE (fun f i => F_X3_led_L80 n K y1 (nI a) m y2 f i (h.ovI (m + 40) 20 st) kk) (nxP S st a) (fun i => kk (nI i) (h.ovI (m + 40) 20 st)) (nxS S st a) g2 g3
    (by
      intro f i hi
      have hi' : i < S.np := by omega
      have e4 : ix (nI i) = i := ix_nI (by omega)
      have e5 : inb (nI i) 20 = True := eq_true ((inb_nI (by omega)).2 (by omega))
      simp only [F_X3_led_L80, chk_true, bnd_some, ob_some, oc_some, oc_none, hl_eq, jn_eq, ix_0, ix_1, if_true, if_false, inb0_2, inb1_2, not_true_eq_false, not_false_eq_true, ite_true, ite_false, true_or, or_true, or_self, zero_eq_one_I, one_eq_zero_I, AH.kind_ovI, AH.len_ovI, AH.R_ovI, AH.L_ovI, AH.n_ovI, AH.sl_ovI, XSh_ov, MSh_ov, ms_k0, ms_k1, ms_n1, ms_k2, ms_n2, ms_k3, ms_n3, ms_k4, ms_n4, ms_k5, ms_n5, ms_k6, ms_n6, ms_k7, ms_n7, ms_k8, ms_n8, ms_k9, ms_n9, ms_k10, ms_n10, ms_k11, ms_n11, ms_k12, ms_n12, ms_k13, ms_n13, ms_k14, ms_n14, ms_k15, ms_n15, ms_k16, ms_n16, ms_k17, ms_n17, ms_k18, ms_n18, ms_k19, ms_n19, ms_k20, ms_n20, ms_k21, ms_n21, ms_k22, ms_n22, ms_k23, ms_n23, ms_k24, ms_n24, ms_k25, ms_n25, ms_k26, ms_n26, ms_k27, ms_n27, ms_k28, ms_n28, ms_k29, ms_n29, ms_k30, ms_n30, ms_k31, ms_n31, ms_k32, ms_n32, ms_k33, ms_n33, ms_k34, ms_n34, ms_k35, ms_n35, ms_k36, ms_n36, ms_k37, ms_n37, ms_k38, ms_n38, ms_k39, ms_n39, ms_k40, ms_n40, ms_k41, ms_n41, ms_k50, ms_n50, ms_k51, ms_n51, ms_k52, ms_n52, ms_k53, ms_n53, ms_r0_0, ms_r0_6, ms_r2_0, ms_r2_1, ms_r0_7, ms_r5_0, ms_r5_1, ms_r0_8, ms_r8_0, ms_r8_1, ms_r0_9, ms_r11_0, ms_r11_1, ms_r0_10, ms_r14_0, ms_r14_1, ms_r0_11, ms_r17_0, ms_r17_1, ms_r0_12, ms_r20_0, ms_r20_1, ms_r0_13, ms_r23_0, ms_r23_1, ms_r0_14, ms_r0_15, ms_r0_16, ms_r0_17, ms_r0_18, ms_r0_23, ms_r0_24, ms_r0_25, ms_r0_26, ms_r0_30, ms_r0_31, ms_r0_32, ms_r0_35, ms_r0_36, ms_r0_39, ms_r0_40, ms_r0_41, ms_r0_42, ms_r0_43, ms_r0_47, M.1, e1, e2, e4, e5, I_ov_eq (show i < 20 by omega), I_ov_eq (show a < 20 by omega), m_beatsOf hn M' hi' hal, nI_1, bI_0, nxP]
      by_cases c : st i = st a - 1
      · rcases Bool.eq_false_or_eq_true (abS S i a) with hb | hb <;> simp [c, hb]
      · simp [c]) (nxS S st a) 0 n (by omega) (by omega)
theorem x_L67 {n : Nat} {K : Nat → Nat} {x : Nat} {h : AH} {ev ep b : Nat} {Ev Ep : Nat → Nat} {S : St} (hn : 20000 < n) (X : XA K x h ev Ev ep Ep b S) {st : Nat → Int32} (G : GoodSt S st) {a d q : Nat} (hd : d < 1000) (hal : a < S.np) (ha : st a = nI d) (hq : q ≤ d) : F_X0_led_L67 n K x (nI q) n 0 (nI a) (h.ovI (x + 17) 20 st) = some (nI (wkS S st a q), h.ovI (x + 17) 20 st) := by
  have key := loopU (fun f i s => F_X0_led_L67 n K x (nI q) f i (nI s) (h.ovI (x + 17) 20 st)) q (fun c s => s = wkS S st a c) (fun o => o = some (nI (wkS S st a q), h.ovI (x + 17) 20 st))
    (by
      intro f c s hc hs
      right
      refine ⟨_, rfl, ?_⟩
      rw [hs]
      obtain ⟨w1, w2⟩ := wk_ok G hd hal ha c (by omega)
      obtain ⟨e, he⟩ : ∃ e, d - c = e + 1 := ⟨d - c - 1, by omega⟩
      rw [he] at w2
      have e3 : (nI q ≤ nI c) = False := eq_false (nI_ge hc (by omega))
      simp only [F_X0_led_L67, chk_true, bnd_some, ob_some, oc_some, oc_none, hl_eq, jn_eq, ix_0, ix_1, if_true, if_false, inb0_2, inb1_2, not_true_eq_false, not_false_eq_true, ite_true, ite_false, true_or, or_true, or_self, zero_eq_one_I, one_eq_zero_I, e3, x_L76 hn X G (by omega) w1 w2, nI_1, wkS])
    (by
      intro f s hs
      rw [hs]
      have e3 : (nI q ≤ nI q) = True := eq_true (nI_le (Nat.le_refl _) (by omega))
      simp only [F_X0_led_L67, chk_true, bnd_some, ob_some, oc_some, oc_none, hl_eq, jn_eq, ix_0, ix_1, if_true, if_false, inb0_2, inb1_2, not_true_eq_false, not_false_eq_true, ite_true, ite_false, true_or, or_true, or_self, zero_eq_one_I, one_eq_zero_I, e3])
  exact key q 0 a n (by omega) (by omega) rfl
theorem m_L71 {n : Nat} {K : Nat → Nat} {m : Nat} {h : AH} {S : St} (hn : 20000 < n) (M : MA m h S) {st : Nat → Int32} (G : GoodSt S st) {a d q : Nat} (hd : d < 1000) (hal : a < S.np) (ha : st a = nI d) (hq : q ≤ d) : F_X3_led_L71 n K m (nI q) n 0 (nI a) (h.ovI (m + 40) 20 st) = some (nI (wkS S st a q), h.ovI (m + 40) 20 st) := by
  have key := loopU (fun f i s => F_X3_led_L71 n K m (nI q) f i (nI s) (h.ovI (m + 40) 20 st)) q (fun c s => s = wkS S st a c) (fun o => o = some (nI (wkS S st a q), h.ovI (m + 40) 20 st))
    (by
      intro f c s hc hs
      right
      refine ⟨_, rfl, ?_⟩
      rw [hs]
      obtain ⟨w1, w2⟩ := wk_ok G hd hal ha c (by omega)
      obtain ⟨e, he⟩ : ∃ e, d - c = e + 1 := ⟨d - c - 1, by omega⟩
      rw [he] at w2
      have e3 : (nI q ≤ nI c) = False := eq_false (nI_ge hc (by omega))
      simp only [F_X3_led_L71, chk_true, bnd_some, ob_some, oc_some, oc_none, hl_eq, jn_eq, ix_0, ix_1, if_true, if_false, inb0_2, inb1_2, not_true_eq_false, not_false_eq_true, ite_true, ite_false, true_or, or_true, or_self, zero_eq_one_I, one_eq_zero_I, e3, m_L80 hn M G (by omega) w1 w2, nI_1, wkS])
    (by
      intro f s hs
      rw [hs]
      have e3 : (nI q ≤ nI q) = True := eq_true (nI_le (Nat.le_refl _) (by omega))
      simp only [F_X3_led_L71, chk_true, bnd_some, ob_some, oc_some, oc_none, hl_eq, jn_eq, ix_0, ix_1, if_true, if_false, inb0_2, inb1_2, not_true_eq_false, not_false_eq_true, ite_true, ite_false, true_or, or_true, or_self, zero_eq_one_I, one_eq_zero_I, e3])
  exact key q 0 a n (by omega) (by omega) rfl
/-- an index up to a number -/
theorem inS_le {d : Nat} (hd : d < 1000000) {q : Int32} : inS q 0 (nI d) = true ↔ ∃ k, k ≤ d ∧ q = nI k := by
  unfold inS
  constructor
  · intro hh
    simp only [Bool.and_eq_true, Bool.not_eq_true', decide_eq_false_iff_not] at hh
    obtain ⟨k, hk, rfl⟩ := nI_of hh.1
    refine ⟨k, ?_, rfl⟩
    have := hh.2
    rw [nI_ltI (by omega) hk] at this
    omega
  · rintro ⟨k, hk, rfl⟩
    simp only [Bool.and_eq_true, Bool.not_eq_true', decide_eq_false_iff_not]
    refine ⟨nI_pos (by omega), ?_⟩
    rw [nI_ltI (by omega) (by omega)]
    omega
def ledS (S : St) (p t q : Int32) : Int32 := if inS p 0 (nI S.np - 1) = true then (if inS t 0 (nI S.np - 1) = true then (if stepsS S (ix t) (ix p) = -1 then -1 else if q = -1 then stepsS S (ix t) (ix p) else if inS q 0 (stepsS S (ix t) (ix p)) = true then nI (wkS S (stepsS S (ix t)) (ix p) (ix q)) else -1) else -1) else -1
theorem x_led {n : Nat} {K : Nat → Nat} {x : Nat} {h : AH} {ev ep b : Nat} {Ev Ep : Nat → Nat} {S : St} (hn : 20000 < n) (X : XA K x h ev Ev ep Ep b S) (p t q : Int32) : ∃ st, F_X0_led n K x p t q h = some (ledS S p t q, h.ovI (x + 17) 20 st) := by
  have h20 := xnp hn X
  by_cases hp : inS p 0 (nI S.np - 1) = true
  · obtain ⟨i, hi, rfl⟩ := (inS_nI (by omega)).1 hp
    have e1 : ix (nI i) = i := ix_nI (by omega)
    have e5 : inb (nI i) 20 = True := eq_true ((inb_nI (by omega)).2 (by omega))
    by_cases ht : inS t 0 (nI S.np - 1) = true
    · obtain ⟨j, hj, rfl⟩ := (inS_nI (by omega)).1 ht
      have e2 : ix (nI j) = j := ix_nI (by omega)
      refine ⟨stepsS S j, ?_⟩
      simp only [F_X0_led, ledS, chk_true, bnd_some, ob_some, oc_some, oc_none, hl_eq, jn_eq, ix_0, ix_1, if_true, if_false, inb0_2, inb1_2, not_true_eq_false, not_false_eq_true, ite_true, ite_false, true_or, or_true, or_self, zero_eq_one_I, one_eq_zero_I, AH.kind_ovI, AH.len_ovI, AH.R_ovI, AH.L_ovI, AH.n_ovI, AH.sl_ovI, XSh_ov, MSh_ov, xs_k0, xs_k1, xs_n1, xs_k2, xs_k3, xs_k4, xs_k5, xs_k6, xs_k7, xs_k8, xs_k9, xs_k10, xs_k11, xs_n11, xs_k12, xs_n12, xs_k13, xs_n13, xs_k14, xs_n14, xs_k15, xs_n15, xs_k16, xs_n16, xs_k17, xs_n17, xs_k18, xs_n18, xs_k27, xs_n27, xs_k28, xs_n28, xs_r0_0, xs_r0_1, xs_r2_8, xs_r2_9, xs_r0_2, xs_r0_3, xs_r0_4, xs_r0_8, xs_r0_9, xs_r0_10, xs_r0_18, xs_r0_19, xs_r0_20, xs_r0_21, xs_r0_22, xs_r0_25, xs_r0_26, xs_r0_27, xs_r0_28, X.1, x_placeAt X.1 X.2.2.1 hi, x_placeAt X.1 X.2.2.1 hj, hp, ht, e1, e2, e5, x_findSteps hn X hj, I_ov_eq (show i < 20 by omega), x_in]
      rcases good_steps h20 j i with h1 | ⟨d, h1, h2, _⟩
      · simp [h1]
      · have em : (nI d = -1) = False := nI_m1 (by omega)
        simp only [h2, em, chk_true, bnd_some, ob_some, oc_some, oc_none, hl_eq, jn_eq, ix_0, ix_1, if_true, if_false, inb0_2, inb1_2, not_true_eq_false, not_false_eq_true, ite_true, ite_false, true_or, or_true, or_self, zero_eq_one_I, one_eq_zero_I, bI_0]
        by_cases cq : q = -1
        · simp only [cq, chk_true, bnd_some, ob_some, oc_some, oc_none, hl_eq, jn_eq, ix_0, ix_1, if_true, if_false, inb0_2, inb1_2, not_true_eq_false, not_false_eq_true, ite_true, ite_false, true_or, or_true, or_self, zero_eq_one_I, one_eq_zero_I]
        · simp only [cq, chk_true, bnd_some, ob_some, oc_some, oc_none, hl_eq, jn_eq, ix_0, ix_1, if_true, if_false, inb0_2, inb1_2, not_true_eq_false, not_false_eq_true, ite_true, ite_false, true_or, or_true, or_self, zero_eq_one_I, one_eq_zero_I]
          by_cases c : inS q 0 (nI d) = true
          · obtain ⟨k, hk, rfl⟩ := (inS_le (by omega)).1 c
            have e6 : ix (nI k) = k := ix_nI (by omega)
            simp only [c, Bool.true_eq_false, chk_true, bnd_some, ob_some, oc_some, oc_none, hl_eq, jn_eq, ix_0, ix_1, if_true, if_false, inb0_2, inb1_2, not_true_eq_false, not_false_eq_true, ite_true, ite_false, true_or, or_true, or_self, zero_eq_one_I, one_eq_zero_I, e6, x_L67 hn X (good_steps h20 j) h1 hi h2 hk]
          · have c' : inS q 0 (nI d) = false := by simpa using c
            simp only [c', chk_true, bnd_some, ob_some, oc_some, oc_none, hl_eq, jn_eq, ix_0, ix_1, if_true, if_false, inb0_2, inb1_2, not_true_eq_false, not_false_eq_true, ite_true, ite_false, true_or, or_true, or_self, zero_eq_one_I, one_eq_zero_I, Bool.false_eq_true]
    · have ht' : inS t 0 (nI S.np - 1) = false := by simpa using ht
      refine ⟨h.I (x + 17), ?_⟩
      simp only [F_X0_led, ledS, chk_true, bnd_some, ob_some, oc_some, oc_none, hl_eq, jn_eq, ix_0, ix_1, if_true, if_false, inb0_2, inb1_2, not_true_eq_false, not_false_eq_true, ite_true, ite_false, true_or, or_true, or_self, zero_eq_one_I, one_eq_zero_I, xs_k0, xs_k1, xs_n1, xs_k2, xs_k3, xs_k4, xs_k5, xs_k6, xs_k7, xs_k8, xs_k9, xs_k10, xs_k11, xs_n11, xs_k12, xs_n12, xs_k13, xs_n13, xs_k14, xs_n14, xs_k15, xs_n15, xs_k16, xs_n16, xs_k17, xs_n17, xs_k18, xs_n18, xs_k27, xs_n27, xs_k28, xs_n28, xs_r0_0, xs_r0_1, xs_r2_8, xs_r2_9, xs_r0_2, xs_r0_3, xs_r0_4, xs_r0_8, xs_r0_9, xs_r0_10, xs_r0_18, xs_r0_19, xs_r0_20, xs_r0_21, xs_r0_22, xs_r0_25, xs_r0_26, xs_r0_27, xs_r0_28, X.1, x_placeAt X.1 X.2.2.1 hi, x_placeAtN X.1 X.2.2.1 ht', hp, ht', Bool.false_eq_true, ov_self]
  · have hp' : inS p 0 (nI S.np - 1) = false := by simpa using hp
    refine ⟨h.I (x + 17), ?_⟩
    simp only [F_X0_led, ledS, chk_true, bnd_some, ob_some, oc_some, oc_none, hl_eq, jn_eq, ix_0, ix_1, if_true, if_false, inb0_2, inb1_2, not_true_eq_false, not_false_eq_true, ite_true, ite_false, true_or, or_true, or_self, zero_eq_one_I, one_eq_zero_I, xs_k0, xs_k1, xs_n1, xs_k2, xs_k3, xs_k4, xs_k5, xs_k6, xs_k7, xs_k8, xs_k9, xs_k10, xs_k11, xs_n11, xs_k12, xs_n12, xs_k13, xs_n13, xs_k14, xs_n14, xs_k15, xs_n15, xs_k16, xs_n16, xs_k17, xs_n17, xs_k18, xs_n18, xs_k27, xs_n27, xs_k28, xs_n28, xs_r0_0, xs_r0_1, xs_r2_8, xs_r2_9, xs_r0_2, xs_r0_3, xs_r0_4, xs_r0_8, xs_r0_9, xs_r0_10, xs_r0_18, xs_r0_19, xs_r0_20, xs_r0_21, xs_r0_22, xs_r0_25, xs_r0_26, xs_r0_27, xs_r0_28, X.1, x_placeAtN X.1 X.2.2.1 hp', hp', Bool.false_eq_true, ov_self]
theorem m_led {n : Nat} {K : Nat → Nat} {m : Nat} {h : AH} {S : St} (hn : 20000 < n) (M : MA m h S) (p t q : Int32) : ∃ st, F_X3_led n K m p t q h = some (ledS S p t q, h.ovI (m + 40) 20 st) := by
  have h20 := mnp hn M
  by_cases hp : inS p 0 (nI S.np - 1) = true
  · obtain ⟨i, hi, rfl⟩ := (inS_nI (by omega)).1 hp
    have e1 : ix (nI i) = i := ix_nI (by omega)
    have e5 : inb (nI i) 20 = True := eq_true ((inb_nI (by omega)).2 (by omega))
    by_cases ht : inS t 0 (nI S.np - 1) = true
    · obtain ⟨j, hj, rfl⟩ := (inS_nI (by omega)).1 ht
      have e2 : ix (nI j) = j := ix_nI (by omega)
      refine ⟨stepsS S j, ?_⟩
      simp only [F_X3_led, ledS, chk_true, bnd_some, ob_some, oc_some, oc_none, hl_eq, jn_eq, ix_0, ix_1, if_true, if_false, inb0_2, inb1_2, not_true_eq_false, not_false_eq_true, ite_true, ite_false, true_or, or_true, or_self, zero_eq_one_I, one_eq_zero_I, AH.kind_ovI, AH.len_ovI, AH.R_ovI, AH.L_ovI, AH.n_ovI, AH.sl_ovI, XSh_ov, MSh_ov, ms_k0, ms_k1, ms_n1, ms_k2, ms_n2, ms_k3, ms_n3, ms_k4, ms_n4, ms_k5, ms_n5, ms_k6, ms_n6, ms_k7, ms_n7, ms_k8, ms_n8, ms_k9, ms_n9, ms_k10, ms_n10, ms_k11, ms_n11, ms_k12, ms_n12, ms_k13, ms_n13, ms_k14, ms_n14, ms_k15, ms_n15, ms_k16, ms_n16, ms_k17, ms_n17, ms_k18, ms_n18, ms_k19, ms_n19, ms_k20, ms_n20, ms_k21, ms_n21, ms_k22, ms_n22, ms_k23, ms_n23, ms_k24, ms_n24, ms_k25, ms_n25, ms_k26, ms_n26, ms_k27, ms_n27, ms_k28, ms_n28, ms_k29, ms_n29, ms_k30, ms_n30, ms_k31, ms_n31, ms_k32, ms_n32, ms_k33, ms_n33, ms_k34, ms_n34, ms_k35, ms_n35, ms_k36, ms_n36, ms_k37, ms_n37, ms_k38, ms_n38, ms_k39, ms_n39, ms_k40, ms_n40, ms_k41, ms_n41, ms_k50, ms_n50, ms_k51, ms_n51, ms_k52, ms_n52, ms_k53, ms_n53, ms_r0_0, ms_r0_6, ms_r2_0, ms_r2_1, ms_r0_7, ms_r5_0, ms_r5_1, ms_r0_8, ms_r8_0, ms_r8_1, ms_r0_9, ms_r11_0, ms_r11_1, ms_r0_10, ms_r14_0, ms_r14_1, ms_r0_11, ms_r17_0, ms_r17_1, ms_r0_12, ms_r20_0, ms_r20_1, ms_r0_13, ms_r23_0, ms_r23_1, ms_r0_14, ms_r0_15, ms_r0_16, ms_r0_17, ms_r0_18, ms_r0_23, ms_r0_24, ms_r0_25, ms_r0_26, ms_r0_30, ms_r0_31, ms_r0_32, ms_r0_35, ms_r0_36, ms_r0_39, ms_r0_40, ms_r0_41, ms_r0_42, ms_r0_43, ms_r0_47, M.1, m_isPlace M.1 M.2.2.1, hp, ht, e1, e2, e5, m_leads hn M hj, I_ov_eq (show i < 20 by omega), m_in0, bI_0, Bool.true_eq_false]
      rcases good_steps h20 j i with h1 | ⟨d, h1, h2, _⟩
      · simp [h1]
      · have em : (nI d = -1) = False := nI_m1 (by omega)
        simp only [h2, em, chk_true, bnd_some, ob_some, oc_some, oc_none, hl_eq, jn_eq, ix_0, ix_1, if_true, if_false, inb0_2, inb1_2, not_true_eq_false, not_false_eq_true, ite_true, ite_false, true_or, or_true, or_self, zero_eq_one_I, one_eq_zero_I, bI_0]
        by_cases cq : q = -1
        · simp only [cq, chk_true, bnd_some, ob_some, oc_some, oc_none, hl_eq, jn_eq, ix_0, ix_1, if_true, if_false, inb0_2, inb1_2, not_true_eq_false, not_false_eq_true, ite_true, ite_false, true_or, or_true, or_self, zero_eq_one_I, one_eq_zero_I]
        · simp only [cq, chk_true, bnd_some, ob_some, oc_some, oc_none, hl_eq, jn_eq, ix_0, ix_1, if_true, if_false, inb0_2, inb1_2, not_true_eq_false, not_false_eq_true, ite_true, ite_false, true_or, or_true, or_self, zero_eq_one_I, one_eq_zero_I]
          by_cases c : inS q 0 (nI d) = true
          · obtain ⟨k, hk, rfl⟩ := (inS_le (by omega)).1 c
            have e6 : ix (nI k) = k := ix_nI (by omega)
            simp only [c, Bool.true_eq_false, chk_true, bnd_some, ob_some, oc_some, oc_none, hl_eq, jn_eq, ix_0, ix_1, if_true, if_false, inb0_2, inb1_2, not_true_eq_false, not_false_eq_true, ite_true, ite_false, true_or, or_true, or_self, zero_eq_one_I, one_eq_zero_I, e6, m_L71 hn M (good_steps h20 j) h1 hi h2 hk]
          · have c' : inS q 0 (nI d) = false := by simpa using c
            simp only [c', chk_true, bnd_some, ob_some, oc_some, oc_none, hl_eq, jn_eq, ix_0, ix_1, if_true, if_false, inb0_2, inb1_2, not_true_eq_false, not_false_eq_true, ite_true, ite_false, true_or, or_true, or_self, zero_eq_one_I, one_eq_zero_I, Bool.false_eq_true]
    · have ht' : inS t 0 (nI S.np - 1) = false := by simpa using ht
      refine ⟨h.I (m + 40), ?_⟩
      simp only [F_X3_led, ledS, chk_true, bnd_some, ob_some, oc_some, oc_none, hl_eq, jn_eq, ix_0, ix_1, if_true, if_false, inb0_2, inb1_2, not_true_eq_false, not_false_eq_true, ite_true, ite_false, true_or, or_true, or_self, zero_eq_one_I, one_eq_zero_I, ms_k0, ms_k1, ms_n1, ms_k2, ms_n2, ms_k3, ms_n3, ms_k4, ms_n4, ms_k5, ms_n5, ms_k6, ms_n6, ms_k7, ms_n7, ms_k8, ms_n8, ms_k9, ms_n9, ms_k10, ms_n10, ms_k11, ms_n11, ms_k12, ms_n12, ms_k13, ms_n13, ms_k14, ms_n14, ms_k15, ms_n15, ms_k16, ms_n16, ms_k17, ms_n17, ms_k18, ms_n18, ms_k19, ms_n19, ms_k20, ms_n20, ms_k21, ms_n21, ms_k22, ms_n22, ms_k23, ms_n23, ms_k24, ms_n24, ms_k25, ms_n25, ms_k26, ms_n26, ms_k27, ms_n27, ms_k28, ms_n28, ms_k29, ms_n29, ms_k30, ms_n30, ms_k31, ms_n31, ms_k32, ms_n32, ms_k33, ms_n33, ms_k34, ms_n34, ms_k35, ms_n35, ms_k36, ms_n36, ms_k37, ms_n37, ms_k38, ms_n38, ms_k39, ms_n39, ms_k40, ms_n40, ms_k41, ms_n41, ms_k50, ms_n50, ms_k51, ms_n51, ms_k52, ms_n52, ms_k53, ms_n53, ms_r0_0, ms_r0_6, ms_r2_0, ms_r2_1, ms_r0_7, ms_r5_0, ms_r5_1, ms_r0_8, ms_r8_0, ms_r8_1, ms_r0_9, ms_r11_0, ms_r11_1, ms_r0_10, ms_r14_0, ms_r14_1, ms_r0_11, ms_r17_0, ms_r17_1, ms_r0_12, ms_r20_0, ms_r20_1, ms_r0_13, ms_r23_0, ms_r23_1, ms_r0_14, ms_r0_15, ms_r0_16, ms_r0_17, ms_r0_18, ms_r0_23, ms_r0_24, ms_r0_25, ms_r0_26, ms_r0_30, ms_r0_31, ms_r0_32, ms_r0_35, ms_r0_36, ms_r0_39, ms_r0_40, ms_r0_41, ms_r0_42, ms_r0_43, ms_r0_47, M.1, m_isPlace M.1 M.2.2.1, hp, ht', bI_0, Bool.true_eq_false, Bool.false_eq_true, ov_self]
  · have hp' : inS p 0 (nI S.np - 1) = false := by simpa using hp
    refine ⟨h.I (m + 40), ?_⟩
    simp only [F_X3_led, ledS, chk_true, bnd_some, ob_some, oc_some, oc_none, hl_eq, jn_eq, ix_0, ix_1, if_true, if_false, inb0_2, inb1_2, not_true_eq_false, not_false_eq_true, ite_true, ite_false, true_or, or_true, or_self, zero_eq_one_I, one_eq_zero_I, ms_k0, ms_k1, ms_n1, ms_k2, ms_n2, ms_k3, ms_n3, ms_k4, ms_n4, ms_k5, ms_n5, ms_k6, ms_n6, ms_k7, ms_n7, ms_k8, ms_n8, ms_k9, ms_n9, ms_k10, ms_n10, ms_k11, ms_n11, ms_k12, ms_n12, ms_k13, ms_n13, ms_k14, ms_n14, ms_k15, ms_n15, ms_k16, ms_n16, ms_k17, ms_n17, ms_k18, ms_n18, ms_k19, ms_n19, ms_k20, ms_n20, ms_k21, ms_n21, ms_k22, ms_n22, ms_k23, ms_n23, ms_k24, ms_n24, ms_k25, ms_n25, ms_k26, ms_n26, ms_k27, ms_n27, ms_k28, ms_n28, ms_k29, ms_n29, ms_k30, ms_n30, ms_k31, ms_n31, ms_k32, ms_n32, ms_k33, ms_n33, ms_k34, ms_n34, ms_k35, ms_n35, ms_k36, ms_n36, ms_k37, ms_n37, ms_k38, ms_n38, ms_k39, ms_n39, ms_k40, ms_n40, ms_k41, ms_n41, ms_k50, ms_n50, ms_k51, ms_n51, ms_k52, ms_n52, ms_k53, ms_n53, ms_r0_0, ms_r0_6, ms_r2_0, ms_r2_1, ms_r0_7, ms_r5_0, ms_r5_1, ms_r0_8, ms_r8_0, ms_r8_1, ms_r0_9, ms_r11_0, ms_r11_1, ms_r0_10, ms_r14_0, ms_r14_1, ms_r0_11, ms_r17_0, ms_r17_1, ms_r0_12, ms_r20_0, ms_r20_1, ms_r0_13, ms_r23_0, ms_r23_1, ms_r0_14, ms_r0_15, ms_r0_16, ms_r0_17, ms_r0_18, ms_r0_23, ms_r0_24, ms_r0_25, ms_r0_26, ms_r0_30, ms_r0_31, ms_r0_32, ms_r0_35, ms_r0_36, ms_r0_39, ms_r0_40, ms_r0_41, ms_r0_42, ms_r0_43, ms_r0_47, M.1, m_isPlace M.1 M.2.2.1, hp', bI_0, Bool.false_eq_true, ov_self]
def reachS (S : St) (p : Nat) : Bool := (findS (fun k => decide (stepsS S p k = -1)) S.np 0).isNone
theorem x_reaches {n : Nat} {K : Nat → Nat} {x : Nat} {h : AH} {ev ep b : Nat} {Ev Ep : Nat → Nat} {S : St} (hn : 20000 < n) (X : XA K x h ev Ev ep Ep b S) {p : Nat} (hp : p < S.np) : F_X0_reaches n K x (nI p) h = some (bI (reachS S p), h.ovI (x + 17) 20 (stepsS S p)) := by
  have h20 := xnp hn X
  have X' := XA_ov X (xk17 X.1) 20 (stepsS S p)
  have key := loopG (fun f i => F_X0_reaches_L7 n K x f i (h.ovI (x + 17) 20 (stepsS S p))) S.np (fun k => decide (stepsS S p k = -1)) (fun _ => some (0, h.ovI (x + 17) 20 (stepsS S p))) (some (1, h.ovI (x + 17) 20 (stepsS S p)))
    (by
      intro f k hk
      have e1 : ix (nI k) = k := ix_nI (by omega)
      have e2 : inb (nI k) 20 = True := eq_true ((inb_nI (by omega)).2 (by omega))
      have e3 : (nI S.np ≤ nI k) = False := eq_false (nI_ge hk (by omega))
      simp only [F_X0_reaches_L7, chk_true, bnd_some, ob_some, oc_some, oc_none, hl_eq, jn_eq, ix_0, ix_1, if_true, if_false, inb0_2, inb1_2, not_true_eq_false, not_false_eq_true, ite_true, ite_false, true_or, or_true, or_self, zero_eq_one_I, one_eq_zero_I, AH.kind_ovI, AH.len_ovI, AH.R_ovI, AH.L_ovI, AH.n_ovI, AH.sl_ovI, XSh_ov, MSh_ov, xs_k0, xs_k1, xs_n1, xs_k2, xs_k3, xs_k4, xs_k5, xs_k6, xs_k7, xs_k8, xs_k9, xs_k10, xs_k11, xs_n11, xs_k12, xs_n12, xs_k13, xs_n13, xs_k14, xs_n14, xs_k15, xs_n15, xs_k16, xs_n16, xs_k17, xs_n17, xs_k18, xs_n18, xs_k27, xs_n27, xs_k28, xs_n28, xs_r0_0, xs_r0_1, xs_r2_8, xs_r2_9, xs_r0_2, xs_r0_3, xs_r0_4, xs_r0_8, xs_r0_9, xs_r0_10, xs_r0_18, xs_r0_19, xs_r0_20, xs_r0_21, xs_r0_22, xs_r0_25, xs_r0_26, xs_r0_27, xs_r0_28, X.1, x_psize hn X', e3, e1, e2, I_ov_eq (show k < 20 by omega), nI_1]
      by_cases c : stepsS S p k = -1 <;> simp [c])
    (by
      intro f
      have e3 : (nI S.np ≤ nI S.np) = True := eq_true (nI_le (Nat.le_refl _) (by omega))
      simp only [F_X0_reaches_L7, chk_true, bnd_some, ob_some, oc_some, oc_none, hl_eq, jn_eq, ix_0, ix_1, if_true, if_false, inb0_2, inb1_2, not_true_eq_false, not_false_eq_true, ite_true, ite_false, true_or, or_true, or_self, zero_eq_one_I, one_eq_zero_I, AH.kind_ovI, AH.len_ovI, AH.R_ovI, AH.L_ovI, AH.n_ovI, AH.sl_ovI, XSh_ov, MSh_ov, xs_k0, xs_k1, xs_n1, xs_k2, xs_k3, xs_k4, xs_k5, xs_k6, xs_k7, xs_k8, xs_k9, xs_k10, xs_k11, xs_n11, xs_k12, xs_n12, xs_k13, xs_n13, xs_k14, xs_n14, xs_k15, xs_n15, xs_k16, xs_n16, xs_k17, xs_n17, xs_k18, xs_n18, xs_k27, xs_n27, xs_k28, xs_n28, xs_r0_0, xs_r0_1, xs_r2_8, xs_r2_9, xs_r0_2, xs_r0_3, xs_r0_4, xs_r0_8, xs_r0_9, xs_r0_10, xs_r0_18, xs_r0_19, xs_r0_20, xs_r0_21, xs_r0_22, xs_r0_25, xs_r0_26, xs_r0_27, xs_r0_28, X.1, x_psize hn X', e3]) n (by omega)
  simp only [F_X0_reaches, chk_true, bnd_some, ob_some, oc_some, oc_none, hl_eq, jn_eq, ix_0, ix_1, if_true, if_false, inb0_2, inb1_2, not_true_eq_false, not_false_eq_true, ite_true, ite_false, true_or, or_true, or_self, zero_eq_one_I, one_eq_zero_I, xs_k0, xs_k1, xs_n1, xs_k2, xs_k3, xs_k4, xs_k5, xs_k6, xs_k7, xs_k8, xs_k9, xs_k10, xs_k11, xs_n11, xs_k12, xs_n12, xs_k13, xs_n13, xs_k14, xs_n14, xs_k15, xs_n15, xs_k16, xs_n16, xs_k17, xs_n17, xs_k18, xs_n18, xs_k27, xs_n27, xs_k28, xs_n28, xs_r0_0, xs_r0_1, xs_r2_8, xs_r2_9, xs_r0_2, xs_r0_3, xs_r0_4, xs_r0_8, xs_r0_9, xs_r0_10, xs_r0_18, xs_r0_19, xs_r0_20, xs_r0_21, xs_r0_22, xs_r0_25, xs_r0_26, xs_r0_27, xs_r0_28, X.1, x_findSteps hn X hp]
  refine key.trans ?_
  unfold reachS
  cases findS (fun k => decide (stepsS S p k = -1)) S.np 0 <;> rfl
theorem m_isReached {n : Nat} {K : Nat → Nat} {m : Nat} {h : AH} {S : St} (hn : 20000 < n) (M : MA m h S) {p : Nat} (hp : p < S.np) : F_X3_isReached n K m (nI p) h = some (bI (reachS S p), h.ovI (m + 40) 20 (stepsS S p)) := by
  have h20 := mnp hn M
  have M' := MA_ov M (mk40 m) 20 (stepsS S p)
  have key := loopG (fun f i => F_X3_isReached_L7 n K m f i (h.ovI (m + 40) 20 (stepsS S p))) S.np (fun k => decide (stepsS S p k = -1)) (fun _ => some (0, h.ovI (m + 40) 20 (stepsS S p))) (some (1, h.ovI (m + 40) 20 (stepsS S p)))
    (by
      intro f k hk
      have e1 : ix (nI k) = k := ix_nI (by omega)
      have e2 : inb (nI k) 20 = True := eq_true ((inb_nI (by omega)).2 (by omega))
      have e3 : (nI S.np ≤ nI k) = False := eq_false (nI_ge hk (by omega))
      simp only [F_X3_isReached_L7, chk_true, bnd_some, ob_some, oc_some, oc_none, hl_eq, jn_eq, ix_0, ix_1, if_true, if_false, inb0_2, inb1_2, not_true_eq_false, not_false_eq_true, ite_true, ite_false, true_or, or_true, or_self, zero_eq_one_I, one_eq_zero_I, AH.kind_ovI, AH.len_ovI, AH.R_ovI, AH.L_ovI, AH.n_ovI, AH.sl_ovI, XSh_ov, MSh_ov, ms_k0, ms_k1, ms_n1, ms_k2, ms_n2, ms_k3, ms_n3, ms_k4, ms_n4, ms_k5, ms_n5, ms_k6, ms_n6, ms_k7, ms_n7, ms_k8, ms_n8, ms_k9, ms_n9, ms_k10, ms_n10, ms_k11, ms_n11, ms_k12, ms_n12, ms_k13, ms_n13, ms_k14, ms_n14, ms_k15, ms_n15, ms_k16, ms_n16, ms_k17, ms_n17, ms_k18, ms_n18, ms_k19, ms_n19, ms_k20, ms_n20, ms_k21, ms_n21, ms_k22, ms_n22, ms_k23, ms_n23, ms_k24, ms_n24, ms_k25, ms_n25, ms_k26, ms_n26, ms_k27, ms_n27, ms_k28, ms_n28, ms_k29, ms_n29, ms_k30, ms_n30, ms_k31, ms_n31, ms_k32, ms_n32, ms_k33, ms_n33, ms_k34, ms_n34, ms_k35, ms_n35, ms_k36, ms_n36, ms_k37, ms_n37, ms_k38, ms_n38, ms_k39, ms_n39, ms_k40, ms_n40, ms_k41, ms_n41, ms_k50, ms_n50, ms_k51, ms_n51, ms_k52, ms_n52, ms_k53, ms_n53, ms_r0_0, ms_r0_6, ms_r2_0, ms_r2_1, ms_r0_7, ms_r5_0, ms_r5_1, ms_r0_8, ms_r8_0, ms_r8_1, ms_r0_9, ms_r11_0, ms_r11_1, ms_r0_10, ms_r14_0, ms_r14_1, ms_r0_11, ms_r17_0, ms_r17_1, ms_r0_12, ms_r20_0, ms_r20_1, ms_r0_13, ms_r23_0, ms_r23_1, ms_r0_14, ms_r0_15, ms_r0_16, ms_r0_17, ms_r0_18, ms_r0_23, ms_r0_24, ms_r0_25, ms_r0_26, ms_r0_30, ms_r0_31, ms_r0_32, ms_r0_35, ms_r0_36, ms_r0_39, ms_r0_40, ms_r0_41, ms_r0_42, ms_r0_43, ms_r0_47, M.1, m_placesA hn M', e3, e1, e2, I_ov_eq (show k < 20 by omega), nI_1]
      by_cases c : stepsS S p k = -1 <;> simp [c])
    (by
      intro f
      have e3 : (nI S.np ≤ nI S.np) = True := eq_true (nI_le (Nat.le_refl _) (by omega))
      simp only [F_X3_isReached_L7, chk_true, bnd_some, ob_some, oc_some, oc_none, hl_eq, jn_eq, ix_0, ix_1, if_true, if_false, inb0_2, inb1_2, not_true_eq_false, not_false_eq_true, ite_true, ite_false, true_or, or_true, or_self, zero_eq_one_I, one_eq_zero_I, AH.kind_ovI, AH.len_ovI, AH.R_ovI, AH.L_ovI, AH.n_ovI, AH.sl_ovI, XSh_ov, MSh_ov, ms_k0, ms_k1, ms_n1, ms_k2, ms_n2, ms_k3, ms_n3, ms_k4, ms_n4, ms_k5, ms_n5, ms_k6, ms_n6, ms_k7, ms_n7, ms_k8, ms_n8, ms_k9, ms_n9, ms_k10, ms_n10, ms_k11, ms_n11, ms_k12, ms_n12, ms_k13, ms_n13, ms_k14, ms_n14, ms_k15, ms_n15, ms_k16, ms_n16, ms_k17, ms_n17, ms_k18, ms_n18, ms_k19, ms_n19, ms_k20, ms_n20, ms_k21, ms_n21, ms_k22, ms_n22, ms_k23, ms_n23, ms_k24, ms_n24, ms_k25, ms_n25, ms_k26, ms_n26, ms_k27, ms_n27, ms_k28, ms_n28, ms_k29, ms_n29, ms_k30, ms_n30, ms_k31, ms_n31, ms_k32, ms_n32, ms_k33, ms_n33, ms_k34, ms_n34, ms_k35, ms_n35, ms_k36, ms_n36, ms_k37, ms_n37, ms_k38, ms_n38, ms_k39, ms_n39, ms_k40, ms_n40, ms_k41, ms_n41, ms_k50, ms_n50, ms_k51, ms_n51, ms_k52, ms_n52, ms_k53, ms_n53, ms_r0_0, ms_r0_6, ms_r2_0, ms_r2_1, ms_r0_7, ms_r5_0, ms_r5_1, ms_r0_8, ms_r8_0, ms_r8_1, ms_r0_9, ms_r11_0, ms_r11_1, ms_r0_10, ms_r14_0, ms_r14_1, ms_r0_11, ms_r17_0, ms_r17_1, ms_r0_12, ms_r20_0, ms_r20_1, ms_r0_13, ms_r23_0, ms_r23_1, ms_r0_14, ms_r0_15, ms_r0_16, ms_r0_17, ms_r0_18, ms_r0_23, ms_r0_24, ms_r0_25, ms_r0_26, ms_r0_30, ms_r0_31, ms_r0_32, ms_r0_35, ms_r0_36, ms_r0_39, ms_r0_40, ms_r0_41, ms_r0_42, ms_r0_43, ms_r0_47, M.1, m_placesA hn M', e3]) n (by omega)
  simp only [F_X3_isReached, chk_true, bnd_some, ob_some, oc_some, oc_none, hl_eq, jn_eq, ix_0, ix_1, if_true, if_false, inb0_2, inb1_2, not_true_eq_false, not_false_eq_true, ite_true, ite_false, true_or, or_true, or_self, zero_eq_one_I, one_eq_zero_I, ms_k0, ms_k1, ms_n1, ms_k2, ms_n2, ms_k3, ms_n3, ms_k4, ms_n4, ms_k5, ms_n5, ms_k6, ms_n6, ms_k7, ms_n7, ms_k8, ms_n8, ms_k9, ms_n9, ms_k10, ms_n10, ms_k11, ms_n11, ms_k12, ms_n12, ms_k13, ms_n13, ms_k14, ms_n14, ms_k15, ms_n15, ms_k16, ms_n16, ms_k17, ms_n17, ms_k18, ms_n18, ms_k19, ms_n19, ms_k20, ms_n20, ms_k21, ms_n21, ms_k22, ms_n22, ms_k23, ms_n23, ms_k24, ms_n24, ms_k25, ms_n25, ms_k26, ms_n26, ms_k27, ms_n27, ms_k28, ms_n28, ms_k29, ms_n29, ms_k30, ms_n30, ms_k31, ms_n31, ms_k32, ms_n32, ms_k33, ms_n33, ms_k34, ms_n34, ms_k35, ms_n35, ms_k36, ms_n36, ms_k37, ms_n37, ms_k38, ms_n38, ms_k39, ms_n39, ms_k40, ms_n40, ms_k41, ms_n41, ms_k50, ms_n50, ms_k51, ms_n51, ms_k52, ms_n52, ms_k53, ms_n53, ms_r0_0, ms_r0_6, ms_r2_0, ms_r2_1, ms_r0_7, ms_r5_0, ms_r5_1, ms_r0_8, ms_r8_0, ms_r8_1, ms_r0_9, ms_r11_0, ms_r11_1, ms_r0_10, ms_r14_0, ms_r14_1, ms_r0_11, ms_r17_0, ms_r17_1, ms_r0_12, ms_r20_0, ms_r20_1, ms_r0_13, ms_r23_0, ms_r23_1, ms_r0_14, ms_r0_15, ms_r0_16, ms_r0_17, ms_r0_18, ms_r0_23, ms_r0_24, ms_r0_25, ms_r0_26, ms_r0_30, ms_r0_31, ms_r0_32, ms_r0_35, ms_r0_36, ms_r0_39, ms_r0_40, ms_r0_41, ms_r0_42, ms_r0_43, ms_r0_47, M.1, m_leads hn M hp]
  refine key.trans ?_
  unfold reachS
  cases findS (fun k => decide (stepsS S p k = -1)) S.np 0 <;> rfl
def bitS (S : St) (w : Int32) (k : Nat) : Int32 := if (if w = 0 then reachS S k else openS S k) = true then (1 : Int32) <<< (nI k &&& 31) else 0
def bestG (S : St) (w : Int32) (k : Nat) (s : Int32 × (Nat → Int32)) : Int32 × (Nat → Int32) := (s.1 ||| bitS S w k, if w = 0 then stepsS S k else s.2)
def bestFS (S : St) (w : Int32) : Nat → Int32
  | 0 => 0
  | k + 1 => bestFS S w k ||| bitS S w k
theorem bestG_1 (S : St) (w : Int32) (s : Nat → Int32) : ∀ N, (foldS (bestG S w) (0, s) N).1 = bestFS S w N := by
  intro N
  induction N with
  | zero => rfl
  | succ N ih => rw [foldS, bestFS, ← ih]; rfl
def bestAS (S : St) (w : Int32) : Int32 := if S.nv = 0 then -1 else if inS w 0 1 = true then bestFS S w S.np else -1
theorem x_best {n : Nat} {K : Nat → Nat} {x : Nat} {h : AH} {ev ep b : Nat} {Ev Ep : Nat → Nat} {S : St} (hn : 20000 < n) (X : XA K x h ev Ev ep Ep b S) (w : Int32) : ∃ st, F_X0_best n K x w h = some (bestAS S w, h.ovI (x + 17) 20 st) := by
  have h20 := xnp hn X
  have key := loopF (fun f i (s : Int32 × (Nat → Int32)) => F_X0_best_L25 n K x w f i s.1 (h.ovI (x + 17) 20 s.2)) S.np (bestG S w) (fun s => some (s.1, h.ovI (x + 17) 20 s.2)) (0, h.I (x + 17))
    (by
      intro f k s hk
      have X' := XA_ov X (xk17 X.1) 20 s.2
      have e3 : (nI S.np ≤ nI k) = False := eq_false (nI_ge hk (by omega))
      simp only [F_X0_best_L25, chk_true, bnd_some, ob_some, oc_some, oc_none, hl_eq, jn_eq, ix_0, ix_1, if_true, if_false, inb0_2, inb1_2, not_true_eq_false, not_false_eq_true, ite_true, ite_false, true_or, or_true, or_self, zero_eq_one_I, one_eq_zero_I, AH.kind_ovI, AH.len_ovI, AH.R_ovI, AH.L_ovI, AH.n_ovI, AH.sl_ovI, XSh_ov, MSh_ov, xs_k0, xs_k1, xs_n1, xs_k2, xs_k3, xs_k4, xs_k5, xs_k6, xs_k7, xs_k8, xs_k9, xs_k10, xs_k11, xs_n11, xs_k12, xs_n12, xs_k13, xs_n13, xs_k14, xs_n14, xs_k15, xs_n15, xs_k16, xs_n16, xs_k17, xs_n17, xs_k18, xs_n18, xs_k27, xs_n27, xs_k28, xs_n28, xs_r0_0, xs_r0_1, xs_r2_8, xs_r2_9, xs_r0_2, xs_r0_3, xs_r0_4, xs_r0_8, xs_r0_9, xs_r0_10, xs_r0_18, xs_r0_19, xs_r0_20, xs_r0_21, xs_r0_22, xs_r0_25, xs_r0_26, xs_r0_27, xs_r0_28, X.1, x_psize hn X', e3, nI_1, x_isOpen hn X' hk, x_reaches hn X' hk, ov_ov, bI_0, bestG, bitS]
      by_cases c : w = 0
      · rcases Bool.eq_false_or_eq_true (reachS S k) with hb | hb <;> simp [c, hb]
      · rcases Bool.eq_false_or_eq_true (openS S k) with hb | hb <;> simp [c, hb])
    (by
      intro f s
      have X' := XA_ov X (xk17 X.1) 20 s.2
      have e3 : (nI S.np ≤ nI S.np) = True := eq_true (nI_le (Nat.le_refl _) (by omega))
      simp only [F_X0_best_L25, chk_true, bnd_some, ob_some, oc_some, oc_none, hl_eq, jn_eq, ix_0, ix_1, if_true, if_false, inb0_2, inb1_2, not_true_eq_false, not_false_eq_true, ite_true, ite_false, true_or, or_true, or_self, zero_eq_one_I, one_eq_zero_I, AH.kind_ovI, AH.len_ovI, AH.R_ovI, AH.L_ovI, AH.n_ovI, AH.sl_ovI, XSh_ov, MSh_ov, xs_k0, xs_k1, xs_n1, xs_k2, xs_k3, xs_k4, xs_k5, xs_k6, xs_k7, xs_k8, xs_k9, xs_k10, xs_k11, xs_n11, xs_k12, xs_n12, xs_k13, xs_n13, xs_k14, xs_n14, xs_k15, xs_n15, xs_k16, xs_n16, xs_k17, xs_n17, xs_k18, xs_n18, xs_k27, xs_n27, xs_k28, xs_n28, xs_r0_0, xs_r0_1, xs_r2_8, xs_r2_9, xs_r0_2, xs_r0_3, xs_r0_4, xs_r0_8, xs_r0_9, xs_r0_10, xs_r0_18, xs_r0_19, xs_r0_20, xs_r0_21, xs_r0_22, xs_r0_25, xs_r0_26, xs_r0_27, xs_r0_28, X.1, x_psize hn X', e3]) n (by omega)
  simp only [ov_self, bestG_1] at key
  simp only [F_X0_best, bestAS, chk_true, bnd_some, ob_some, oc_some, oc_none, hl_eq, jn_eq, ix_0, ix_1, if_true, if_false, inb0_2, inb1_2, not_true_eq_false, not_false_eq_true, ite_true, ite_false, true_or, or_true, or_self, zero_eq_one_I, one_eq_zero_I, xs_k0, xs_k1, xs_n1, xs_k2, xs_k3, xs_k4, xs_k5, xs_k6, xs_k7, xs_k8, xs_k9, xs_k10, xs_k11, xs_n11, xs_k12, xs_n12, xs_k13, xs_n13, xs_k14, xs_n14, xs_k15, xs_n15, xs_k16, xs_n16, xs_k17, xs_n17, xs_k18, xs_n18, xs_k27, xs_n27, xs_k28, xs_n28, xs_r0_0, xs_r0_1, xs_r2_8, xs_r2_9, xs_r0_2, xs_r0_3, xs_r0_4, xs_r0_8, xs_r0_9, xs_r0_10, xs_r0_18, xs_r0_19, xs_r0_20, xs_r0_21, xs_r0_22, xs_r0_25, xs_r0_26, xs_r0_27, xs_r0_28, X.1, x_vempty hn X, bI_0, x_in]
  by_cases c : S.nv = 0
  · refine ⟨h.I (x + 17), ?_⟩
    simp [c, ov_self]
  · cases inS w 0 1
    · refine ⟨h.I (x + 17), ?_⟩
      simp [c, ov_self]
    · refine ⟨(foldS (bestG S w) (0, h.I (x + 17)) S.np).snd, ?_⟩
      simp only [c, decide_false, Bool.true_eq_false, chk_true, bnd_some, ob_some, oc_some, oc_none, hl_eq, jn_eq, ix_0, ix_1, if_true, if_false, inb0_2, inb1_2, not_true_eq_false, not_false_eq_true, ite_true, ite_false, true_or, or_true, or_self, zero_eq_one_I, one_eq_zero_I]
      exact key
theorem m_best {n : Nat} {K : Nat → Nat} {m : Nat} {h : AH} {S : St} (hn : 20000 < n) (M : MA m h S) (irr : ∀ i, abS S i i = false) (w : Int32) : ∃ st, F_X3_best n K m w h = some (bestAS S w, h.ovI (m + 40) 20 st) := by
  have h20 := mnp hn M
  have key := loopF (fun f i (s : Int32 × (Nat → Int32)) => F_X3_best_L23 n K m w f i s.1 (h.ovI (m + 40) 20 s.2)) S.np (bestG S w) (fun s => some (s.1, h.ovI (m + 40) 20 s.2)) (0, h.I (m + 40))
    (by
      intro f k s hk
      have M' := MA_ov M (mk40 m) 20 s.2
      have e3 : (nI S.np ≤ nI k) = False := eq_false (nI_ge hk (by omega))
      simp only [F_X3_best_L23, chk_true, bnd_some, ob_some, oc_some, oc_none, hl_eq, jn_eq, ix_0, ix_1, if_true, if_false, inb0_2, inb1_2, not_true_eq_false, not_false_eq_true, ite_true, ite_false, true_or, or_true, or_self, zero_eq_one_I, one_eq_zero_I, AH.kind_ovI, AH.len_ovI, AH.R_ovI, AH.L_ovI, AH.n_ovI, AH.sl_ovI, XSh_ov, MSh_ov, ms_k0, ms_k1, ms_n1, ms_k2, ms_n2, ms_k3, ms_n3, ms_k4, ms_n4, ms_k5, ms_n5, ms_k6, ms_n6, ms_k7, ms_n7, ms_k8, ms_n8, ms_k9, ms_n9, ms_k10, ms_n10, ms_k11, ms_n11, ms_k12, ms_n12, ms_k13, ms_n13, ms_k14, ms_n14, ms_k15, ms_n15, ms_k16, ms_n16, ms_k17, ms_n17, ms_k18, ms_n18, ms_k19, ms_n19, ms_k20, ms_n20, ms_k21, ms_n21, ms_k22, ms_n22, ms_k23, ms_n23, ms_k24, ms_n24, ms_k25, ms_n25, ms_k26, ms_n26, ms_k27, ms_n27, ms_k28, ms_n28, ms_k29, ms_n29, ms_k30, ms_n30, ms_k31, ms_n31, ms_k32, ms_n32, ms_k33, ms_n33, ms_k34, ms_n34, ms_k35, ms_n35, ms_k36, ms_n36, ms_k37, ms_n37, ms_k38, ms_n38, ms_k39, ms_n39, ms_k40, ms_n40, ms_k41, ms_n41, ms_k50, ms_n50, ms_k51, ms_n51, ms_k52, ms_n52, ms_k53, ms_n53, ms_r0_0, ms_r0_6, ms_r2_0, ms_r2_1, ms_r0_7, ms_r5_0, ms_r5_1, ms_r0_8, ms_r8_0, ms_r8_1, ms_r0_9, ms_r11_0, ms_r11_1, ms_r0_10, ms_r14_0, ms_r14_1, ms_r0_11, ms_r17_0, ms_r17_1, ms_r0_12, ms_r20_0, ms_r20_1, ms_r0_13, ms_r23_0, ms_r23_1, ms_r0_14, ms_r0_15, ms_r0_16, ms_r0_17, ms_r0_18, ms_r0_23, ms_r0_24, ms_r0_25, ms_r0_26, ms_r0_30, ms_r0_31, ms_r0_32, ms_r0_35, ms_r0_36, ms_r0_39, ms_r0_40, ms_r0_41, ms_r0_42, ms_r0_43, ms_r0_47, M.1, m_placesA hn M', e3, nI_1, m_isOpen hn M' irr hk, m_isReached hn M' hk, ov_ov, bI_0, bestG, bitS]
      by_cases c : w = 0
      · rcases Bool.eq_false_or_eq_true (reachS S k) with hb | hb <;> simp [c, hb]
      · rcases Bool.eq_false_or_eq_true (openS S k) with hb | hb <;> simp [c, hb])
    (by
      intro f s
      have M' := MA_ov M (mk40 m) 20 s.2
      have e3 : (nI S.np ≤ nI S.np) = True := eq_true (nI_le (Nat.le_refl _) (by omega))
      simp only [F_X3_best_L23, chk_true, bnd_some, ob_some, oc_some, oc_none, hl_eq, jn_eq, ix_0, ix_1, if_true, if_false, inb0_2, inb1_2, not_true_eq_false, not_false_eq_true, ite_true, ite_false, true_or, or_true, or_self, zero_eq_one_I, one_eq_zero_I, AH.kind_ovI, AH.len_ovI, AH.R_ovI, AH.L_ovI, AH.n_ovI, AH.sl_ovI, XSh_ov, MSh_ov, ms_k0, ms_k1, ms_n1, ms_k2, ms_n2, ms_k3, ms_n3, ms_k4, ms_n4, ms_k5, ms_n5, ms_k6, ms_n6, ms_k7, ms_n7, ms_k8, ms_n8, ms_k9, ms_n9, ms_k10, ms_n10, ms_k11, ms_n11, ms_k12, ms_n12, ms_k13, ms_n13, ms_k14, ms_n14, ms_k15, ms_n15, ms_k16, ms_n16, ms_k17, ms_n17, ms_k18, ms_n18, ms_k19, ms_n19, ms_k20, ms_n20, ms_k21, ms_n21, ms_k22, ms_n22, ms_k23, ms_n23, ms_k24, ms_n24, ms_k25, ms_n25, ms_k26, ms_n26, ms_k27, ms_n27, ms_k28, ms_n28, ms_k29, ms_n29, ms_k30, ms_n30, ms_k31, ms_n31, ms_k32, ms_n32, ms_k33, ms_n33, ms_k34, ms_n34, ms_k35, ms_n35, ms_k36, ms_n36, ms_k37, ms_n37, ms_k38, ms_n38, ms_k39, ms_n39, ms_k40, ms_n40, ms_k41, ms_n41, ms_k50, ms_n50, ms_k51, ms_n51, ms_k52, ms_n52, ms_k53, ms_n53, ms_r0_0, ms_r0_6, ms_r2_0, ms_r2_1, ms_r0_7, ms_r5_0, ms_r5_1, ms_r0_8, ms_r8_0, ms_r8_1, ms_r0_9, ms_r11_0, ms_r11_1, ms_r0_10, ms_r14_0, ms_r14_1, ms_r0_11, ms_r17_0, ms_r17_1, ms_r0_12, ms_r20_0, ms_r20_1, ms_r0_13, ms_r23_0, ms_r23_1, ms_r0_14, ms_r0_15, ms_r0_16, ms_r0_17, ms_r0_18, ms_r0_23, ms_r0_24, ms_r0_25, ms_r0_26, ms_r0_30, ms_r0_31, ms_r0_32, ms_r0_35, ms_r0_36, ms_r0_39, ms_r0_40, ms_r0_41, ms_r0_42, ms_r0_43, ms_r0_47, M.1, m_placesA hn M', e3]) n (by omega)
  simp only [ov_self, bestG_1] at key
  simp only [F_X3_best, bestAS, chk_true, bnd_some, ob_some, oc_some, oc_none, hl_eq, jn_eq, ix_0, ix_1, if_true, if_false, inb0_2, inb1_2, not_true_eq_false, not_false_eq_true, ite_true, ite_false, true_or, or_true, or_self, zero_eq_one_I, one_eq_zero_I, ms_k0, ms_k1, ms_n1, ms_k2, ms_n2, ms_k3, ms_n3, ms_k4, ms_n4, ms_k5, ms_n5, ms_k6, ms_n6, ms_k7, ms_n7, ms_k8, ms_n8, ms_k9, ms_n9, ms_k10, ms_n10, ms_k11, ms_n11, ms_k12, ms_n12, ms_k13, ms_n13, ms_k14, ms_n14, ms_k15, ms_n15, ms_k16, ms_n16, ms_k17, ms_n17, ms_k18, ms_n18, ms_k19, ms_n19, ms_k20, ms_n20, ms_k21, ms_n21, ms_k22, ms_n22, ms_k23, ms_n23, ms_k24, ms_n24, ms_k25, ms_n25, ms_k26, ms_n26, ms_k27, ms_n27, ms_k28, ms_n28, ms_k29, ms_n29, ms_k30, ms_n30, ms_k31, ms_n31, ms_k32, ms_n32, ms_k33, ms_n33, ms_k34, ms_n34, ms_k35, ms_n35, ms_k36, ms_n36, ms_k37, ms_n37, ms_k38, ms_n38, ms_k39, ms_n39, ms_k40, ms_n40, ms_k41, ms_n41, ms_k50, ms_n50, ms_k51, ms_n51, ms_k52, ms_n52, ms_k53, ms_n53, ms_r0_0, ms_r0_6, ms_r2_0, ms_r2_1, ms_r0_7, ms_r5_0, ms_r5_1, ms_r0_8, ms_r8_0, ms_r8_1, ms_r0_9, ms_r11_0, ms_r11_1, ms_r0_10, ms_r14_0, ms_r14_1, ms_r0_11, ms_r17_0, ms_r17_1, ms_r0_12, ms_r20_0, ms_r20_1, ms_r0_13, ms_r23_0, ms_r23_1, ms_r0_14, ms_r0_15, ms_r0_16, ms_r0_17, ms_r0_18, ms_r0_23, ms_r0_24, ms_r0_25, ms_r0_26, ms_r0_30, ms_r0_31, ms_r0_32, ms_r0_35, ms_r0_36, ms_r0_39, ms_r0_40, ms_r0_41, ms_r0_42, ms_r0_43, ms_r0_47, M.1, m_votersA hn M, m_nv0 hn M, bI_0, m_inC w 1 (C := 1) (by decide)]
  by_cases c : S.nv = 0
  · refine ⟨h.I (m + 40), ?_⟩
    simp [c, ov_self]
  · cases inS w 0 1
    · refine ⟨h.I (m + 40), ?_⟩
      simp [c, ov_self]
    · refine ⟨(foldS (bestG S w) (0, h.I (m + 40)) S.np).snd, ?_⟩
      simp only [c, Bool.true_eq_false, chk_true, bnd_some, ob_some, oc_some, oc_none, hl_eq, jn_eq, ix_0, ix_1, if_true, if_false, inb0_2, inb1_2, not_true_eq_false, not_false_eq_true, ite_true, ite_false, true_or, or_true, or_self, zero_eq_one_I, one_eq_zero_I]
      exact key
