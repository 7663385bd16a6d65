/-! PURE PART 9: from vote to vote -/
set_option maxRecDepth 100000
def hitS (S : St) (nn k : Nat) (st : Nat → Int32) (i : Nat) : Bool := decide (st i = nI nn) && abS S i k
def stepK (S : St) (nn k : Nat) (st : Nat → Int32) : Nat → Int32 := if st k = -1 then (if anyS (hitS S nn k st) S.np then up1 st k (nI (nn + 1)) else st) else st
def st0 (t : Nat) (j : Nat) : Int32 := if j = t then 0 else -1
def stepsS (S : St) (t : Nat) : Nat → Int32 := foldS (fun nn st => foldS (stepK S nn) st S.np) (st0 t) S.np
theorem nI_m1 {k : Nat} (h : k < 1000000) : (nI k = -1) = False := by
  refine eq_false ?_
  intro e
  have := nI_pos (n := k) (by omega)
  rw [e] at this
  exact this (by decide)
theorem xk17 {x : Nat} {h : AH} (H : XSh x h) : 12 ≤ h.kind (x + 17) := by rw [xs_k17 H]; decide
theorem x_L70stop {n : Nat} {K : Nat → Nat} {x : Nat} {h : AH} {ev ep b : Nat} {Ev Ep : Nat → Nat} {S : St} (hn : 20000 < n) (X : XA K x h ev Ev ep Ep b S) {st : Nat → Int32} {k i : Nat} (hk : k < S.np) (nn : Int32) (hs : st k ≠ -1) (hi : i ≤ S.np) (f : Nat) (kk : AH → Option (Unit × AH)) : F_X0_findSteps_L70 n K (nI k) nn x (f + 1) (nI i) (h.ovI (x + 17) 20 st) kk = kk (h.ovI (x + 17) 20 st) := by
  have h20 := xnp hn X
  have X' := XA_ov X (xk17 X.1) 20 st
  have e1 : ix (nI k) = k := ix_nI (by omega)
  have e2 : inb (nI k) 20 = True := eq_true ((inb_nI (by omega)).2 (by omega))
  by_cases c : i = S.np
  · subst c
    have e3 : (nI S.np ≤ nI S.np) = True := eq_true (nI_le (Nat.le_refl _) (by omega))
    simp only [F_X0_findSteps_L70, chk_true, bnd_some, ob_some, oc_some, oc_none, hl_eq, jn_eq, ix_0, ix_1, if_true, if_false, inb0_2, inb1_2, not_true_eq_false, not_false_eq_true, ite_true, ite_false, true_or, or_true, or_self, zero_eq_one_I, one_eq_zero_I, AH.kind_ovI, AH.len_ovI, AH.R_ovI, AH.L_ovI, AH.n_ovI, AH.sl_ovI, XSh_ov, MSh_ov, xs_k0, xs_k1, xs_n1, xs_k2, xs_k3, xs_k4, xs_k5, xs_k6, xs_k7, xs_k8, xs_k9, xs_k10, xs_k11, xs_n11, xs_k12, xs_n12, xs_k13, xs_n13, xs_k14, xs_n14, xs_k15, xs_n15, xs_k16, xs_n16, xs_k17, xs_n17, xs_k18, xs_n18, xs_k27, xs_n27, xs_k28, xs_n28, xs_r0_0, xs_r0_1, xs_r2_8, xs_r2_9, xs_r0_2, xs_r0_3, xs_r0_4, xs_r0_8, xs_r0_9, xs_r0_10, xs_r0_18, xs_r0_19, xs_r0_20, xs_r0_21, xs_r0_22, xs_r0_25, xs_r0_26, xs_r0_27, xs_r0_28, X.1, x_psize hn X', e3]
  · have e3 : (nI S.np ≤ nI i) = False := eq_false (nI_ge (by omega) (by omega))
    simp only [F_X0_findSteps_L70, chk_true, bnd_some, ob_some, oc_some, oc_none, hl_eq, jn_eq, ix_0, ix_1, if_true, if_false, inb0_2, inb1_2, not_true_eq_false, not_false_eq_true, ite_true, ite_false, true_or, or_true, or_self, zero_eq_one_I, one_eq_zero_I, AH.kind_ovI, AH.len_ovI, AH.R_ovI, AH.L_ovI, AH.n_ovI, AH.sl_ovI, XSh_ov, MSh_ov, xs_k0, xs_k1, xs_n1, xs_k2, xs_k3, xs_k4, xs_k5, xs_k6, xs_k7, xs_k8, xs_k9, xs_k10, xs_k11, xs_n11, xs_k12, xs_n12, xs_k13, xs_n13, xs_k14, xs_n14, xs_k15, xs_n15, xs_k16, xs_n16, xs_k17, xs_n17, xs_k18, xs_n18, xs_k27, xs_n27, xs_k28, xs_n28, xs_r0_0, xs_r0_1, xs_r2_8, xs_r2_9, xs_r0_2, xs_r0_3, xs_r0_4, xs_r0_8, xs_r0_9, xs_r0_10, xs_r0_18, xs_r0_19, xs_r0_20, xs_r0_21, xs_r0_22, xs_r0_25, xs_r0_26, xs_r0_27, xs_r0_28, X.1, x_psize hn X', e3, e1, e2, I_ov_eq (show k < 20 by omega), hs]
theorem x_L70 {n : Nat} {K : Nat → Nat} {x : Nat} {h : AH} {ev ep b : Nat} {Ev Ep : Nat → Nat} {S : St} (hn : 20000 < n) (X : XA K x h ev Ev ep Ep b S) {st : Nat → Int32} {nn k : Nat} (hk : k < S.np) (hnn : nn < 1000) (hs : st k = -1) (kk : AH → Option (Unit × AH)) : F_X0_findSteps_L70 n K (nI k) (nI nn) x n 0 (h.ovI (x + 17) 20 st) kk = kk (h.ovI (x + 17) 20 (stepK S nn k st)) := by
  have h20 := xnp hn X
  have X' := XA_ov X (xk17 X.1) 20 st
  have e1 : ix (nI k) = k := ix_nI (by omega)
  have e2 : inb (nI k) 20 = True := eq_true ((inb_nI (by omega)).2 (by omega))
  have key := loopG2 (fun f i => F_X0_findSteps_L70 n K (nI k) (nI nn) x f i (h.ovI (x + 17) 20 st) kk) S.np (hitS S nn k st) (fun _ => kk (h.ovI (x + 17) 20 (up1 st k (nI (nn + 1))))) (kk (h.ovI (x + 17) 20 st))
    (by
      intro f i hf hi
      obtain ⟨f', rfl⟩ : ∃ f', f = f' + 1 := ⟨f - 1, by omega⟩
      have e3 : (nI S.np ≤ nI i) = False := eq_false (nI_ge hi (by omega))
      have e4 : ix (nI i) = i := ix_nI (by omega)
      have e5 : inb (nI i) 20 = True := eq_true ((inb_nI (by omega)).2 (by omega))
      have hstop := x_L70stop hn X (st := up1 st k (nI (nn + 1))) hk (nI nn) (by simp [up1, nI_m1 (show nn + 1 < 1000000 by omega)]) (show i + 1 ≤ S.np by omega) f' kk
      rw [F_X0_findSteps_L70]
      simp only [chk_true, bnd_some, ob_some, oc_some, oc_none, hl_eq, jn_eq, ix_0, ix_1, if_true, if_false, inb0_2, inb1_2, not_true_eq_false, not_false_eq_true, ite_true, ite_false, true_or, or_true, or_self, zero_eq_one_I, one_eq_zero_I, AH.kind_ovI, AH.len_ovI, AH.R_ovI, AH.L_ovI, AH.n_ovI, AH.sl_ovI, XSh_ov, MSh_ov, xs_k0, xs_k1, xs_n1, xs_k2, xs_k3, xs_k4, xs_k5, xs_k6, xs_k7, xs_k8, xs_k9, xs_k10, xs_k11, xs_n11, xs_k12, xs_n12, xs_k13, xs_n13, xs_k14, xs_n14, xs_k15, xs_n15, xs_k16, xs_n16, xs_k17, xs_n17, xs_k18, xs_n18, xs_k27, xs_n27, xs_k28, xs_n28, xs_r0_0, xs_r0_1, xs_r2_8, xs_r2_9, xs_r0_2, xs_r0_3, xs_r0_4, xs_r0_8, xs_r0_9, xs_r0_10, xs_r0_18, xs_r0_19, xs_r0_20, xs_r0_21, xs_r0_22, xs_r0_25, xs_r0_26, xs_r0_27, xs_r0_28, X.1, x_psize hn X', e3, e1, e2, e4, e5, I_ov_eq (show k < 20 by omega), I_ov_eq (show i < 20 by omega), hs, x_pget hn X' hi, x_pget hn X' hk, x_pkind hn X hi, x_pkind hn X hk, x_above hn X' hi hk, nI_1, bI_0, ov_set (show k < 20 by omega), hstop, hitS]
      by_cases c : st i = nI nn
      · rcases Bool.eq_false_or_eq_true (abS S i k) with hb | hb <;> simp [c, hb]
      · simp [c])
    (by
      intro f
      have e3 : (nI S.np ≤ nI S.np) = True := eq_true (nI_le (Nat.le_refl _) (by omega))
      simp only [F_X0_findSteps_L70, chk_true, bnd_some, ob_some, oc_some, oc_none, hl_eq, jn_eq, ix_0, ix_1, if_true, if_false, inb0_2, inb1_2, not_true_eq_false, not_false_eq_true, ite_true, ite_false, true_or, or_true, or_self, zero_eq_one_I, one_eq_zero_I, AH.kind_ovI, AH.len_ovI, AH.R_ovI, AH.L_ovI, AH.n_ovI, AH.sl_ovI, XSh_ov, MSh_ov, xs_k0, xs_k1, xs_n1, xs_k2, xs_k3, xs_k4, xs_k5, xs_k6, xs_k7, xs_k8, xs_k9, xs_k10, xs_k11, xs_n11, xs_k12, xs_n12, xs_k13, xs_n13, xs_k14, xs_n14, xs_k15, xs_n15, xs_k16, xs_n16, xs_k17, xs_n17, xs_k18, xs_n18, xs_k27, xs_n27, xs_k28, xs_n28, xs_r0_0, xs_r0_1, xs_r2_8, xs_r2_9, xs_r0_2, xs_r0_3, xs_r0_4, xs_r0_8, xs_r0_9, xs_r0_10, xs_r0_18, xs_r0_19, xs_r0_20, xs_r0_21, xs_r0_22, xs_r0_25, xs_r0_26, xs_r0_27, xs_r0_28, X.1, x_psize hn X', e3]) n (by omega)
  refine key.trans ?_
  rw [stepK, if_pos hs, ← findS_any]
  cases findS (hitS S nn k st) S.np 0 <;> rfl
theorem x_L43 {n : Nat} {K : Nat → Nat} {x : Nat} {h : AH} {ev ep b : Nat} {Ev Ep : Nat → Nat} {S : St} (hn : 20000 < n) (X : XA K x h ev Ev ep Ep b S) {st : Nat → Int32} {nn : Nat} (hnn : nn < 1000) (kk : AH → Option (Unit × AH)) : F_X0_findSteps_L43 n K (nI nn) x n 0 (h.ovI (x + 17) 20 st) kk = kk (h.ovI (x + 17) 20 (foldS (stepK S nn) st S.np)) := by
  have h20 := xnp hn X
  exact loopF (fun f i st => F_X0_findSteps_L43 n K (nI nn) x f i (h.ovI (x + 17) 20 st) kk) S.np (stepK S nn) (fun st => kk (h.ovI (x + 17) 20 st)) st
    (by
      intro f k st hk
      have X' := XA_ov X (xk17 X.1) 20 st
      have e1 : ix (nI k) = k := ix_nI (by omega)
      have e2 : inb (nI k) 20 = True := eq_true ((inb_nI (by omega)).2 (by omega))
      have e3 : (nI S.np ≤ nI k) = False := eq_false (nI_ge hk (by omega))
      by_cases hs : st k = -1
      · simp only [F_X0_findSteps_L43, chk_true, bnd_some, ob_some, oc_some, oc_none, hl_eq, jn_eq, ix_0, ix_1, if_true, if_false, inb0_2, inb1_2, not_true_eq_false, not_false_eq_true, ite_true, ite_false, true_or, or_true, or_self, zero_eq_one_I, one_eq_zero_I, AH.kind_ovI, AH.len_ovI, AH.R_ovI, AH.L_ovI, AH.n_ovI, AH.sl_ovI, XSh_ov, MSh_ov, xs_k0, xs_k1, xs_n1, xs_k2, xs_k3, xs_k4, xs_k5, xs_k6, xs_k7, xs_k8, xs_k9, xs_k10, xs_k11, xs_n11, xs_k12, xs_n12, xs_k13, xs_n13, xs_k14, xs_n14, xs_k15, xs_n15, xs_k16, xs_n16, xs_k17, xs_n17, xs_k18, xs_n18, xs_k27, xs_n27, xs_k28, xs_n28, xs_r0_0, xs_r0_1, xs_r2_8, xs_r2_9, xs_r0_2, xs_r0_3, xs_r0_4, xs_r0_8, xs_r0_9, xs_r0_10, xs_r0_18, xs_r0_19, xs_r0_20, xs_r0_21, xs_r0_22, xs_r0_25, xs_r0_26, xs_r0_27, xs_r0_28, X.1, x_psize hn X', e3, e1, e2, I_ov_eq (show k < 20 by omega), hs, x_L70 hn X hk hnn hs, nI_1]
      · simp only [F_X0_findSteps_L43, chk_true, bnd_some, ob_some, oc_some, oc_none, hl_eq, jn_eq, ix_0, ix_1, if_true, if_false, inb0_2, inb1_2, not_true_eq_false, not_false_eq_true, ite_true, ite_false, true_or, or_true, or_self, zero_eq_one_I, one_eq_zero_I, AH.kind_ovI, AH.len_ovI, AH.R_ovI, AH.L_ovI, AH.n_ovI, AH.sl_ovI, XSh_ov, MSh_ov, xs_k0, xs_k1, xs_n1, xs_k2, xs_k3, xs_k4, xs_k5, xs_k6, xs_k7, xs_k8, xs_k9, xs_k10, xs_k11, xs_n11, xs_k12, xs_n12, xs_k13, xs_n13, xs_k14, xs_n14, xs_k15, xs_n15, xs_k16, xs_n16, xs_k17, xs_n17, xs_k18, xs_n18, xs_k27, xs_n27, xs_k28, xs_n28, xs_r0_0, xs_r0_1, xs_r2_8, xs_r2_9, xs_r0_2, xs_r0_3, xs_r0_4, xs_r0_8, xs_r0_9, xs_r0_10, xs_r0_18, xs_r0_19, xs_r0_20, xs_r0_21, xs_r0_22, xs_r0_25, xs_r0_26, xs_r0_27, xs_r0_28, X.1, x_psize hn X', e3, e1, e2, I_ov_eq (show k < 20 by omega), hs, nI_1, stepK])
    (by
      intro f st
      have X' := XA_ov X (xk17 X.1) 20 st
      have e3 : (nI S.np ≤ nI S.np) = True := eq_true (nI_le (Nat.le_refl _) (by omega))
      simp only [F_X0_findSteps_L43, chk_true, bnd_some, ob_some, oc_some, oc_none, hl_eq, jn_eq, ix_0, ix_1, if_true, if_false, inb0_2, inb1_2, not_true_eq_false, not_false_eq_true, ite_true, ite_false, true_or, or_true, or_self, zero_eq_one_I, one_eq_zero_I, AH.kind_ovI, AH.len_ovI, AH.R_ovI, AH.L_ovI, AH.n_ovI, AH.sl_ovI, XSh_ov, MSh_ov, xs_k0, xs_k1, xs_n1, xs_k2, xs_k3, xs_k4, xs_k5, xs_k6, xs_k7, xs_k8, xs_k9, xs_k10, xs_k11, xs_n11, xs_k12, xs_n12, xs_k13, xs_n13, xs_k14, xs_n14, xs_k15, xs_n15, xs_k16, xs_n16, xs_k17, xs_n17, xs_k18, xs_n18, xs_k27, xs_n27, xs_k28, xs_n28, xs_r0_0, xs_r0_1, xs_r2_8, xs_r2_9, xs_r0_2, xs_r0_3, xs_r0_4, xs_r0_8, xs_r0_9, xs_r0_10, xs_r0_18, xs_r0_19, xs_r0_20, xs_r0_21, xs_r0_22, xs_r0_25, xs_r0_26, xs_r0_27, xs_r0_28, X.1, x_psize hn X', e3]) n (by omega)
theorem x_L30 {n : Nat} {K : Nat → Nat} {x : Nat} {h : AH} {ev ep b : Nat} {Ev Ep : Nat → Nat} {S : St} (hn : 20000 < n) (X : XA K x h ev Ev ep Ep b S) (st : Nat → Int32) : F_X0_findSteps_L30 n K x n 0 (h.ovI (x + 17) 20 st) = some ((), h.ovI (x + 17) 20 (foldS (fun nn st => foldS (stepK S nn) st S.np) st S.np)) := by
  have h20 := xnp hn X
  exact loopF (fun f i st => F_X0_findSteps_L30 n K x f i (h.ovI (x + 17) 20 st)) S.np (fun nn st => foldS (stepK S nn) st S.np) (fun st => some ((), h.ovI (x + 17) 20 st)) st
    (by
      intro f k st hk
      have X' := XA_ov X (xk17 X.1) 20 st
      have e3 : (nI S.np ≤ nI k) = False := eq_false (nI_ge hk (by omega))
      simp only [F_X0_findSteps_L30, chk_true, bnd_some, ob_some, oc_some, oc_none, hl_eq, jn_eq, ix_0, ix_1, if_true, if_false, inb0_2, inb1_2, not_true_eq_false, not_false_eq_true, ite_true, ite_false, true_or, or_true, or_self, zero_eq_one_I, one_eq_zero_I, AH.kind_ovI, AH.len_ovI, AH.R_ovI, AH.L_ovI, AH.n_ovI, AH.sl_ovI, XSh_ov, MSh_ov, xs_k0, xs_k1, xs_n1, xs_k2, xs_k3, xs_k4, xs_k5, xs_k6, xs_k7, xs_k8, xs_k9, xs_k10, xs_k11, xs_n11, xs_k12, xs_n12, xs_k13, xs_n13, xs_k14, xs_n14, xs_k15, xs_n15, xs_k16, xs_n16, xs_k17, xs_n17, xs_k18, xs_n18, xs_k27, xs_n27, xs_k28, xs_n28, xs_r0_0, xs_r0_1, xs_r2_8, xs_r2_9, xs_r0_2, xs_r0_3, xs_r0_4, xs_r0_8, xs_r0_9, xs_r0_10, xs_r0_18, xs_r0_19, xs_r0_20, xs_r0_21, xs_r0_22, xs_r0_25, xs_r0_26, xs_r0_27, xs_r0_28, X.1, x_psize hn X', e3, x_L43 hn X (show k < 1000 by omega), nI_1])
    (by
      intro f st
      have X' := XA_ov X (xk17 X.1) 20 st
      have e3 : (nI S.np ≤ nI S.np) = True := eq_true (nI_le (Nat.le_refl _) (by omega))
      simp only [F_X0_findSteps_L30, chk_true, bnd_some, ob_some, oc_some, oc_none, hl_eq, jn_eq, ix_0, ix_1, if_true, if_false, inb0_2, inb1_2, not_true_eq_false, not_false_eq_true, ite_true, ite_false, true_or, or_true, or_self, zero_eq_one_I, one_eq_zero_I, AH.kind_ovI, AH.len_ovI, AH.R_ovI, AH.L_ovI, AH.n_ovI, AH.sl_ovI, XSh_ov, MSh_ov, xs_k0, xs_k1, xs_n1, xs_k2, xs_k3, xs_k4, xs_k5, xs_k6, xs_k7, xs_k8, xs_k9, xs_k10, xs_k11, xs_n11, xs_k12, xs_n12, xs_k13, xs_n13, xs_k14, xs_n14, xs_k15, xs_n15, xs_k16, xs_n16, xs_k17, xs_n17, xs_k18, xs_n18, xs_k27, xs_n27, xs_k28, xs_n28, xs_r0_0, xs_r0_1, xs_r2_8, xs_r2_9, xs_r0_2, xs_r0_3, xs_r0_4, xs_r0_8, xs_r0_9, xs_r0_10, xs_r0_18, xs_r0_19, xs_r0_20, xs_r0_21, xs_r0_22, xs_r0_25, xs_r0_26, xs_r0_27, xs_r0_28, X.1, x_psize hn X', e3]) n (by omega)
theorem e20 : (20 : Int32) = nI 20 := rfl
theorem x_findSteps {n : Nat} {K : Nat → Nat} {x : Nat} {h : AH} {ev ep b : Nat} {Ev Ep : Nat → Nat} {S : St} (hn : 20000 < n) (X : XA K x h ev Ev ep Ep b S) {t : Nat} (ht : t < S.np) : F_X0_findSteps n K x (nI t) h = some ((), h.ovI (x + 17) 20 (stepsS S t)) := by
  have h20 := xnp hn X
  have e1 : ix (nI t) = t := ix_nI (by omega)
  have e2 : inb (nI t) 20 = True := eq_true ((inb_nI (by omega)).2 (by omega))
  have key := fun kk => loopF (fun f i st => F_X0_findSteps_L2 n K x (nI t) f i (h.ovI (x + 17) 20 st) kk) 20 (fun j st => up1 st j (-1)) (fun st => kk (h.ovI (x + 17) 20 st)) (h.I (x + 17))
    (by
      intro f k st hk
      have e4 : ix (nI k) = k := ix_nI (by omega)
      have e5 : inb (nI k) 20 = True := eq_true ((inb_nI (by omega)).2 (by omega))
      have e3 : ((20 : Int32) ≤ nI k) = False := eq_false (by rw [e20]; exact nI_ge hk (by omega))
      simp only [F_X0_findSteps_L2, chk_true, bnd_some, ob_some, oc_some, oc_none, hl_eq, jn_eq, ix_0, ix_1, if_true, if_false, inb0_2, inb1_2, not_true_eq_false, not_false_eq_true, ite_true, ite_false, true_or, or_true, or_self, zero_eq_one_I, one_eq_zero_I, AH.kind_ovI, AH.len_ovI, AH.R_ovI, AH.L_ovI, AH.n_ovI, AH.sl_ovI, XSh_ov, MSh_ov, xs_k0, xs_k1, xs_n1, xs_k2, xs_k3, xs_k4, xs_k5, xs_k6, xs_k7, xs_k8, xs_k9, xs_k10, xs_k11, xs_n11, xs_k12, xs_n12, xs_k13, xs_n13, xs_k14, xs_n14, xs_k15, xs_n15, xs_k16, xs_n16, xs_k17, xs_n17, xs_k18, xs_n18, xs_k27, xs_n27, xs_k28, xs_n28, xs_r0_0, xs_r0_1, xs_r2_8, xs_r2_9, xs_r0_2, xs_r0_3, xs_r0_4, xs_r0_8, xs_r0_9, xs_r0_10, xs_r0_18, xs_r0_19, xs_r0_20, xs_r0_21, xs_r0_22, xs_r0_25, xs_r0_26, xs_r0_27, xs_r0_28, X.1, e3, e4, e5, ov_set hk, nI_1])
    (by
      intro f st
      have e3 : ((20 : Int32) ≤ nI 20) = True := eq_true (by rw [e20]; exact nI_le (Nat.le_refl _) (by omega))
      simp only [F_X0_findSteps_L2, chk_true, bnd_some, ob_some, oc_some, oc_none, hl_eq, jn_eq, ix_0, ix_1, if_true, if_false, inb0_2, inb1_2, not_true_eq_false, not_false_eq_true, ite_true, ite_false, true_or, or_true, or_self, zero_eq_one_I, one_eq_zero_I, e3]) n (by omega)
  simp only [ov_self] at key
  have ec : h.ovI (x + 17) 20 (up1 (foldS (fun j st => up1 st j (-1)) (h.I (x + 17)) 20) t 0) = h.ovI (x + 17) 20 (st0 t) := by
    refine ov_congr ?_
    intro j hj
    unfold up1 st0
    by_cases c : j = t
    · simp [c]
    · rw [if_neg c, if_neg c]
      have := fold_up (g := fun _ => (-1 : Int32)) (s := h.I (x + 17)) (N := 20) (j := j)
      rw [if_pos hj] at this
      exact this
  simp only [F_X0_findSteps, key, chk_true, bnd_some, ob_some, oc_some, oc_none, hl_eq, jn_eq, ix_0, ix_1, if_true, if_false, inb0_2, inb1_2, not_true_eq_false, not_false_eq_true, ite_true, ite_false, true_or, or_true, or_self, zero_eq_one_I, one_eq_zero_I, AH.kind_ovI, AH.len_ovI, AH.R_ovI, AH.L_ovI, AH.n_ovI, AH.sl_ovI, XSh_ov, MSh_ov, xs_k0, xs_k1, xs_n1, xs_k2, xs_k3, xs_k4, xs_k5, xs_k6, xs_k7, xs_k8, xs_k9, xs_k10, xs_k11, xs_n11, xs_k12, xs_n12, xs_k13, xs_n13, xs_k14, xs_n14, xs_k15, xs_n15, xs_k16, xs_n16, xs_k17, xs_n17, xs_k18, xs_n18, xs_k27, xs_n27, xs_k28, xs_n28, xs_r0_0, xs_r0_1, xs_r2_8, xs_r2_9, xs_r0_2, xs_r0_3, xs_r0_4, xs_r0_8, xs_r0_9, xs_r0_10, xs_r0_18, xs_r0_19, xs_r0_20, xs_r0_21, xs_r0_22, xs_r0_25, xs_r0_26, xs_r0_27, xs_r0_28, X.1, e1, e2, ov_set (show t < 20 by omega), ec, x_L30 hn X, stepsS]
/-! the model's -/
theorem mk40 (m : Nat) : m + 40 ≤ m ∨ m + 31 ≤ m + 40 := by omega
theorem m_L66 {n : Nat} {K : Nat → Nat} {m : Nat} {h : AH} {S : St} (hn : 20000 < n) (M : MA m h S) {st : Nat → Int32} {nn k : Nat} (hk : k < S.np) (hnn : nn < 1000) (hs : st k = -1) (kk : AH → Option (Unit × AH)) : F_X3_leads_L66 n K (nI k) (nI nn) m n 0 (h.ovI (m + 40) 20 st) kk = kk (h.ovI (m + 40) 20 (stepK S nn k st)) := by
  have h20 := mnp hn M
  have e1 : ix (nI k) = k := ix_nI (by omega)
  have e2 : inb (nI k) 20 = True := eq_true ((inb_nI (by omega)).2 (by omega))
  have key := loopU (fun f i s => F_X3_leads_L66 n K (nI k) (nI nn) m f i (h.ovI (m + 40) 20 s) kk) S.np (fun i s => s = foldS (fun i a => if hitS S nn k st i then up1 st k (nI (nn + 1)) else a) st i) (fun o => o = kk (h.ovI (m + 40) 20 (stepK S nn k st)))
    (by
      intro f i s hi hsi
      right
      refine ⟨_, rfl, ?_⟩
      have M' := MA_ov M (mk40 m) 20 s
      have e3 : (nI S.np ≤ nI i) = False := eq_false (nI_ge hi (by omega))
      have e4 : ix (nI i) = i := ix_nI (by omega)
      have e5 : inb (nI i) 20 = True := eq_true ((inb_nI (by omega)).2 (by omega))
      rw [fold_any] at hsi
      have es : (s i = nI nn) = (st i = nI nn) := by
        rw [hsi]
        by_cases ca : anyS (fun i => hitS S nn k st i) i = true
        · rw [if_pos ca]
          unfold up1
          by_cases c : i = k
          · subst c
            rw [if_pos rfl, hs]
            refine propext ⟨fun z => ?_, fun z => ?_⟩
            · have := (nI_eq (a := nn + 1) (b := nn) (by omega) (by omega)).1 z; omega
            · have : (nI nn = -1) = False := nI_m1 (by omega)
              rw [z] at this; simp at this
          · rw [if_neg c]
        · rw [if_neg ca]
      have eu : up1 s k (nI (nn + 1)) = up1 st k (nI (nn + 1)) := by
        rw [hsi]
        by_cases ca : anyS (fun i => hitS S nn k st i) i = true
        · rw [if_pos ca]
          funext j
          unfold up1
          by_cases c : j = k <;> simp [c]
        · rw [if_neg ca]
      have ef : foldS (fun i a => if hitS S nn k st i then up1 st k (nI (nn + 1)) else a) st (i + 1) = if hitS S nn k st i then up1 st k (nI (nn + 1)) else s := by
        rw [foldS, fold_any, ← hsi]
      rw [F_X3_leads_L66, ef]
      simp only [chk_true, bnd_some, ob_some, oc_some, oc_none, hl_eq, jn_eq, ix_0, ix_1, if_true, if_false, inb0_2, inb1_2, not_true_eq_false, not_false_eq_true, ite_true, ite_false, true_or, or_true, or_self, zero_eq_one_I, one_eq_zero_I, AH.kind_ovI, AH.len_ovI, AH.R_ovI, AH.L_ovI, AH.n_ovI, AH.sl_ovI, XSh_ov, MSh_ov, ms_k0, ms_k1, ms_n1, ms_k2, ms_n2, ms_k3, ms_n3, ms_k4, ms_n4, ms_k5, ms_n5, ms_k6, ms_n6, ms_k7, ms_n7, ms_k8, ms_n8, ms_k9, ms_n9, ms_k10, ms_n10, ms_k11, ms_n11, ms_k12, ms_n12, ms_k13, ms_n13, ms_k14, ms_n14, ms_k15, ms_n15, ms_k16, ms_n16, ms_k17, ms_n17, ms_k18, ms_n18, ms_k19, ms_n19, ms_k20, ms_n20, ms_k21, ms_n21, ms_k22, ms_n22, ms_k23, ms_n23, ms_k24, ms_n24, ms_k25, ms_n25, ms_k26, ms_n26, ms_k27, ms_n27, ms_k28, ms_n28, ms_k29, ms_n29, ms_k30, ms_n30, ms_k31, ms_n31, ms_k32, ms_n32, ms_k33, ms_n33, ms_k34, ms_n34, ms_k35, ms_n35, ms_k36, ms_n36, ms_k37, ms_n37, ms_k38, ms_n38, ms_k39, ms_n39, ms_k40, ms_n40, ms_k41, ms_n41, ms_k50, ms_n50, ms_k51, ms_n51, ms_k52, ms_n52, ms_k53, ms_n53, ms_r0_0, ms_r0_6, ms_r2_0, ms_r2_1, ms_r0_7, ms_r5_0, ms_r5_1, ms_r0_8, ms_r8_0, ms_r8_1, ms_r0_9, ms_r11_0, ms_r11_1, ms_r0_10, ms_r14_0, ms_r14_1, ms_r0_11, ms_r17_0, ms_r17_1, ms_r0_12, ms_r20_0, ms_r20_1, ms_r0_13, ms_r23_0, ms_r23_1, ms_r0_14, ms_r0_15, ms_r0_16, ms_r0_17, ms_r0_18, ms_r0_23, ms_r0_24, ms_r0_25, ms_r0_26, ms_r0_30, ms_r0_31, ms_r0_32, ms_r0_35, ms_r0_36, ms_r0_39, ms_r0_40, ms_r0_41, ms_r0_42, ms_r0_43, ms_r0_47, M.1, m_placesA hn M', e3, e1, e2, e4, e5, I_ov_eq (show i < 20 by omega), es, m_beatsOf hn M' hi hk, nI_1, bI_0, ov_set (show k < 20 by omega), eu, hitS]
      by_cases c : st i = nI nn
      · rcases Bool.eq_false_or_eq_true (abS S i k) with hb | hb <;> simp [c, hb]
      · simp [c])
    (by
      intro f s hsi
      have M' := MA_ov M (mk40 m) 20 s
      have e3 : (nI S.np ≤ nI S.np) = True := eq_true (nI_le (Nat.le_refl _) (by omega))
      rw [fold_any] at hsi
      have : stepK S nn k st = s := by
        rw [stepK, if_pos hs, hsi]
      rw [this]
      simp only [F_X3_leads_L66, chk_true, bnd_some, ob_some, oc_some, oc_none, hl_eq, jn_eq, ix_0, ix_1, if_true, if_false, inb0_2, inb1_2, not_true_eq_false, not_false_eq_true, ite_true, ite_false, true_or, or_true, or_self, zero_eq_one_I, one_eq_zero_I, AH.kind_ovI, AH.len_ovI, AH.R_ovI, AH.L_ovI, AH.n_ovI, AH.sl_ovI, XSh_ov, MSh_ov, ms_k0, ms_k1, ms_n1, ms_k2, ms_n2, ms_k3, ms_n3, ms_k4, ms_n4, ms_k5, ms_n5, ms_k6, ms_n6, ms_k7, ms_n7, ms_k8, ms_n8, ms_k9, ms_n9, ms_k10, ms_n10, ms_k11, ms_n11, ms_k12, ms_n12, ms_k13, ms_n13, ms_k14, ms_n14, ms_k15, ms_n15, ms_k16, ms_n16, ms_k17, ms_n17, ms_k18, ms_n18, ms_k19, ms_n19, ms_k20, ms_n20, ms_k21, ms_n21, ms_k22, ms_n22, ms_k23, ms_n23, ms_k24, ms_n24, ms_k25, ms_n25, ms_k26, ms_n26, ms_k27, ms_n27, ms_k28, ms_n28, ms_k29, ms_n29, ms_k30, ms_n30, ms_k31, ms_n31, ms_k32, ms_n32, ms_k33, ms_n33, ms_k34, ms_n34, ms_k35, ms_n35, ms_k36, ms_n36, ms_k37, ms_n37, ms_k38, ms_n38, ms_k39, ms_n39, ms_k40, ms_n40, ms_k41, ms_n41, ms_k50, ms_n50, ms_k51, ms_n51, ms_k52, ms_n52, ms_k53, ms_n53, ms_r0_0, ms_r0_6, ms_r2_0, ms_r2_1, ms_r0_7, ms_r5_0, ms_r5_1, ms_r0_8, ms_r8_0, ms_r8_1, ms_r0_9, ms_r11_0, ms_r11_1, ms_r0_10, ms_r14_0, ms_r14_1, ms_r0_11, ms_r17_0, ms_r17_1, ms_r0_12, ms_r20_0, ms_r20_1, ms_r0_13, ms_r23_0, ms_r23_1, ms_r0_14, ms_r0_15, ms_r0_16, ms_r0_17, ms_r0_18, ms_r0_23, ms_r0_24, ms_r0_25, ms_r0_26, ms_r0_30, ms_r0_31, ms_r0_32, ms_r0_35, ms_r0_36, ms_r0_39, ms_r0_40, ms_r0_41, ms_r0_42, ms_r0_43, ms_r0_47, M.1, m_placesA hn M', e3])
  exact key S.np 0 st n (by omega) (by omega) rfl
theorem m_L42 {n : Nat} {K : Nat → Nat} {m : Nat} {h : AH} {S : St} (hn : 20000 < n) (M : MA m h S) {st : Nat → Int32} {nn : Nat} (hnn : nn < 1000) (kk : AH → Option (Unit × AH)) : F_X3_leads_L42 n K (nI nn) m n 0 (h.ovI (m + 40) 20 st) kk = kk (h.ovI (m + 40) 20 (foldS (stepK S nn) st S.np)) := by
  have h20 := mnp hn M
  exact loopF (fun f i st => F_X3_leads_L42 n K (nI nn) m f i (h.ovI (m + 40) 20 st) kk) S.np (stepK S nn) (fun st => kk (h.ovI (m + 40) 20 st)) st
    (by
      intro f k st hk
      have M' := MA_ov M (mk40 m) 20 st
      have e1 : ix (nI k) = k := ix_nI (by omega)
      have e2 : inb (nI k) 20 = True := eq_true ((inb_nI (by omega)).2 (by omega))
      have e3 : (nI S.np ≤ nI k) = False := eq_false (nI_ge hk (by omega))
      by_cases hs : st k = -1
      · simp only [F_X3_leads_L42, chk_true, bnd_some, ob_some, oc_some, oc_none, hl_eq, jn_eq, ix_0, ix_1, if_true, if_false, inb0_2, inb1_2, not_true_eq_false, not_false_eq_true, ite_true, ite_false, true_or, or_true, or_self, zero_eq_one_I, one_eq_zero_I, AH.kind_ovI, AH.len_ovI, AH.R_ovI, AH.L_ovI, AH.n_ovI, AH.sl_ovI, XSh_ov, MSh_ov, ms_k0, ms_k1, ms_n1, ms_k2, ms_n2, ms_k3, ms_n3, ms_k4, ms_n4, ms_k5, ms_n5, ms_k6, ms_n6, ms_k7, ms_n7, ms_k8, ms_n8, ms_k9, ms_n9, ms_k10, ms_n10, ms_k11, ms_n11, ms_k12, ms_n12, ms_k13, ms_n13, ms_k14, ms_n14, ms_k15, ms_n15, ms_k16, ms_n16, ms_k17, ms_n17, ms_k18, ms_n18, ms_k19, ms_n19, ms_k20, ms_n20, ms_k21, ms_n21, ms_k22, ms_n22, ms_k23, ms_n23, ms_k24, ms_n24, ms_k25, ms_n25, ms_k26, ms_n26, ms_k27, ms_n27, ms_k28, ms_n28, ms_k29, ms_n29, ms_k30, ms_n30, ms_k31, ms_n31, ms_k32, ms_n32, ms_k33, ms_n33, ms_k34, ms_n34, ms_k35, ms_n35, ms_k36, ms_n36, ms_k37, ms_n37, ms_k38, ms_n38, ms_k39, ms_n39, ms_k40, ms_n40, ms_k41, ms_n41, ms_k50, ms_n50, ms_k51, ms_n51, ms_k52, ms_n52, ms_k53, ms_n53, ms_r0_0, ms_r0_6, ms_r2_0, ms_r2_1, ms_r0_7, ms_r5_0, ms_r5_1, ms_r0_8, ms_r8_0, ms_r8_1, ms_r0_9, ms_r11_0, ms_r11_1, ms_r0_10, ms_r14_0, ms_r14_1, ms_r0_11, ms_r17_0, ms_r17_1, ms_r0_12, ms_r20_0, ms_r20_1, ms_r0_13, ms_r23_0, ms_r23_1, ms_r0_14, ms_r0_15, ms_r0_16, ms_r0_17, ms_r0_18, ms_r0_23, ms_r0_24, ms_r0_25, ms_r0_26, ms_r0_30, ms_r0_31, ms_r0_32, ms_r0_35, ms_r0_36, ms_r0_39, ms_r0_40, ms_r0_41, ms_r0_42, ms_r0_43, ms_r0_47, M.1, m_placesA hn M', e3, e1, e2, I_ov_eq (show k < 20 by omega), hs, m_L66 hn M hk hnn hs, nI_1]
      · simp only [F_X3_leads_L42, chk_true, bnd_some, ob_some, oc_some, oc_none, hl_eq, jn_eq, ix_0, ix_1, if_true, if_false, inb0_2, inb1_2, not_true_eq_false, not_false_eq_true, ite_true, ite_false, true_or, or_true, or_self, zero_eq_one_I, one_eq_zero_I, AH.kind_ovI, AH.len_ovI, AH.R_ovI, AH.L_ovI, AH.n_ovI, AH.sl_ovI, XSh_ov, MSh_ov, ms_k0, ms_k1, ms_n1, ms_k2, ms_n2, ms_k3, ms_n3, ms_k4, ms_n4, ms_k5, ms_n5, ms_k6, ms_n6, ms_k7, ms_n7, ms_k8, ms_n8, ms_k9, ms_n9, ms_k10, ms_n10, ms_k11, ms_n11, ms_k12, ms_n12, ms_k13, ms_n13, ms_k14, ms_n14, ms_k15, ms_n15, ms_k16, ms_n16, ms_k17, ms_n17, ms_k18, ms_n18, ms_k19, ms_n19, ms_k20, ms_n20, ms_k21, ms_n21, ms_k22, ms_n22, ms_k23, ms_n23, ms_k24, ms_n24, ms_k25, ms_n25, ms_k26, ms_n26, ms_k27, ms_n27, ms_k28, ms_n28, ms_k29, ms_n29, ms_k30, ms_n30, ms_k31, ms_n31, ms_k32, ms_n32, ms_k33, ms_n33, ms_k34, ms_n34, ms_k35, ms_n35, ms_k36, ms_n36, ms_k37, ms_n37, ms_k38, ms_n38, ms_k39, ms_n39, ms_k40, ms_n40, ms_k41, ms_n41, ms_k50, ms_n50, ms_k51, ms_n51, ms_k52, ms_n52, ms_k53, ms_n53, ms_r0_0, ms_r0_6, ms_r2_0, ms_r2_1, ms_r0_7, ms_r5_0, ms_r5_1, ms_r0_8, ms_r8_0, ms_r8_1, ms_r0_9, ms_r11_0, ms_r11_1, ms_r0_10, ms_r14_0, ms_r14_1, ms_r0_11, ms_r17_0, ms_r17_1, ms_r0_12, ms_r20_0, ms_r20_1, ms_r0_13, ms_r23_0, ms_r23_1, ms_r0_14, ms_r0_15, ms_r0_16, ms_r0_17, ms_r0_18, ms_r0_23, ms_r0_24, ms_r0_25, ms_r0_26, ms_r0_30, ms_r0_31, ms_r0_32, ms_r0_35, ms_r0_36, ms_r0_39, ms_r0_40, ms_r0_41, ms_r0_42, ms_r0_43, ms_r0_47, M.1, m_placesA hn M', e3, e1, e2, I_ov_eq (show k < 20 by omega), hs, nI_1, stepK])
    (by
      intro f st
      have M' := MA_ov M (mk40 m) 20 st
      have e3 : (nI S.np ≤ nI S.np) = True := eq_true (nI_le (Nat.le_refl _) (by omega))
      simp only [F_X3_leads_L42, chk_true, bnd_some, ob_some, oc_some, oc_none, hl_eq, jn_eq, ix_0, ix_1, if_true, if_false, inb0_2, inb1_2, not_true_eq_false, not_false_eq_true, ite_true, ite_false, true_or, or_true, or_self, zero_eq_one_I, one_eq_zero_I, AH.kind_ovI, AH.len_ovI, AH.R_ovI, AH.L_ovI, AH.n_ovI, AH.sl_ovI, XSh_ov, MSh_ov, ms_k0, ms_k1, ms_n1, ms_k2, ms_n2, ms_k3, ms_n3, ms_k4, ms_n4, ms_k5, ms_n5, ms_k6, ms_n6, ms_k7, ms_n7, ms_k8, ms_n8, ms_k9, ms_n9, ms_k10, ms_n10, ms_k11, ms_n11, ms_k12, ms_n12, ms_k13, ms_n13, ms_k14, ms_n14, ms_k15, ms_n15, ms_k16, ms_n16, ms_k17, ms_n17, ms_k18, ms_n18, ms_k19, ms_n19, ms_k20, ms_n20, ms_k21, ms_n21, ms_k22, ms_n22, ms_k23, ms_n23, ms_k24, ms_n24, ms_k25, ms_n25, ms_k26, ms_n26, ms_k27, ms_n27, ms_k28, ms_n28, ms_k29, ms_n29, ms_k30, ms_n30, ms_k31, ms_n31, ms_k32, ms_n32, ms_k33, ms_n33, ms_k34, ms_n34, ms_k35, ms_n35, ms_k36, ms_n36, ms_k37, ms_n37, ms_k38, ms_n38, ms_k39, ms_n39, ms_k40, ms_n40, ms_k41, ms_n41, ms_k50, ms_n50, ms_k51, ms_n51, ms_k52, ms_n52, ms_k53, ms_n53, ms_r0_0, ms_r0_6, ms_r2_0, ms_r2_1, ms_r0_7, ms_r5_0, ms_r5_1, ms_r0_8, ms_r8_0, ms_r8_1, ms_r0_9, ms_r11_0, ms_r11_1, ms_r0_10, ms_r14_0, ms_r14_1, ms_r0_11, ms_r17_0, ms_r17_1, ms_r0_12, ms_r20_0, ms_r20_1, ms_r0_13, ms_r23_0, ms_r23_1, ms_r0_14, ms_r0_15, ms_r0_16, ms_r0_17, ms_r0_18, ms_r0_23, ms_r0_24, ms_r0_25, ms_r0_26, ms_r0_30, ms_r0_31, ms_r0_32, ms_r0_35, ms_r0_36, ms_r0_39, ms_r0_40, ms_r0_41, ms_r0_42, ms_r0_43, ms_r0_47, M.1, m_placesA hn M', e3]) n (by omega)
theorem m_L32 {n : Nat} {K : Nat → Nat} {m : Nat} {h : AH} {S : St} (hn : 20000 < n) (M : MA m h S) (st : Nat → Int32) : F_X3_leads_L32 n K m n 0 (h.ovI (m + 40) 20 st) = some ((), h.ovI (m + 40) 20 (foldS (fun nn st => foldS (stepK S nn) st S.np) st S.np)) := by
  have h20 := mnp hn M
  exact loopF (fun f i st => F_X3_leads_L32 n K m f i (h.ovI (m + 40) 20 st)) S.np (fun nn st => foldS (stepK S nn) st S.np) (fun st => some ((), h.ovI (m + 40) 20 st)) st
    (by
      intro f k st hk
      have M' := MA_ov M (mk40 m) 20 st
      have e3 : (nI S.np ≤ nI k) = False := eq_false (nI_ge hk (by omega))
      simp only [F_X3_leads_L32, chk_true, bnd_some, ob_some, oc_some, oc_none, hl_eq, jn_eq, ix_0, ix_1, if_true, if_false, inb0_2, inb1_2, not_true_eq_false, not_false_eq_true, ite_true, ite_false, true_or, or_true, or_self, zero_eq_one_I, one_eq_zero_I, AH.kind_ovI, AH.len_ovI, AH.R_ovI, AH.L_ovI, AH.n_ovI, AH.sl_ovI, XSh_ov, MSh_ov, ms_k0, ms_k1, ms_n1, ms_k2, ms_n2, ms_k3, ms_n3, ms_k4, ms_n4, ms_k5, ms_n5, ms_k6, ms_n6, ms_k7, ms_n7, ms_k8, ms_n8, ms_k9, ms_n9, ms_k10, ms_n10, ms_k11, ms_n11, ms_k12, ms_n12, ms_k13, ms_n13, ms_k14, ms_n14, ms_k15, ms_n15, ms_k16, ms_n16, ms_k17, ms_n17, ms_k18, ms_n18, ms_k19, ms_n19, ms_k20, ms_n20, ms_k21, ms_n21, ms_k22, ms_n22, ms_k23, ms_n23, ms_k24, ms_n24, ms_k25, ms_n25, ms_k26, ms_n26, ms_k27, ms_n27, ms_k28, ms_n28, ms_k29, ms_n29, ms_k30, ms_n30, ms_k31, ms_n31, ms_k32, ms_n32, ms_k33, ms_n33, ms_k34, ms_n34, ms_k35, ms_n35, ms_k36, ms_n36, ms_k37, ms_n37, ms_k38, ms_n38, ms_k39, ms_n39, ms_k40, ms_n40, ms_k41, ms_n41, ms_k50, ms_n50, ms_k51, ms_n51, ms_k52, ms_n52, ms_k53, ms_n53, ms_r0_0, ms_r0_6, ms_r2_0, ms_r2_1, ms_r0_7, ms_r5_0, ms_r5_1, ms_r0_8, ms_r8_0, ms_r8_1, ms_r0_9, ms_r11_0, ms_r11_1, ms_r0_10, ms_r14_0, ms_r14_1, ms_r0_11, ms_r17_0, ms_r17_1, ms_r0_12, ms_r20_0, ms_r20_1, ms_r0_13, ms_r23_0, ms_r23_1, ms_r0_14, ms_r0_15, ms_r0_16, ms_r0_17, ms_r0_18, ms_r0_23, ms_r0_24, ms_r0_25, ms_r0_26, ms_r0_30, ms_r0_31, ms_r0_32, ms_r0_35, ms_r0_36, ms_r0_39, ms_r0_40, ms_r0_41, ms_r0_42, ms_r0_43, ms_r0_47, M.1, m_placesA hn M', e3, m_L42 hn M (show k < 1000 by omega), nI_1])
    (by
      intro f st
      have M' := MA_ov M (mk40 m) 20 st
      have e3 : (nI S.np ≤ nI S.np) = True := eq_true (nI_le (Nat.le_refl _) (by omega))
      simp only [F_X3_leads_L32, chk_true, bnd_some, ob_some, oc_some, oc_none, hl_eq, jn_eq, ix_0, ix_1, if_true, if_false, inb0_2, inb1_2, not_true_eq_false, not_false_eq_true, ite_true, ite_false, true_or, or_true, or_self, zero_eq_one_I, one_eq_zero_I, AH.kind_ovI, AH.len_ovI, AH.R_ovI, AH.L_ovI, AH.n_ovI, AH.sl_ovI, XSh_ov, MSh_ov, ms_k0, ms_k1, ms_n1, ms_k2, ms_n2, ms_k3, ms_n3, ms_k4, ms_n4, ms_k5, ms_n5, ms_k6, ms_n6, ms_k7, ms_n7, ms_k8, ms_n8, ms_k9, ms_n9, ms_k10, ms_n10, ms_k11, ms_n11, ms_k12, ms_n12, ms_k13, ms_n13, ms_k14, ms_n14, ms_k15, ms_n15, ms_k16, ms_n16, ms_k17, ms_n17, ms_k18, ms_n18, ms_k19, ms_n19, ms_k20, ms_n20, ms_k21, ms_n21, ms_k22, ms_n22, ms_k23, ms_n23, ms_k24, ms_n24, ms_k25, ms_n25, ms_k26, ms_n26, ms_k27, ms_n27, ms_k28, ms_n28, ms_k29, ms_n29, ms_k30, ms_n30, ms_k31, ms_n31, ms_k32, ms_n32, ms_k33, ms_n33, ms_k34, ms_n34, ms_k35, ms_n35, ms_k36, ms_n36, ms_k37, ms_n37, ms_k38, ms_n38, ms_k39, ms_n39, ms_k40, ms_n40, ms_k41, ms_n41, ms_k50, ms_n50, ms_k51, ms_n51, ms_k52, ms_n52, ms_k53, ms_n53, ms_r0_0, ms_r0_6, ms_r2_0, ms_r2_1, ms_r0_7, ms_r5_0, ms_r5_1, ms_r0_8, ms_r8_0, ms_r8_1, ms_r0_9, ms_r11_0, ms_r11_1, ms_r0_10, ms_r14_0, ms_r14_1, ms_r0_11, ms_r17_0, ms_r17_1, ms_r0_12, ms_r20_0, ms_r20_1, ms_r0_13, ms_r23_0, ms_r23_1, ms_r0_14, ms_r0_15, ms_r0_16, ms_r0_17, ms_r0_18, ms_r0_23, ms_r0_24, ms_r0_25, ms_r0_26, ms_r0_30, ms_r0_31, ms_r0_32, ms_r0_35, ms_r0_36, ms_r0_39, ms_r0_40, ms_r0_41, ms_r0_42, ms_r0_43, ms_r0_47, M.1, m_placesA hn M', e3]) n (by omega)
theorem m_leads {n : Nat} {K : Nat → Nat} {m : Nat} {h : AH} {S : St} (hn : 20000 < n) (M : MA m h S) {t : Nat} (ht : t < S.np) : F_X3_leads n K m (nI t) h = some ((), h.ovI (m + 40) 20 (stepsS S t)) := by
  have h20 := mnp hn M
  have key := fun kk => loopF (fun f i st => F_X3_leads_L2 n K m (nI t) f i (h.ovI (m + 40) 20 st) kk) 20 (fun j st => up1 st j (st0 t j)) (fun st => kk (h.ovI (m + 40) 20 st)) (h.I (m + 40))
    (by
      intro f k st hk
      have e4 : ix (nI k) = k := ix_nI (by omega)
      have e5 : inb (nI k) 20 = True := eq_true ((inb_nI (by omega)).2 (by omega))
      have e3 : ((20 : Int32) ≤ nI k) = False := eq_false (by rw [e20]; exact nI_ge hk (by omega))
      have e6 : (nI k = nI t) = (k = t) := propext (nI_eq (by omega) (by omega))
      simp only [F_X3_leads_L2, chk_true, bnd_some, ob_some, oc_some, oc_none, hl_eq, jn_eq, ix_0, ix_1, if_true, if_false, inb0_2, inb1_2, not_true_eq_false, not_false_eq_true, ite_true, ite_false, true_or, or_true, or_self, zero_eq_one_I, one_eq_zero_I, AH.kind_ovI, AH.len_ovI, AH.R_ovI, AH.L_ovI, AH.n_ovI, AH.sl_ovI, XSh_ov, MSh_ov, ms_k0, ms_k1, ms_n1, ms_k2, ms_n2, ms_k3, ms_n3, ms_k4, ms_n4, ms_k5, ms_n5, ms_k6, ms_n6, ms_k7, ms_n7, ms_k8, ms_n8, ms_k9, ms_n9, ms_k10, ms_n10, ms_k11, ms_n11, ms_k12, ms_n12, ms_k13, ms_n13, ms_k14, ms_n14, ms_k15, ms_n15, ms_k16, ms_n16, ms_k17, ms_n17, ms_k18, ms_n18, ms_k19, ms_n19, ms_k20, ms_n20, ms_k21, ms_n21, ms_k22, ms_n22, ms_k23, ms_n23, ms_k24, ms_n24, ms_k25, ms_n25, ms_k26, ms_n26, ms_k27, ms_n27, ms_k28, ms_n28, ms_k29, ms_n29, ms_k30, ms_n30, ms_k31, ms_n31, ms_k32, ms_n32, ms_k33, ms_n33, ms_k34, ms_n34, ms_k35, ms_n35, ms_k36, ms_n36, ms_k37, ms_n37, ms_k38, ms_n38, ms_k39, ms_n39, ms_k40, ms_n40, ms_k41, ms_n41, ms_k50, ms_n50, ms_k51, ms_n51, ms_k52, ms_n52, ms_k53, ms_n53, ms_r0_0, ms_r0_6, ms_r2_0, ms_r2_1, ms_r0_7, ms_r5_0, ms_r5_1, ms_r0_8, ms_r8_0, ms_r8_1, ms_r0_9, ms_r11_0, ms_r11_1, ms_r0_10, ms_r14_0, ms_r14_1, ms_r0_11, ms_r17_0, ms_r17_1, ms_r0_12, ms_r20_0, ms_r20_1, ms_r0_13, ms_r23_0, ms_r23_1, ms_r0_14, ms_r0_15, ms_r0_16, ms_r0_17, ms_r0_18, ms_r0_23, ms_r0_24, ms_r0_25, ms_r0_26, ms_r0_30, ms_r0_31, ms_r0_32, ms_r0_35, ms_r0_36, ms_r0_39, ms_r0_40, ms_r0_41, ms_r0_42, ms_r0_43, ms_r0_47, M.1, e3, e4, e5, e6, ov_set hk, nI_1, st0]
      by_cases c : k = t <;> simp [c])
    (by
      intro f st
      have e3 : ((20 : Int32) ≤ nI 20) = True := eq_true (by rw [e20]; exact nI_le (Nat.le_refl _) (by omega))
      simp only [F_X3_leads_L2, chk_true, bnd_some, ob_some, oc_some, oc_none, hl_eq, jn_eq, ix_0, ix_1, if_true, if_false, inb0_2, inb1_2, not_true_eq_false, not_false_eq_true, ite_true, ite_false, true_or, or_true, or_self, zero_eq_one_I, one_eq_zero_I, e3]) n (by omega)
  simp only [ov_self] at key
  have ec : h.ovI (m + 40) 20 (foldS (fun j st => up1 st j (st0 t j)) (h.I (m + 40)) 20) = h.ovI (m + 40) 20 (st0 t) := by
    refine ov_congr ?_
    intro j hj
    have := fold_up (g := st0 t) (s := h.I (m + 40)) (N := 20) (j := j)
    rw [if_pos hj] at this
    exact this
  simp only [F_X3_leads, key, ec, m_L32 hn M, stepsS]
