/-! PURE PART 4: votes, bars -/
set_option maxRecDepth 100000
def bI (b : Bool) : Int32 := if b then 1 else 0
def wonS (bk bp bw all yes no : Int32) : Bool := if bk = 0 then decide (no < yes) else if bk = 1 then decide (bp * all < yes * bw) else (! decide (yes * bw < bp * all)) && decide (no < yes)
def totS (V : Nat → Nat → Int32) : Nat → Int32
  | 0 => 0
  | k + 1 => totS V k + V k 2
/-- the model's bar, the sheet's bar -/
def MB (m : Nat) (h : AH) (bk bp bw : Int32) : Prop := h.I (m + 28) 0 = bk ∧ (bk = 0 ∨ (h.I (m + 29) 0 = bp ∧ h.I (m + 30) 0 = bw))
def XB (x : Nat) (h : AH) (b : Nat) (bk bp bw all : Int32) : Prop := h.R x 5 = some b ∧ h.kind b = 4 ∧ h.I b 0 = bk ∧ h.I b 1 = bp ∧ h.I b 2 = bw ∧ h.I x 7 = all
def beatS (V : Nat → Nat → Int32) (nv : Nat) (bk bp bw : Int32) (ax ay bx byy : Int32) : Bool := wonS bk bp bw (totS V nv) (forS V ax ay bx byy nv) (forS V bx byy ax ay nv)
theorem bI_01 (b : Bool) : (bI b = 0 ∨ bI b = 1) = True := by cases b <;> simp [bI]
theorem bI_0 (b : Bool) : (bI b = 0) = (b = false) := by cases b <;> simp [bI]
theorem m_total {n : Nat} {K : Nat → Nat} {m : Nat} {h : AH} {nv : Nat} {V : Nat → Nat → Int32} (hn : 20 < n) (H : MSh m h) (HV : MV m h nv V) : F_X3_total n K m h = some (totS V nv, h) := by
  have h15 := HV.2.1
  have key := loopU (fun f x (s : Int32) => F_X3_total_L4 n K m f x s h) nv (fun k s => s = totS V k) (fun o => o = some (totS V nv, h))
    (by
      intro f k s hk hs
      right
      refine ⟨_, rfl, ?_⟩
      have e1 : ix (nI k) = k := ix_nI (by omega)
      have e2 : inb (nI k) 15 = True := eq_true ((inb_nI (by omega)).2 (by omega))
      have e3 : (nI nv ≤ nI k) = False := eq_false (nI_ge hk (by omega))
      obtain ⟨g0, g1, g2, g3, g4, g5⟩ := HV.2.2 k hk
      simp only [F_X3_total_L4, chk_true, bnd_some, ob_some, oc_some, oc_none, hl_eq, jn_eq, ix_0, ix_1, if_true, if_false, inb0_2, inb1_2, not_true_eq_false, not_false_eq_true, ite_true, ite_false, true_or, or_true, or_self, zero_eq_one_I, one_eq_zero_I, ms_k0, ms_k1, ms_n1, ms_k2, ms_n2, ms_k3, ms_n3, ms_k4, ms_n4, ms_k5, ms_n5, ms_k6, ms_n6, ms_k7, ms_n7, ms_k8, ms_n8, ms_k9, ms_n9, ms_k10, ms_n10, ms_k11, ms_n11, ms_k12, ms_n12, ms_k13, ms_n13, ms_k14, ms_n14, ms_k15, ms_n15, ms_k16, ms_n16, ms_k17, ms_n17, ms_k18, ms_n18, ms_k19, ms_n19, ms_k20, ms_n20, ms_k21, ms_n21, ms_k22, ms_n22, ms_k23, ms_n23, ms_k24, ms_n24, ms_k25, ms_n25, ms_k26, ms_n26, ms_k27, ms_n27, ms_k28, ms_n28, ms_k29, ms_n29, ms_k30, ms_n30, ms_k31, ms_n31, ms_k32, ms_n32, ms_k33, ms_n33, ms_k34, ms_n34, ms_k35, ms_n35, ms_k36, ms_n36, ms_k37, ms_n37, ms_k38, ms_n38, ms_k39, ms_n39, ms_k40, ms_n40, ms_k41, ms_n41, ms_k50, ms_n50, ms_k51, ms_n51, ms_k52, ms_n52, ms_k53, ms_n53, ms_r0_0, ms_r0_6, ms_r2_0, ms_r2_1, ms_r0_7, ms_r5_0, ms_r5_1, ms_r0_8, ms_r8_0, ms_r8_1, ms_r0_9, ms_r11_0, ms_r11_1, ms_r0_10, ms_r14_0, ms_r14_1, ms_r0_11, ms_r17_0, ms_r17_1, ms_r0_12, ms_r20_0, ms_r20_1, ms_r0_13, ms_r23_0, ms_r23_1, ms_r0_14, ms_r0_15, ms_r0_16, ms_r0_17, ms_r0_18, ms_r0_23, ms_r0_24, ms_r0_25, ms_r0_26, ms_r0_30, ms_r0_31, ms_r0_32, ms_r0_35, ms_r0_36, ms_r0_39, ms_r0_40, ms_r0_41, ms_r0_42, ms_r0_43, ms_r0_47, H, m_voters H HV, e1, e2, e3, g2, nI_1, hs, totS])
    (by
      intro f s hs
      have e3 : (nI nv ≤ nI nv) = True := eq_true (nI_le (Nat.le_refl _) (by omega))
      simp only [F_X3_total_L4, chk_true, bnd_some, ob_some, oc_some, oc_none, hl_eq, jn_eq, ix_0, ix_1, if_true, if_false, inb0_2, inb1_2, not_true_eq_false, not_false_eq_true, ite_true, ite_false, true_or, or_true, or_self, zero_eq_one_I, one_eq_zero_I, ms_k0, ms_k1, ms_n1, ms_k2, ms_n2, ms_k3, ms_n3, ms_k4, ms_n4, ms_k5, ms_n5, ms_k6, ms_n6, ms_k7, ms_n7, ms_k8, ms_n8, ms_k9, ms_n9, ms_k10, ms_n10, ms_k11, ms_n11, ms_k12, ms_n12, ms_k13, ms_n13, ms_k14, ms_n14, ms_k15, ms_n15, ms_k16, ms_n16, ms_k17, ms_n17, ms_k18, ms_n18, ms_k19, ms_n19, ms_k20, ms_n20, ms_k21, ms_n21, ms_k22, ms_n22, ms_k23, ms_n23, ms_k24, ms_n24, ms_k25, ms_n25, ms_k26, ms_n26, ms_k27, ms_n27, ms_k28, ms_n28, ms_k29, ms_n29, ms_k30, ms_n30, ms_k31, ms_n31, ms_k32, ms_n32, ms_k33, ms_n33, ms_k34, ms_n34, ms_k35, ms_n35, ms_k36, ms_n36, ms_k37, ms_n37, ms_k38, ms_n38, ms_k39, ms_n39, ms_k40, ms_n40, ms_k41, ms_n41, ms_k50, ms_n50, ms_k51, ms_n51, ms_k52, ms_n52, ms_k53, ms_n53, ms_r0_0, ms_r0_6, ms_r2_0, ms_r2_1, ms_r0_7, ms_r5_0, ms_r5_1, ms_r0_8, ms_r8_0, ms_r8_1, ms_r0_9, ms_r11_0, ms_r11_1, ms_r0_10, ms_r14_0, ms_r14_1, ms_r0_11, ms_r17_0, ms_r17_1, ms_r0_12, ms_r20_0, ms_r20_1, ms_r0_13, ms_r23_0, ms_r23_1, ms_r0_14, ms_r0_15, ms_r0_16, ms_r0_17, ms_r0_18, ms_r0_23, ms_r0_24, ms_r0_25, ms_r0_26, ms_r0_30, ms_r0_31, ms_r0_32, ms_r0_35, ms_r0_36, ms_r0_39, ms_r0_40, ms_r0_41, ms_r0_42, ms_r0_43, ms_r0_47, H, m_voters H HV, e3, hs])
  exact key nv 0 0 n (by omega) (by omega) rfl
theorem m_isWon {n : Nat} {K : Nat → Nat} {m : Nat} {h : AH} {nv : Nat} {V : Nat → Nat → Int32} {bk bp bw : Int32} (hn : 20 < n) (H : MSh m h) (HV : MV m h nv V) (HB : MB m h bk bp bw) (yes no : Int32) : F_X3_isWon n K m yes no h = some (bI (wonS bk bp bw (totS V nv) yes no), h) := by
  obtain ⟨b1, b2⟩ := HB
  by_cases c0 : bk = 0
  · simp only [F_X3_isWon, chk_true, bnd_some, ob_some, oc_some, oc_none, hl_eq, jn_eq, ix_0, ix_1, if_true, if_false, inb0_2, inb1_2, not_true_eq_false, not_false_eq_true, ite_true, ite_false, true_or, or_true, or_self, zero_eq_one_I, one_eq_zero_I, ms_k0, ms_k1, ms_n1, ms_k2, ms_n2, ms_k3, ms_n3, ms_k4, ms_n4, ms_k5, ms_n5, ms_k6, ms_n6, ms_k7, ms_n7, ms_k8, ms_n8, ms_k9, ms_n9, ms_k10, ms_n10, ms_k11, ms_n11, ms_k12, ms_n12, ms_k13, ms_n13, ms_k14, ms_n14, ms_k15, ms_n15, ms_k16, ms_n16, ms_k17, ms_n17, ms_k18, ms_n18, ms_k19, ms_n19, ms_k20, ms_n20, ms_k21, ms_n21, ms_k22, ms_n22, ms_k23, ms_n23, ms_k24, ms_n24, ms_k25, ms_n25, ms_k26, ms_n26, ms_k27, ms_n27, ms_k28, ms_n28, ms_k29, ms_n29, ms_k30, ms_n30, ms_k31, ms_n31, ms_k32, ms_n32, ms_k33, ms_n33, ms_k34, ms_n34, ms_k35, ms_n35, ms_k36, ms_n36, ms_k37, ms_n37, ms_k38, ms_n38, ms_k39, ms_n39, ms_k40, ms_n40, ms_k41, ms_n41, ms_k50, ms_n50, ms_k51, ms_n51, ms_k52, ms_n52, ms_k53, ms_n53, ms_r0_0, ms_r0_6, ms_r2_0, ms_r2_1, ms_r0_7, ms_r5_0, ms_r5_1, ms_r0_8, ms_r8_0, ms_r8_1, ms_r0_9, ms_r11_0, ms_r11_1, ms_r0_10, ms_r14_0, ms_r14_1, ms_r0_11, ms_r17_0, ms_r17_1, ms_r0_12, ms_r20_0, ms_r20_1, ms_r0_13, ms_r23_0, ms_r23_1, ms_r0_14, ms_r0_15, ms_r0_16, ms_r0_17, ms_r0_18, ms_r0_23, ms_r0_24, ms_r0_25, ms_r0_26, ms_r0_30, ms_r0_31, ms_r0_32, ms_r0_35, ms_r0_36, ms_r0_39, ms_r0_40, ms_r0_41, ms_r0_42, ms_r0_43, ms_r0_47, H, b1, m_total hn H HV, i_le]
    unfold wonS bI
    by_cases c1 : no < yes <;> simp [c0, c1]
  · obtain ⟨b2, b3⟩ := b2.resolve_left c0
    simp only [F_X3_isWon, chk_true, bnd_some, ob_some, oc_some, oc_none, hl_eq, jn_eq, ix_0, ix_1, if_true, if_false, inb0_2, inb1_2, not_true_eq_false, not_false_eq_true, ite_true, ite_false, true_or, or_true, or_self, zero_eq_one_I, one_eq_zero_I, ms_k0, ms_k1, ms_n1, ms_k2, ms_n2, ms_k3, ms_n3, ms_k4, ms_n4, ms_k5, ms_n5, ms_k6, ms_n6, ms_k7, ms_n7, ms_k8, ms_n8, ms_k9, ms_n9, ms_k10, ms_n10, ms_k11, ms_n11, ms_k12, ms_n12, ms_k13, ms_n13, ms_k14, ms_n14, ms_k15, ms_n15, ms_k16, ms_n16, ms_k17, ms_n17, ms_k18, ms_n18, ms_k19, ms_n19, ms_k20, ms_n20, ms_k21, ms_n21, ms_k22, ms_n22, ms_k23, ms_n23, ms_k24, ms_n24, ms_k25, ms_n25, ms_k26, ms_n26, ms_k27, ms_n27, ms_k28, ms_n28, ms_k29, ms_n29, ms_k30, ms_n30, ms_k31, ms_n31, ms_k32, ms_n32, ms_k33, ms_n33, ms_k34, ms_n34, ms_k35, ms_n35, ms_k36, ms_n36, ms_k37, ms_n37, ms_k38, ms_n38, ms_k39, ms_n39, ms_k40, ms_n40, ms_k41, ms_n41, ms_k50, ms_n50, ms_k51, ms_n51, ms_k52, ms_n52, ms_k53, ms_n53, ms_r0_0, ms_r0_6, ms_r2_0, ms_r2_1, ms_r0_7, ms_r5_0, ms_r5_1, ms_r0_8, ms_r8_0, ms_r8_1, ms_r0_9, ms_r11_0, ms_r11_1, ms_r0_10, ms_r14_0, ms_r14_1, ms_r0_11, ms_r17_0, ms_r17_1, ms_r0_12, ms_r20_0, ms_r20_1, ms_r0_13, ms_r23_0, ms_r23_1, ms_r0_14, ms_r0_15, ms_r0_16, ms_r0_17, ms_r0_18, ms_r0_23, ms_r0_24, ms_r0_25, ms_r0_26, ms_r0_30, ms_r0_31, ms_r0_32, ms_r0_35, ms_r0_36, ms_r0_39, ms_r0_40, ms_r0_41, ms_r0_42, ms_r0_43, ms_r0_47, H, b1, b2, b3, m_total hn H HV, i_le]
    unfold wonS bI
    by_cases c1 : bk = 1
    · by_cases c2 : bp * totS V nv < yes * bw <;> simp [c1, c2]
    · by_cases c2 : yes * bw < bp * totS V nv <;> by_cases c3 : no < yes <;> simp [c0, c1, c2, c3]
theorem m_beatsAt {n : Nat} {K : Nat → Nat} {m : Nat} {h : AH} {nv : Nat} {V : Nat → Nat → Int32} {bk bp bw : Int32} (hn : 20 < n) (H : MSh m h) (HV : MV m h nv V) (HB : MB m h bk bp bw) (ax ay bx byy : Int32) : F_X3_beatsAt n K m ax ay bx byy h = some (bI (beatS V nv bk bp bw ax ay bx byy), h) := by
  simp only [F_X3_beatsAt, chk_true, bnd_some, ob_some, oc_some, oc_none, hl_eq, jn_eq, ix_0, ix_1, if_true, if_false, inb0_2, inb1_2, not_true_eq_false, not_false_eq_true, ite_true, ite_false, true_or, or_true, or_self, zero_eq_one_I, one_eq_zero_I, ms_k0, ms_k1, ms_n1, ms_k2, ms_n2, ms_k3, ms_n3, ms_k4, ms_n4, ms_k5, ms_n5, ms_k6, ms_n6, ms_k7, ms_n7, ms_k8, ms_n8, ms_k9, ms_n9, ms_k10, ms_n10, ms_k11, ms_n11, ms_k12, ms_n12, ms_k13, ms_n13, ms_k14, ms_n14, ms_k15, ms_n15, ms_k16, ms_n16, ms_k17, ms_n17, ms_k18, ms_n18, ms_k19, ms_n19, ms_k20, ms_n20, ms_k21, ms_n21, ms_k22, ms_n22, ms_k23, ms_n23, ms_k24, ms_n24, ms_k25, ms_n25, ms_k26, ms_n26, ms_k27, ms_n27, ms_k28, ms_n28, ms_k29, ms_n29, ms_k30, ms_n30, ms_k31, ms_n31, ms_k32, ms_n32, ms_k33, ms_n33, ms_k34, ms_n34, ms_k35, ms_n35, ms_k36, ms_n36, ms_k37, ms_n37, ms_k38, ms_n38, ms_k39, ms_n39, ms_k40, ms_n40, ms_k41, ms_n41, ms_k50, ms_n50, ms_k51, ms_n51, ms_k52, ms_n52, ms_k53, ms_n53, ms_r0_0, ms_r0_6, ms_r2_0, ms_r2_1, ms_r0_7, ms_r5_0, ms_r5_1, ms_r0_8, ms_r8_0, ms_r8_1, ms_r0_9, ms_r11_0, ms_r11_1, ms_r0_10, ms_r14_0, ms_r14_1, ms_r0_11, ms_r17_0, ms_r17_1, ms_r0_12, ms_r20_0, ms_r20_1, ms_r0_13, ms_r23_0, ms_r23_1, ms_r0_14, ms_r0_15, ms_r0_16, ms_r0_17, ms_r0_18, ms_r0_23, ms_r0_24, ms_r0_25, ms_r0_26, ms_r0_30, ms_r0_31, ms_r0_32, ms_r0_35, ms_r0_36, ms_r0_39, ms_r0_40, ms_r0_41, ms_r0_42, ms_r0_43, ms_r0_47, H, m_forOf hn H HV, m_isWon hn H HV HB, bI_01, beatS]
theorem x_rather {n : Nat} {K : Nat → Nat} {x : Nat} {h : AH} {e nv : Nat} {E : Nat → Nat} {V : Nat → Nat → Int32} (HV : XV K x h e nv E V) {v : Nat} (hv : v < nv) (ax ay bx byy : Int32) : ∃ r, F_X5_rather n K (E v) ax ay bx byy h = some (r, h) ∧ ((r ≤ 0) ↔ ¬ wayS (V v 3) (V v 4) (V v 5) (V v 0) (V v 1) ax ay < wayS (V v 3) (V v 4) (V v 5) (V v 0) (V v 1) bx byy) := by
  obtain ⟨gk, g3, g0, g1, g2, g4, g5⟩ := HV.2.2 v hv
  simp only [F_X5_rather, gk, and_self, chk_true, bnd_some, ob_some, oc_some, oc_none, hl_eq, jn_eq, ix_0, ix_1, if_true, if_false, inb0_2, inb1_2, not_true_eq_false, not_false_eq_true, ite_true, ite_false, true_or, or_true, or_self, zero_eq_one_I, one_eq_zero_I, x_way HV hv, F_J15_compare]
  generalize wayS (V v 3) (V v 4) (V v 5) (V v 0) (V v 1) ax ay = p
  generalize wayS (V v 3) (V v 4) (V v 5) (V v 0) (V v 1) bx byy = q
  by_cases c1 : p ≤ q
  · by_cases c2 : q = p
    · refine ⟨0, by simp [c1, c2, bnd], ?_⟩
      subst c2
      constructor
      · intro _ hh; exact Int32.lt_irrefl hh
      · intro _; decide
    · refine ⟨1, by simp [c1, c2, bnd], ?_⟩
      constructor
      · intro hh; exact absurd hh (by decide)
      · intro hh
        exfalso
        apply hh
        rw [Int32.lt_iff_toInt_lt]; rw [Int32.le_iff_toInt_le] at c1
        have : q.toInt ≠ p.toInt := fun z => c2 (Int32.toInt_inj.1 z)
        omega
  · refine ⟨-1, by simp [c1, bnd], ?_⟩
    constructor
    · intro _ hh; apply c1; rw [Int32.le_iff_toInt_le]; rw [Int32.lt_iff_toInt_lt] at hh; omega
    · intro _; decide
theorem x_votesFor {n : Nat} {K : Nat → Nat} {x : Nat} {h : AH} {e nv : Nat} {E : Nat → Nat} {V : Nat → Nat → Int32} (hn : 20 < n) (H : XSh x h) (HV : XV K x h e nv E V) (ax ay bx byy : Int32) : F_X0_votesFor n K x ax ay bx byy h = some (forS V ax ay bx byy nv, h) := by
  have h15 := HV.2.1
  have key := loopU (fun f i (s : Int32) => F_X0_votesFor_L6 n K x ax ay bx byy f i s h) nv (fun k s => s = forS V ax ay bx byy k) (fun o => o = some (forS V ax ay bx byy nv, h))
    (by
      intro f k s hk hs
      right
      refine ⟨_, rfl, ?_⟩
      have e3 : (nI nv ≤ nI k) = False := eq_false (nI_ge hk (by omega))
      obtain ⟨gk, g3, g0, g1, g2, g4, g5⟩ := HV.2.2 k hk
      obtain ⟨r, hr, hr2⟩ := x_rather (n := n) HV hk ax ay bx byy
      simp only [F_X0_votesFor_L6, chk_true, bnd_some, ob_some, oc_some, oc_none, hl_eq, jn_eq, ix_0, ix_1, if_true, if_false, inb0_2, inb1_2, not_true_eq_false, not_false_eq_true, ite_true, ite_false, true_or, or_true, or_self, zero_eq_one_I, one_eq_zero_I, xs_k0, xs_k1, xs_n1, xs_k2, xs_k3, xs_k4, xs_k5, xs_k6, xs_k7, xs_k8, xs_k9, xs_k10, xs_k11, xs_n11, xs_k12, xs_n12, xs_k13, xs_n13, xs_k14, xs_n14, xs_k15, xs_n15, xs_k16, xs_n16, xs_k17, xs_n17, xs_k18, xs_n18, xs_k27, xs_n27, xs_k28, xs_n28, xs_r0_0, xs_r0_1, xs_r2_8, xs_r2_9, xs_r0_2, xs_r0_3, xs_r0_4, xs_r0_8, xs_r0_9, xs_r0_10, xs_r0_18, xs_r0_19, xs_r0_20, xs_r0_21, xs_r0_22, xs_r0_25, xs_r0_26, xs_r0_27, xs_r0_28, H, l_size HV.1, l_get HV.1 hk, e3, gk, and_self, hr, g2, nI_1, hs, forS, hr2]
      by_cases hc : wayS (V k 3) (V k 4) (V k 5) (V k 0) (V k 1) ax ay < wayS (V k 3) (V k 4) (V k 5) (V k 0) (V k 1) bx byy
      · simp only [hc, chk_true, bnd_some, ob_some, oc_some, oc_none, hl_eq, jn_eq, ix_0, ix_1, if_true, if_false, inb0_2, inb1_2, not_true_eq_false, not_false_eq_true, ite_true, ite_false, true_or, or_true, or_self, zero_eq_one_I, one_eq_zero_I]
      · simp only [hc, chk_true, bnd_some, ob_some, oc_some, oc_none, hl_eq, jn_eq, ix_0, ix_1, if_true, if_false, inb0_2, inb1_2, not_true_eq_false, not_false_eq_true, ite_true, ite_false, true_or, or_true, or_self, zero_eq_one_I, one_eq_zero_I])
    (by
      intro f s hs
      have e3 : (nI nv ≤ nI nv) = True := eq_true (nI_le (Nat.le_refl _) (by omega))
      simp only [F_X0_votesFor_L6, chk_true, bnd_some, ob_some, oc_some, oc_none, hl_eq, jn_eq, ix_0, ix_1, if_true, if_false, inb0_2, inb1_2, not_true_eq_false, not_false_eq_true, ite_true, ite_false, true_or, or_true, or_self, zero_eq_one_I, one_eq_zero_I, xs_k0, xs_k1, xs_n1, xs_k2, xs_k3, xs_k4, xs_k5, xs_k6, xs_k7, xs_k8, xs_k9, xs_k10, xs_k11, xs_n11, xs_k12, xs_n12, xs_k13, xs_n13, xs_k14, xs_n14, xs_k15, xs_n15, xs_k16, xs_n16, xs_k17, xs_n17, xs_k18, xs_n18, xs_k27, xs_n27, xs_k28, xs_n28, xs_r0_0, xs_r0_1, xs_r2_8, xs_r2_9, xs_r0_2, xs_r0_3, xs_r0_4, xs_r0_8, xs_r0_9, xs_r0_10, xs_r0_18, xs_r0_19, xs_r0_20, xs_r0_21, xs_r0_22, xs_r0_25, xs_r0_26, xs_r0_27, xs_r0_28, H, l_size HV.1, e3, hs])
  exact key nv 0 0 n (by omega) (by omega) rfl
theorem x_wins {n : Nat} {K : Nat → Nat} {x : Nat} {h : AH} {b : Nat} {bk bp bw all : Int32} (HB : XB x h b bk bp bw all) (yes no al : Int32) : F_X2_wins n K b yes no al h = some (bI (wonS bk bp bw al yes no), h) := by
  obtain ⟨_, b0, b1, b2, b3, _⟩ := HB
  simp only [F_X2_wins, chk_true, bnd_some, ob_some, oc_some, oc_none, hl_eq, jn_eq, ix_0, ix_1, if_true, if_false, inb0_2, inb1_2, not_true_eq_false, not_false_eq_true, ite_true, ite_false, true_or, or_true, or_self, zero_eq_one_I, one_eq_zero_I, b0, b1, b2, b3, i_le]
  unfold wonS bI
  by_cases c0 : bk = 0
  · by_cases c1 : no < yes <;> simp [c0, c1]
  · by_cases c1 : bk = 1
    · by_cases c2 : bp * al < yes * bw <;> simp [c1, c2]
    · by_cases c2 : yes * bw < bp * al <;> by_cases c3 : no < yes <;> simp [c0, c1, c2, c3]
theorem x_isBeaten {n : Nat} {K : Nat → Nat} {x : Nat} {h : AH} {e nv b : Nat} {E : Nat → Nat} {V : Nat → Nat → Int32} {bk bp bw : Int32} (hn : 20 < n) (H : XSh x h) (HV : XV K x h e nv E V) (HB : XB x h b bk bp bw (totS V nv)) (bx byy ax ay : Int32) : F_X0_isBeaten n K x bx byy ax ay h = some (bI (beatS V nv bk bp bw ax ay bx byy), h) := by
  have hw := fun yes no al => x_wins (n := n) (K := K) HB yes no al
  obtain ⟨b5, b0, b1, b2, b3, b4⟩ := HB
  simp only [F_X0_isBeaten, chk_true, bnd_some, ob_some, oc_some, oc_none, hl_eq, jn_eq, ix_0, ix_1, if_true, if_false, inb0_2, inb1_2, not_true_eq_false, not_false_eq_true, ite_true, ite_false, true_or, or_true, or_self, zero_eq_one_I, one_eq_zero_I, xs_k0, xs_k1, xs_n1, xs_k2, xs_k3, xs_k4, xs_k5, xs_k6, xs_k7, xs_k8, xs_k9, xs_k10, xs_k11, xs_n11, xs_k12, xs_n12, xs_k13, xs_n13, xs_k14, xs_n14, xs_k15, xs_n15, xs_k16, xs_n16, xs_k17, xs_n17, xs_k18, xs_n18, xs_k27, xs_n27, xs_k28, xs_n28, xs_r0_0, xs_r0_1, xs_r2_8, xs_r2_9, xs_r0_2, xs_r0_3, xs_r0_4, xs_r0_8, xs_r0_9, xs_r0_10, xs_r0_18, xs_r0_19, xs_r0_20, xs_r0_21, xs_r0_22, xs_r0_25, xs_r0_26, xs_r0_27, xs_r0_28, H, x_votesFor hn H HV, b5, b0, b4, hw, bI_01, beatS]
