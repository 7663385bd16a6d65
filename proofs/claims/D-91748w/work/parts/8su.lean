/-! PURE PART SU: the model takes a sheet -/
set_option maxRecDepth 100000
def sheetZ (Z : Zt) : Zt := match textP Z.T Z.tm with
  | .inl _ => Z
  | .inr P => (P.1, (0, Z.T), (0, Z.Mo))
def sheetS (Z : Zt) : Int32 := match textP Z.T Z.tm with
  | .inl _ => -1
  | .inr P => nI P.1.nv
/-- first rows taken over from second rows, up to k -/
abbrev RwV (m a : Nat) : Prop := a = m + 3 ∨ a = m + 6 ∨ a = m + 9 ∨ a = m + 12 ∨ a = m + 15 ∨ a = m + 18
abbrev RwP (m a : Nat) : Prop := a = m + 21 ∨ a = m + 24
def CpR (Rw : Nat → Prop) [DecidablePred Rw] (g : AH) (k : Nat) (h : AH) : Prop := h.1 = g.1 ∧ h.kind = g.kind ∧ h.len = g.len ∧ h.L = g.L ∧ h.R = g.R ∧ ∀ a j, h.I a j = if Rw a ∧ j < k then g.I (a + 1) j else g.I a j
theorem CpR_sh {Rw : Nat → Prop} [DecidablePred Rw] {g : AH} {k : Nat} {h : AH} {m : Nat} (C : CpR Rw g k h) (H : MSh m g) : MSh m h := by
  obtain ⟨c1, c2, c3, c4, c5, c6⟩ := C
  unfold MSh
  rw [c2, c3, c5]
  exact H
theorem m_sheetV {n : Nat} {K : Nat → Nat} {m : Nat} {g : AH} (hn : 20000 < n) (H : MSh m g) (kt : AH → Option (Int32 × AH)) : ∃ h', CpR (RwV m) g 15 h' ∧ F_X3_sheet_L76 n K m n 0 g kt = kt h' := by
  refine loopU (fun f i h => F_X3_sheet_L76 n K m f i h kt) 15 (fun k h => CpR (RwV m) g k h) (fun o => ∃ h', CpR (RwV m) g 15 h' ∧ o = kt h') ?_ ?_ 15 0 g n (by omega) (by omega) ⟨rfl, rfl, rfl, rfl, rfl, fun a j => by rw [if_neg (by omega)]⟩
  · intro f k h hk C
    right
    have Sh := CpR_sh C H
    obtain ⟨ex, eb⟩ := i12 hk
    have e1 : (15 ≤ nI k) = False := by rw [show (15 : Int32) = nI 15 from rfl]; exact eq_false (nI_ge hk (by omega))
    refine ⟨(((((h.setI (m + 3) k (h.I (m + 4) k)).setI (m + 6) k (h.I (m + 7) k)).setI (m + 9) k (h.I (m + 10) k)).setI (m + 12) k (h.I (m + 13) k)).setI (m + 15) k (h.I (m + 16) k)).setI (m + 18) k (h.I (m + 19) k), ?_, ?_⟩
    · obtain ⟨c1, c2, c3, c4, c5, c6⟩ := C
      refine ⟨c1, c2, c3, c4, c5, fun a j => ?_⟩
      have nr : ∀ i, (i = 4 ∨ i = 7 ∨ i = 10 ∨ i = 13 ∨ i = 16 ∨ i = 19) → h.I (m + i) k = g.I (m + i) k := fun i hi => by rw [c6, if_neg (fun z => by have := z.1; unfold RwV at this; omega)]
      by_cases z : j = k
      · subst z
        by_cases w : RwV m a
        · rw [if_pos ⟨w, by omega⟩]
          rcases w with w | w | w | w | w | w
          · rw [w, setI_O (by omega), setI_O (by omega), setI_O (by omega), setI_O (by omega), setI_O (by omega), setI_I]; exact nr 4 (by omega)
          · rw [w, setI_O (by omega), setI_O (by omega), setI_O (by omega), setI_O (by omega), setI_I]; exact nr 7 (by omega)
          · rw [w, setI_O (by omega), setI_O (by omega), setI_O (by omega), setI_I]; exact nr 10 (by omega)
          · rw [w, setI_O (by omega), setI_O (by omega), setI_I]; exact nr 13 (by omega)
          · rw [w, setI_O (by omega), setI_I]; exact nr 16 (by omega)
          · rw [w, setI_I]; exact nr 19 (by omega)
        · rw [if_neg (fun y => w y.1)]
          have w' := w
          unfold RwV at w'
          rw [setI_O (by omega), setI_O (by omega), setI_O (by omega), setI_O (by omega), setI_O (by omega), setI_O (by omega), c6, if_neg (fun y => w y.1)]
      · rw [setI_O (by omega), setI_O (by omega), setI_O (by omega), setI_O (by omega), setI_O (by omega), setI_O (by omega), c6]
        by_cases y : RwV m a ∧ j < k
        · rw [if_pos y, if_pos ⟨y.1, by omega⟩]
        · rw [if_neg y, if_neg (fun q => y ⟨q.1, by omega⟩)]
    · have o1 : (h.setI (m + 3) k (h.I (m + 4) k)).I (m + 7) k = h.I (m + 7) k := setI_O (by omega)
      have o2 : ((h.setI (m + 3) k (h.I (m + 4) k)).setI (m + 6) k (h.I (m + 7) k)).I (m + 10) k = h.I (m + 10) k := by rw [setI_O (by omega), setI_O (by omega)]
      have o3 : (((h.setI (m + 3) k (h.I (m + 4) k)).setI (m + 6) k (h.I (m + 7) k)).setI (m + 9) k (h.I (m + 10) k)).I (m + 13) k = h.I (m + 13) k := by rw [setI_O (by omega), setI_O (by omega), setI_O (by omega)]
      have o4 : ((((h.setI (m + 3) k (h.I (m + 4) k)).setI (m + 6) k (h.I (m + 7) k)).setI (m + 9) k (h.I (m + 10) k)).setI (m + 12) k (h.I (m + 13) k)).I (m + 16) k = h.I (m + 16) k := by rw [setI_O (by omega), setI_O (by omega), setI_O (by omega), setI_O (by omega)]
      have o5 : (((((h.setI (m + 3) k (h.I (m + 4) k)).setI (m + 6) k (h.I (m + 7) k)).setI (m + 9) k (h.I (m + 10) k)).setI (m + 12) k (h.I (m + 13) k)).setI (m + 15) k (h.I (m + 16) k)).I (m + 19) k = h.I (m + 19) k := by rw [setI_O (by omega), setI_O (by omega), setI_O (by omega), setI_O (by omega), setI_O (by omega)]
      simp only [F_X3_sheet_L76, chk_true, bnd_some, ob_some, oc_some, oc_none, hl_eq, jn_eq, ix_0, ix_1, if_true, if_false, inb0_2, inb1_2, not_true_eq_false, not_false_eq_true, ite_true, ite_false, true_or, or_true, or_self, zero_eq_one_I, one_eq_zero_I, AH.n_setI, AH.n_setL, AH.n_setR, AH.sl_setI, AH.sl_setL, AH.sl_setR, AH.kind_setI, AH.kind_setL, AH.kind_setR, AH.len_setI, AH.len_setL, AH.len_setR, AH.I_setL, AH.I_setR, AH.L_setI, AH.L_setR, AH.R_setI, AH.R_setL, ms_k0, ms_k1, ms_n1, ms_k2, ms_n2, ms_k3, ms_n3, ms_k4, ms_n4, ms_k5, ms_n5, ms_k6, ms_n6, ms_k7, ms_n7, ms_k8, ms_n8, ms_k9, ms_n9, ms_k10, ms_n10, ms_k11, ms_n11, ms_k12, ms_n12, ms_k13, ms_n13, ms_k14, ms_n14, ms_k15, ms_n15, ms_k16, ms_n16, ms_k17, ms_n17, ms_k18, ms_n18, ms_k19, ms_n19, ms_k20, ms_n20, ms_k21, ms_n21, ms_k22, ms_n22, ms_k23, ms_n23, ms_k24, ms_n24, ms_k25, ms_n25, ms_k26, ms_n26, ms_k27, ms_n27, ms_k28, ms_n28, ms_k29, ms_n29, ms_k30, ms_n30, ms_k31, ms_n31, ms_k32, ms_n32, ms_k33, ms_n33, ms_k34, ms_n34, ms_k35, ms_n35, ms_k36, ms_n36, ms_k37, ms_n37, ms_k38, ms_n38, ms_k39, ms_n39, ms_k40, ms_n40, ms_k41, ms_n41, ms_k50, ms_n50, ms_k51, ms_n51, ms_k52, ms_n52, ms_k53, ms_n53, ms_r0_0, ms_r0_6, ms_r2_0, ms_r2_1, ms_r0_7, ms_r5_0, ms_r5_1, ms_r0_8, ms_r8_0, ms_r8_1, ms_r0_9, ms_r11_0, ms_r11_1, ms_r0_10, ms_r14_0, ms_r14_1, ms_r0_11, ms_r17_0, ms_r17_1, ms_r0_12, ms_r20_0, ms_r20_1, ms_r0_13, ms_r23_0, ms_r23_1, ms_r0_14, ms_r0_15, ms_r0_16, ms_r0_17, ms_r0_18, ms_r0_23, ms_r0_24, ms_r0_25, ms_r0_26, ms_r0_30, ms_r0_31, ms_r0_32, ms_r0_35, ms_r0_36, ms_r0_39, ms_r0_40, ms_r0_41, ms_r0_42, ms_r0_43, ms_r0_47, Sh, ex, eb, e1, o1, o2, o3, o4, o5, nI_1]
  · intro f h C
    refine ⟨h, C, ?_⟩
    have e1 : (15 ≤ nI 15) = True := eq_true (by decide)
    simp only [F_X3_sheet_L76, e1, if_true]
theorem m_sheetP {n : Nat} {K : Nat → Nat} {m : Nat} {g : AH} (hn : 20000 < n) (H : MSh m g) : ∃ h', CpR (RwP m) g 20 h' ∧ F_X3_sheet_L186 n K m n 0 g = F_X3_sheet_L186 n K m 1 20 h' := by
  refine loopU (fun f i h => F_X3_sheet_L186 n K m f i h) 20 (fun k h => CpR (RwP m) g k h) (fun o => ∃ h', CpR (RwP m) g 20 h' ∧ o = F_X3_sheet_L186 n K m 1 20 h') ?_ ?_ 20 0 g n (by omega) (by omega) ⟨rfl, rfl, rfl, rfl, rfl, fun a j => by rw [if_neg (by omega)]⟩
  · intro f k h hk C
    right
    have Sh := CpR_sh C H
    obtain ⟨ex, eb⟩ := i20 hk
    have e1 : (20 ≤ nI k) = False := by rw [show (20 : Int32) = nI 20 from rfl]; exact eq_false (nI_ge hk (by omega))
    refine ⟨(h.setI (m + 21) k (h.I (m + 22) k)).setI (m + 24) k (h.I (m + 25) k), ?_, ?_⟩
    · obtain ⟨c1, c2, c3, c4, c5, c6⟩ := C
      refine ⟨c1, c2, c3, c4, c5, fun a j => ?_⟩
      have nr : ∀ i, (i = 22 ∨ i = 25) → h.I (m + i) k = g.I (m + i) k := fun i hi => by rw [c6, if_neg (fun z => by have := z.1; unfold RwP at this; omega)]
      by_cases z : j = k
      · subst z
        by_cases w : RwP m a
        · rw [if_pos ⟨w, by omega⟩]
          rcases w with w | w
          · rw [w, setI_O (by omega), setI_I]; exact nr 22 (by omega)
          · rw [w, setI_I]; exact nr 25 (by omega)
        · rw [if_neg (fun y => w y.1)]
          have w' := w
          unfold RwP at w'
          rw [setI_O (by omega), setI_O (by omega), c6, if_neg (fun y => w y.1)]
      · rw [setI_O (by omega), setI_O (by omega), c6]
        by_cases y : RwP m a ∧ j < k
        · rw [if_pos y, if_pos ⟨y.1, by omega⟩]
        · rw [if_neg y, if_neg (fun q => y ⟨q.1, by omega⟩)]
    · have o1 : (h.setI (m + 21) k (h.I (m + 22) k)).I (m + 25) k = h.I (m + 25) k := setI_O (by omega)
      simp only [F_X3_sheet_L186, chk_true, bnd_some, ob_some, oc_some, oc_none, hl_eq, jn_eq, ix_0, ix_1, if_true, if_false, inb0_2, inb1_2, not_true_eq_false, not_false_eq_true, ite_true, ite_false, true_or, or_true, or_self, zero_eq_one_I, one_eq_zero_I, AH.n_setI, AH.n_setL, AH.n_setR, AH.sl_setI, AH.sl_setL, AH.sl_setR, AH.kind_setI, AH.kind_setL, AH.kind_setR, AH.len_setI, AH.len_setL, AH.len_setR, AH.I_setL, AH.I_setR, AH.L_setI, AH.L_setR, AH.R_setI, AH.R_setL, ms_k0, ms_k1, ms_n1, ms_k2, ms_n2, ms_k3, ms_n3, ms_k4, ms_n4, ms_k5, ms_n5, ms_k6, ms_n6, ms_k7, ms_n7, ms_k8, ms_n8, ms_k9, ms_n9, ms_k10, ms_n10, ms_k11, ms_n11, ms_k12, ms_n12, ms_k13, ms_n13, ms_k14, ms_n14, ms_k15, ms_n15, ms_k16, ms_n16, ms_k17, ms_n17, ms_k18, ms_n18, ms_k19, ms_n19, ms_k20, ms_n20, ms_k21, ms_n21, ms_k22, ms_n22, ms_k23, ms_n23, ms_k24, ms_n24, ms_k25, ms_n25, ms_k26, ms_n26, ms_k27, ms_n27, ms_k28, ms_n28, ms_k29, ms_n29, ms_k30, ms_n30, ms_k31, ms_n31, ms_k32, ms_n32, ms_k33, ms_n33, ms_k34, ms_n34, ms_k35, ms_n35, ms_k36, ms_n36, ms_k37, ms_n37, ms_k38, ms_n38, ms_k39, ms_n39, ms_k40, ms_n40, ms_k41, ms_n41, ms_k50, ms_n50, ms_k51, ms_n51, ms_k52, ms_n52, ms_k53, ms_n53, ms_r0_0, ms_r0_6, ms_r2_0, ms_r2_1, ms_r0_7, ms_r5_0, ms_r5_1, ms_r0_8, ms_r8_0, ms_r8_1, ms_r0_9, ms_r11_0, ms_r11_1, ms_r0_10, ms_r14_0, ms_r14_1, ms_r0_11, ms_r17_0, ms_r17_1, ms_r0_12, ms_r20_0, ms_r20_1, ms_r0_13, ms_r23_0, ms_r23_1, ms_r0_14, ms_r0_15, ms_r0_16, ms_r0_17, ms_r0_18, ms_r0_23, ms_r0_24, ms_r0_25, ms_r0_26, ms_r0_30, ms_r0_31, ms_r0_32, ms_r0_35, ms_r0_36, ms_r0_39, ms_r0_40, ms_r0_41, ms_r0_42, ms_r0_43, ms_r0_47, Sh, ex, eb, e1, o1, nI_1]
  · intro f h C
    refine ⟨h, C, ?_⟩
    have e1 : ((20 : Int32) ≤ nI 20) = True := eq_true (by decide)
    have e2 : ((20 : Int32) ≤ 20) = True := eq_true (by decide)
    simp only [F_X3_sheet_L186, e1, e2, if_true]
/-- where the taking writes -/
def PkS (m a j : Nat) : Prop := (a = m ∧ (j = 1 ∨ j = 29 ∨ j = 48)) ∨ RwV m a ∨ RwP m a ∨ (m + 26 ≤ a ∧ a ≤ m + 30)
theorem PkS_w {m a j : Nat} (z : PkS m a j) : RgW m a j ∧ a ≠ m + 31 := by
  have h1 : ∀ p, p ∈ mRs → (p.1 ≠ 3 ∧ p.1 ≠ 6 ∧ p.1 ≠ 9 ∧ p.1 ≠ 12 ∧ p.1 ≠ 15 ∧ p.1 ≠ 18 ∧ p.1 ≠ 21 ∧ p.1 ≠ 24) ∧ (p.1 ≠ 26 ∧ p.1 ≠ 27 ∧ p.1 ≠ 28 ∧ p.1 ≠ 29 ∧ p.1 ≠ 30) ∧ (p.1 = 0 → p.2.1 ≠ 1 ∧ p.2.1 ≠ 29 ∧ p.2.1 ≠ 48) := by decide
  unfold PkS RwV RwP at z
  refine ⟨⟨⟨by omega, by omega⟩, fun p hp w => ?_⟩, by omega⟩
  obtain ⟨a1, a2, a3⟩ := h1 p hp
  rcases z with z | z | z | z
  · have := a3 (by omega); omega
  · omega
  · omega
  · omega
theorem om_sheet {n : Nat} {K : Nat → Nat} {m : Nat} {h : AH} {Z : Zt} (hn : 20000 < n) (bz : Bz Z) (I : InvM m h Z) (C : CK K h) (R31 : ∀ j, j < 4 → h.R (m + 31) j = some (K (5 + j))) : MOk m (sheetZ Z) (sheetS Z) (F_X3_sheet n K m h) h := by
  obtain ⟨h2, e, g⟩ := m_reads (n := n) (K := K) (h0 := h) (h := h) hn ⟨Fr_refl h, I, C, R31, bz.2.1, bz.2.2.1⟩
  have k0 := ms_k0 I.1.1
  have h6 := bz.2.1
  unfold sheetZ sheetS
  cases hq : textP Z.T Z.tm with
  | inl p =>
    rw [hq] at g
    obtain ⟨B, i4, pl⟩ := g
    have k1 := ms_k0 B.2.1.1.1
    have t : (nI p = -1) = False := nI_m1 (by omega)
    refine ⟨h2, ?_, B.2.1, B.1⟩
    simp only [F_X3_sheet, chk_true, bnd_some, ob_some, oc_some, oc_none, hl_eq, jn_eq, ix_0, ix_1, if_true, if_false, inb0_2, inb1_2, not_true_eq_false, not_false_eq_true, ite_true, ite_false, true_or, or_true, or_self, zero_eq_one_I, one_eq_zero_I, k0, e, k1, i4, t]
  | inr P =>
    rw [hq] at g
    obtain ⟨B, i4, Q⟩ := g
    have S2 := B.2.1.1.1
    have q26 := Q.2.1.1
    have q27 := Q.2.2.1.1
    obtain ⟨q28, q29, q30⟩ := Q.2.2.2
    have ev : F_X3_sheet n K m h = F_X3_sheet_L76 n K m n 0 (((((h2.setI (m + 26) 0 (h2.I (m + 26) 1)).setI (m + 27) 0 (h2.I (m + 27) 1)).setI (m + 28) 0 (h2.I (m + 28) 1)).setI (m + 29) 0 (h2.I (m + 29) 1)).setI (m + 30) 0 (h2.I (m + 30) 1)) fun h125 => F_X3_sheet_L186 n K m n 0 h125 := by
      have o1 : (h2.setI (m + 26) 0 (h2.I (m + 26) 1)).I (m + 27) 1 = h2.I (m + 27) 1 := setI_O (by omega)
      have o2 : ((h2.setI (m + 26) 0 (h2.I (m + 26) 1)).setI (m + 27) 0 (h2.I (m + 27) 1)).I (m + 28) 1 = h2.I (m + 28) 1 := by rw [setI_O (by omega), setI_O (by omega)]
      have o3 : (((h2.setI (m + 26) 0 (h2.I (m + 26) 1)).setI (m + 27) 0 (h2.I (m + 27) 1)).setI (m + 28) 0 (h2.I (m + 28) 1)).I (m + 29) 1 = h2.I (m + 29) 1 := by rw [setI_O (by omega), setI_O (by omega), setI_O (by omega)]
      have o4 : ((((h2.setI (m + 26) 0 (h2.I (m + 26) 1)).setI (m + 27) 0 (h2.I (m + 27) 1)).setI (m + 28) 0 (h2.I (m + 28) 1)).setI (m + 29) 0 (h2.I (m + 29) 1)).I (m + 30) 1 = h2.I (m + 30) 1 := by rw [setI_O (by omega), setI_O (by omega), setI_O (by omega), setI_O (by omega)]
      simp only [F_X3_sheet, chk_true, bnd_some, ob_some, oc_some, oc_none, hl_eq, jn_eq, ix_0, ix_1, if_true, if_false, inb0_2, inb1_2, not_true_eq_false, not_false_eq_true, ite_true, ite_false, true_or, or_true, or_self, zero_eq_one_I, one_eq_zero_I, AH.n_setI, AH.n_setL, AH.n_setR, AH.sl_setI, AH.sl_setL, AH.sl_setR, AH.kind_setI, AH.kind_setL, AH.kind_setR, AH.len_setI, AH.len_setL, AH.len_setR, AH.I_setL, AH.I_setR, AH.L_setI, AH.L_setR, AH.R_setI, AH.R_setL, ms_k0, ms_k1, ms_n1, ms_k2, ms_n2, ms_k3, ms_n3, ms_k4, ms_n4, ms_k5, ms_n5, ms_k6, ms_n6, ms_k7, ms_n7, ms_k8, ms_n8, ms_k9, ms_n9, ms_k10, ms_n10, ms_k11, ms_n11, ms_k12, ms_n12, ms_k13, ms_n13, ms_k14, ms_n14, ms_k15, ms_n15, ms_k16, ms_n16, ms_k17, ms_n17, ms_k18, ms_n18, ms_k19, ms_n19, ms_k20, ms_n20, ms_k21, ms_n21, ms_k22, ms_n22, ms_k23, ms_n23, ms_k24, ms_n24, ms_k25, ms_n25, ms_k26, ms_n26, ms_k27, ms_n27, ms_k28, ms_n28, ms_k29, ms_n29, ms_k30, ms_n30, ms_k31, ms_n31, ms_k32, ms_n32, ms_k33, ms_n33, ms_k34, ms_n34, ms_k35, ms_n35, ms_k36, ms_n36, ms_k37, ms_n37, ms_k38, ms_n38, ms_k39, ms_n39, ms_k40, ms_n40, ms_k41, ms_n41, ms_k50, ms_n50, ms_k51, ms_n51, ms_k52, ms_n52, ms_k53, ms_n53, ms_r0_0, ms_r0_6, ms_r2_0, ms_r2_1, ms_r0_7, ms_r5_0, ms_r5_1, ms_r0_8, ms_r8_0, ms_r8_1, ms_r0_9, ms_r11_0, ms_r11_1, ms_r0_10, ms_r14_0, ms_r14_1, ms_r0_11, ms_r17_0, ms_r17_1, ms_r0_12, ms_r20_0, ms_r20_1, ms_r0_13, ms_r23_0, ms_r23_1, ms_r0_14, ms_r0_15, ms_r0_16, ms_r0_17, ms_r0_18, ms_r0_23, ms_r0_24, ms_r0_25, ms_r0_26, ms_r0_30, ms_r0_31, ms_r0_32, ms_r0_35, ms_r0_36, ms_r0_39, ms_r0_40, ms_r0_41, ms_r0_42, ms_r0_43, ms_r0_47, k0, e, S2, i4, o1, o2, o3, o4]
    rw [ev, q26, q27, q28, q29, q30]
    have x26 : (((((h2.setI (m + 26) 0 (nI P.1.nv)).setI (m + 27) 0 (nI P.1.np)).setI (m + 28) 0 P.1.bk).setI (m + 29) 0 P.1.bp).setI (m + 30) 0 P.1.bw).I (m + 26) 0 = nI P.1.nv := by rw [setI_O (by omega), setI_O (by omega), setI_O (by omega), setI_O (by omega), setI_I]
    have x27 : (((((h2.setI (m + 26) 0 (nI P.1.nv)).setI (m + 27) 0 (nI P.1.np)).setI (m + 28) 0 P.1.bk).setI (m + 29) 0 P.1.bp).setI (m + 30) 0 P.1.bw).I (m + 27) 0 = nI P.1.np := by rw [setI_O (by omega), setI_O (by omega), setI_O (by omega), setI_I]
    have x28 : (((((h2.setI (m + 26) 0 (nI P.1.nv)).setI (m + 27) 0 (nI P.1.np)).setI (m + 28) 0 P.1.bk).setI (m + 29) 0 P.1.bp).setI (m + 30) 0 P.1.bw).I (m + 28) 0 = P.1.bk := by rw [setI_O (by omega), setI_O (by omega), setI_I]
    have x29 : (((((h2.setI (m + 26) 0 (nI P.1.nv)).setI (m + 27) 0 (nI P.1.np)).setI (m + 28) 0 P.1.bk).setI (m + 29) 0 P.1.bp).setI (m + 30) 0 P.1.bw).I (m + 29) 0 = P.1.bp := by rw [setI_O (by omega), setI_I]
    have x30 : (((((h2.setI (m + 26) 0 (nI P.1.nv)).setI (m + 27) 0 (nI P.1.np)).setI (m + 28) 0 P.1.bk).setI (m + 29) 0 P.1.bp).setI (m + 30) 0 P.1.bw).I (m + 30) 0 = P.1.bw := setI_I _ _ _ _
    have xo : ∀ a j, ¬ (m + 26 ≤ a ∧ a ≤ m + 30) → (((((h2.setI (m + 26) 0 (nI P.1.nv)).setI (m + 27) 0 (nI P.1.np)).setI (m + 28) 0 P.1.bk).setI (m + 29) 0 P.1.bp).setI (m + 30) 0 P.1.bw).I a j = h2.I a j := fun a j z => by rw [setI_O (by omega), setI_O (by omega), setI_O (by omega), setI_O (by omega), setI_O (by omega)]
    have xS : MSh m (((((h2.setI (m + 26) 0 (nI P.1.nv)).setI (m + 27) 0 (nI P.1.np)).setI (m + 28) 0 P.1.bk).setI (m + 29) 0 P.1.bp).setI (m + 30) 0 P.1.bw) := S2
    have xF : Fr 0 0 (fun a j => PkS m a j) h2 (((((h2.setI (m + 26) 0 (nI P.1.nv)).setI (m + 27) 0 (nI P.1.np)).setI (m + 28) 0 P.1.bk).setI (m + 29) 0 P.1.bp).setI (m + 30) 0 P.1.bw) := Fr_of rfl rfl rfl rfl rfl (fun a j z => xo a j (fun w => z (Or.inr (Or.inr (Or.inr w)))))
    generalize ((((h2.setI (m + 26) 0 (nI P.1.nv)).setI (m + 27) 0 (nI P.1.np)).setI (m + 28) 0 P.1.bk).setI (m + 29) 0 P.1.bp).setI (m + 30) 0 P.1.bw = h3 at x26 x27 x28 x29 x30 xo xS xF ⊢
    obtain ⟨h4, C4, e4⟩ := m_sheetV (n := n) (K := K) hn xS (fun h125 => F_X3_sheet_L186 n K m n 0 h125)
    have S4 := CpR_sh C4 xS
    obtain ⟨h5, C5, e5⟩ := m_sheetP (n := n) (K := K) hn S4
    have S5 := CpR_sh C5 S4
    rw [e4, e5]
    have I5 : ∀ a j, h5.I a j = if RwP m a ∧ j < 20 then h3.I (a + 1) j else if RwV m a ∧ j < 15 then h3.I (a + 1) j else h3.I a j := by
      intro a j
      rw [C5.2.2.2.2.2]
      by_cases z : RwP m a ∧ j < 20
      · rw [if_pos z, if_pos z, C4.2.2.2.2.2, if_neg (fun w => by have := z.1; have := w.1; unfold RwP at *; unfold RwV at *; omega)]
      · rw [if_neg z, if_neg z, C4.2.2.2.2.2]
    have o5 : ∀ a j, ¬ RwP m a → ¬ RwV m a → h5.I a j = h3.I a j := fun a j z w => by rw [I5, if_neg (fun q => z q.1), if_neg (fun q => w q.1)]
    have v5 : ∀ i v, RwV m (m + i) → v < 15 → h5.I (m + i) v = h2.I (m + (i + 1)) v := fun i v w hv => by
      rw [I5, if_neg (fun q => by have := q.1; unfold RwP at *; unfold RwV at *; omega), if_pos ⟨w, hv⟩, xo _ _ (by unfold RwV at w; omega)]; rfl
    have p5 : ∀ i v, RwP m (m + i) → v < 20 → h5.I (m + i) v = h2.I (m + (i + 1)) v := fun i v w hv => by
      rw [I5, if_pos ⟨w, hv⟩, xo _ _ (by unfold RwP at w; omega)]; rfl
    have c26 : ∀ i, 26 ≤ i → i ≤ 30 → h5.I (m + i) 0 = h3.I (m + i) 0 := fun i i1 i2 => o5 _ _ (by unfold RwP; omega) (by unfold RwV; omega)
    have fr5 : Fr 0 0 (fun a j => PkS m a j) h3 h5 := Fr_of (C5.1.trans C4.1) (C5.2.1.trans C4.2.1) (C5.2.2.1.trans C4.2.2.1) (C5.2.2.2.1.trans C4.2.2.2.1) (C5.2.2.2.2.1.trans C4.2.2.2.2.1) (fun a j z => o5 a j (fun w => z (Or.inr (Or.inr (Or.inl w)))) (fun w => z (Or.inr (Or.inl w))))
    have e20 : ((20 : Int32) ≤ 20) = True := eq_true (by decide)
    have z26 : (((h5.setI m 1 0).setI m 48 0).setI m 29 0).I (m + 26) 0 = nI P.1.nv := by rw [setI_O (by omega), setI_O (by omega), setI_O (by omega), c26 26 (by omega) (by omega)]; exact x26
    refine ⟨((h5.setI m 1 0).setI m 48 0).setI m 29 0, ?_, ⟨⟨S5, ?_, ?_, ?_⟩, ⟨?_, fun k hk => absurd hk (Nat.not_lt_zero k)⟩, ⟨?_, fun k hk => absurd hk (Nat.not_lt_zero k)⟩, Or.inl (setI_I _ _ _ _)⟩, ?_⟩
    · simp only [F_X3_sheet_L186, F_X3_voters, chk_true, bnd_some, ob_some, oc_some, oc_none, hl_eq, jn_eq, ix_0, ix_1, if_true, if_false, inb0_2, inb1_2, not_true_eq_false, not_false_eq_true, ite_true, ite_false, true_or, or_true, or_self, zero_eq_one_I, one_eq_zero_I, AH.n_setI, AH.n_setL, AH.n_setR, AH.sl_setI, AH.sl_setL, AH.sl_setR, AH.kind_setI, AH.kind_setL, AH.kind_setR, AH.len_setI, AH.len_setL, AH.len_setR, AH.I_setL, AH.I_setR, AH.L_setI, AH.L_setR, AH.R_setI, AH.R_setL, ms_k0, ms_k1, ms_n1, ms_k2, ms_n2, ms_k3, ms_n3, ms_k4, ms_n4, ms_k5, ms_n5, ms_k6, ms_n6, ms_k7, ms_n7, ms_k8, ms_n8, ms_k9, ms_n9, ms_k10, ms_n10, ms_k11, ms_n11, ms_k12, ms_n12, ms_k13, ms_n13, ms_k14, ms_n14, ms_k15, ms_n15, ms_k16, ms_n16, ms_k17, ms_n17, ms_k18, ms_n18, ms_k19, ms_n19, ms_k20, ms_n20, ms_k21, ms_n21, ms_k22, ms_n22, ms_k23, ms_n23, ms_k24, ms_n24, ms_k25, ms_n25, ms_k26, ms_n26, ms_k27, ms_n27, ms_k28, ms_n28, ms_k29, ms_n29, ms_k30, ms_n30, ms_k31, ms_n31, ms_k32, ms_n32, ms_k33, ms_n33, ms_k34, ms_n34, ms_k35, ms_n35, ms_k36, ms_n36, ms_k37, ms_n37, ms_k38, ms_n38, ms_k39, ms_n39, ms_k40, ms_n40, ms_k41, ms_n41, ms_k50, ms_n50, ms_k51, ms_n51, ms_k52, ms_n52, ms_k53, ms_n53, ms_r0_0, ms_r0_6, ms_r2_0, ms_r2_1, ms_r0_7, ms_r5_0, ms_r5_1, ms_r0_8, ms_r8_0, ms_r8_1, ms_r0_9, ms_r11_0, ms_r11_1, ms_r0_10, ms_r14_0, ms_r14_1, ms_r0_11, ms_r17_0, ms_r17_1, ms_r0_12, ms_r20_0, ms_r20_1, ms_r0_13, ms_r23_0, ms_r23_1, ms_r0_14, ms_r0_15, ms_r0_16, ms_r0_17, ms_r0_18, ms_r0_23, ms_r0_24, ms_r0_25, ms_r0_26, ms_r0_30, ms_r0_31, ms_r0_32, ms_r0_35, ms_r0_36, ms_r0_39, ms_r0_40, ms_r0_41, ms_r0_42, ms_r0_43, ms_r0_47, S5, e20, z26]
    · refine ⟨z26, Q.2.1.2.1, fun v hv => ?_⟩
      have hv' : v < P.1.nv := hv
      have n15 := Q.2.1.2.1
      have r : ∀ i, RwV m (m + i) → (((h5.setI m 1 0).setI m 48 0).setI m 29 0).I (m + i) v = h2.I (m + (i + 1)) v := fun i w => by rw [setI_O (by unfold RwV at w; omega), setI_O (by unfold RwV at w; omega), setI_O (by unfold RwV at w; omega), v5 i v w (by omega)]
      rw [r 3 (by unfold RwV; omega), r 6 (by unfold RwV; omega), r 9 (by unfold RwV; omega), r 12 (by unfold RwV; omega), r 15 (by unfold RwV; omega), r 18 (by unfold RwV; omega)]
      exact Q.2.1.2.2 v hv'
    · refine ⟨?_, Q.2.2.1.2.1, fun v hv => ?_⟩
      · rw [setI_O (by omega), setI_O (by omega), setI_O (by omega), c26 27 (by omega) (by omega)]; exact x27
      · have hv' : v < P.1.np := hv
        have n20 := Q.2.2.1.2.1
        have r : ∀ i, RwP m (m + i) → (((h5.setI m 1 0).setI m 48 0).setI m 29 0).I (m + i) v = h2.I (m + (i + 1)) v := fun i w => by rw [setI_O (by unfold RwP at w; omega), setI_O (by unfold RwP at w; omega), setI_O (by unfold RwP at w; omega), p5 i v w (by omega)]
        rw [r 21 (by unfold RwP; omega), r 24 (by unfold RwP; omega)]
        exact Q.2.2.1.2.2 v hv'
    · refine ⟨?_, Or.inr ⟨?_, ?_⟩⟩
      · rw [setI_O (by omega), setI_O (by omega), setI_O (by omega), c26 28 (by omega) (by omega)]; exact x28
      · rw [setI_O (by omega), setI_O (by omega), setI_O (by omega), c26 29 (by omega) (by omega)]; exact x29
      · rw [setI_O (by omega), setI_O (by omega), setI_O (by omega), c26 30 (by omega) (by omega)]; exact x30
    · rw [setI_O (by omega)]; exact setI_I _ _ _ _
    · rw [setI_O (by omega), setI_O (by omega)]; exact setI_I _ _ _ _
    · have f6 : Fr 0 0 (fun a j => PkS m a j) h5 (((h5.setI m 1 0).setI m 48 0).setI m 29 0) := Fr_of rfl rfl rfl rfl rfl (fun a j z => by
        have nz : ¬ (a = m ∧ (j = 1 ∨ j = 29 ∨ j = 48)) := fun w => z (Or.inl w)
        rw [setI_O (by omega), setI_O (by omega), setI_O (by omega)])
      have t1 := Fr_trans (W := fun a j => PkS m a j) xF fr5 (fun _ _ _ z => z) (fun _ _ _ z => z)
      have t2 := Fr_trans (W := fun a j => PkS m a j) t1 f6 (fun _ _ _ z => z) (fun _ _ _ z => z)
      exact Fr_mono (Fr_trans (W := fun a j => RgW m a j ∧ a ≠ m + 31) B.1 t2 (fun _ _ _ z => z) (fun a j _ z => PkS_w z)) (by omega) (by omega) (fun _ _ _ z => z)
