/-! PURE PART QF: the piece's answer -/
set_option maxRecDepth 100000
theorem findS_succ {p : Nat → Bool} : ∀ {r k : Nat}, findS p (r + 1) k = selS (findS p r k) some (if p (k + r) then some (k + r) else none) := by
  intro r
  induction r with
  | zero => intro k; rw [findS, findS, findS]; rfl
  | succ r ih =>
    intro k
    rw [findS, ih, findS]
    by_cases c : p k = true
    · rw [if_pos c, if_pos c]; rfl
    · rw [if_neg c, if_neg c, show k + 1 + r = k + (r + 1) by omega]
def fstS (po : Nat → Int32) (k : Int32) (N : Nat) : Int32 := selS (findS (fun j => decide (po j = k)) N 0) nI (-1)
theorem fst_succ {po : Nat → Int32} {k : Int32} {N : Nat} (hN : N < 1000000) : fstS po k (N + 1) = if po N = k then (if fstS po k N = -1 then nI N else fstS po k N) else fstS po k N := by
  unfold fstS
  rw [findS_succ, Nat.zero_add]
  cases hf : findS (fun j => decide (po j = k)) N 0 with
  | none =>
    by_cases c : po N = k <;> simp [selS, c]
  | some j =>
    have hj := (findS_some hf).2.1
    have e : nI j ≠ -1 := nI_n1 (by omega)
    by_cases c : po N = k <;> simp [selS, c, e]
def pieceS (S : St) (qx qy k w : Int32) : Int32 := if S.nv = 0 then -1 else if ptS qx qy = true then (if inS w 0 2 = true then (if inS k 0 (nI (pcN S qx qy) - 1) = true then (if w = 0 then fstS (pcO S qx qy) k 10000 / 100 else if w = 1 then fstS (pcO S qx qy) k 10000 - fstS (pcO S qx qy) k 10000 / 100 * 100 else nI (cntS (pcO S qx qy) k 10000)) else -1) else -1) else -1
theorem m_piece {n : Nat} {K : Nat → Nat} {m : Nat} {h : AH} {S : St} (hn : 20000 < n) (M : MA m h S) (qx qy k w : Int32) : ∃ po pi pm wm, F_X3_piece n K m qx qy k w h = some (pieceS S qx qy k w, h.pcM m po pi pm wm) := by
  obtain ⟨pi, key⟩ : ∃ pi, F_X3_finds n K m qx qy h = some ((), h.pcM m (pcO S qx qy) pi (nI (pcN S qx qy)) (wonM S qx qy 10000)) := by
    have key := m_finds (K := K) hn M qx qy
    have e := uM_eq S qx qy (h.I (m + 39))
    rw [e.1, e.2] at key
    exact ⟨_, key⟩
  simp only [F_X3_piece, pieceS, chk_true, bnd_some, ob_some, oc_some, oc_none, hl_eq, jn_eq, ix_0, ix_1, if_true, if_false, inb0_2, inb1_2, not_true_eq_false, not_false_eq_true, ite_true, ite_false, true_or, or_true, or_self, zero_eq_one_I, one_eq_zero_I, ms_k0, ms_k1, ms_n1, ms_k2, ms_n2, ms_k3, ms_n3, ms_k4, ms_n4, ms_k5, ms_n5, ms_k6, ms_n6, ms_k7, ms_n7, ms_k8, ms_n8, ms_k9, ms_n9, ms_k10, ms_n10, ms_k11, ms_n11, ms_k12, ms_n12, ms_k13, ms_n13, ms_k14, ms_n14, ms_k15, ms_n15, ms_k16, ms_n16, ms_k17, ms_n17, ms_k18, ms_n18, ms_k19, ms_n19, ms_k20, ms_n20, ms_k21, ms_n21, ms_k22, ms_n22, ms_k23, ms_n23, ms_k24, ms_n24, ms_k25, ms_n25, ms_k26, ms_n26, ms_k27, ms_n27, ms_k28, ms_n28, ms_k29, ms_n29, ms_k30, ms_n30, ms_k31, ms_n31, ms_k32, ms_n32, ms_k33, ms_n33, ms_k34, ms_n34, ms_k35, ms_n35, ms_k36, ms_n36, ms_k37, ms_n37, ms_k38, ms_n38, ms_k39, ms_n39, ms_k40, ms_n40, ms_k41, ms_n41, ms_k50, ms_n50, ms_k51, ms_n51, ms_k52, ms_n52, ms_k53, ms_n53, ms_r0_0, ms_r0_6, ms_r2_0, ms_r2_1, ms_r0_7, ms_r5_0, ms_r5_1, ms_r0_8, ms_r8_0, ms_r8_1, ms_r0_9, ms_r11_0, ms_r11_1, ms_r0_10, ms_r14_0, ms_r14_1, ms_r0_11, ms_r17_0, ms_r17_1, ms_r0_12, ms_r20_0, ms_r20_1, ms_r0_13, ms_r23_0, ms_r23_1, ms_r0_14, ms_r0_15, ms_r0_16, ms_r0_17, ms_r0_18, ms_r0_23, ms_r0_24, ms_r0_25, ms_r0_26, ms_r0_30, ms_r0_31, ms_r0_32, ms_r0_35, ms_r0_36, ms_r0_39, ms_r0_40, ms_r0_41, ms_r0_42, ms_r0_43, ms_r0_47, M.1, m_votersA hn M, m_nv0 hn M, bI_0, m_isPoint, m_inC w 2 (C := 2) (by decide)]
  generalize pcO S qx qy = po at key ⊢
  generalize pcN S qx qy = pn at key ⊢
  by_cases c : S.nv = 0
  · refine ⟨h.I (m + 38), h.I (m + 39), h.I m 37, h.I m 38, ?_⟩
    simp [c, pcM_self]
  · cases hpt : ptS qx qy
    · refine ⟨h.I (m + 38), h.I (m + 39), h.I m 37, h.I m 38, ?_⟩
      simp [c, pcM_self]
    · cases hw : inS w 0 2
      · refine ⟨h.I (m + 38), h.I (m + 39), h.I m 37, h.I m 38, ?_⟩
        simp [c, pcM_self]
      · refine ⟨po, pi, nI pn, wonM S qx qy 10000, ?_⟩
        simp only [c, Bool.true_eq_false, chk_true, bnd_some, ob_some, oc_some, oc_none, hl_eq, jn_eq, ix_0, ix_1, if_true, if_false, inb0_2, inb1_2, not_true_eq_false, not_false_eq_true, ite_true, ite_false, true_or, or_true, or_self, zero_eq_one_I, one_eq_zero_I, key, pcM_kind, ms_k0, ms_k1, ms_n1, ms_k2, ms_n2, ms_k3, ms_n3, ms_k4, ms_n4, ms_k5, ms_n5, ms_k6, ms_n6, ms_k7, ms_n7, ms_k8, ms_n8, ms_k9, ms_n9, ms_k10, ms_n10, ms_k11, ms_n11, ms_k12, ms_n12, ms_k13, ms_n13, ms_k14, ms_n14, ms_k15, ms_n15, ms_k16, ms_n16, ms_k17, ms_n17, ms_k18, ms_n18, ms_k19, ms_n19, ms_k20, ms_n20, ms_k21, ms_n21, ms_k22, ms_n22, ms_k23, ms_n23, ms_k24, ms_n24, ms_k25, ms_n25, ms_k26, ms_n26, ms_k27, ms_n27, ms_k28, ms_n28, ms_k29, ms_n29, ms_k30, ms_n30, ms_k31, ms_n31, ms_k32, ms_n32, ms_k33, ms_n33, ms_k34, ms_n34, ms_k35, ms_n35, ms_k36, ms_n36, ms_k37, ms_n37, ms_k38, ms_n38, ms_k39, ms_n39, ms_k40, ms_n40, ms_k41, ms_n41, ms_k50, ms_n50, ms_k51, ms_n51, ms_k52, ms_n52, ms_k53, ms_n53, ms_r0_0, ms_r0_6, ms_r2_0, ms_r2_1, ms_r0_7, ms_r5_0, ms_r5_1, ms_r0_8, ms_r8_0, ms_r8_1, ms_r0_9, ms_r11_0, ms_r11_1, ms_r0_10, ms_r14_0, ms_r14_1, ms_r0_11, ms_r17_0, ms_r17_1, ms_r0_12, ms_r20_0, ms_r20_1, ms_r0_13, ms_r23_0, ms_r23_1, ms_r0_14, ms_r0_15, ms_r0_16, ms_r0_17, ms_r0_18, ms_r0_23, ms_r0_24, ms_r0_25, ms_r0_26, ms_r0_30, ms_r0_31, ms_r0_32, ms_r0_35, ms_r0_36, ms_r0_39, ms_r0_40, ms_r0_41, ms_r0_42, ms_r0_43, ms_r0_47, M.1, pcM_pm, m_in0, bI_0]
        have loop := loopU (fun f i (s : Int32 × Int32) => F_X3_piece_L63 n K m k w (h.pcM m po pi (nI pn) (wonM S qx qy 10000)) f i s.1 s.2) 10000 (fun j s => s.1 = nI (cntS po k j) ∧ s.2 = fstS po k j) (fun o => o = some (if w = 0 then fstS po k 10000 / 100 else if w = 1 then fstS po k 10000 - fstS po k 10000 / 100 * 100 else nI (cntS po k 10000), h.pcM m po pi (nI pn) (wonM S qx qy 10000)))
          (by
            intro f j s hj hs
            right
            refine ⟨(nI (cntS po k (j + 1)), fstS po k (j + 1)), ⟨rfl, rfl⟩, ?_⟩
            have e1 : ix (nI j) = j := ix_nI (by omega)
            have e2 : inb (nI j) 10000 = True := eq_true ((inb_nI (by omega)).2 hj)
            have e3 : ((10000 : Int32) ≤ nI j) = False := eq_false (by rw [e10000]; exact nI_ge hj (by omega))
            rw [fst_succ (by omega), cntS, hs.1, hs.2]
            simp only [F_X3_piece_L63, chk_true, bnd_some, ob_some, oc_some, oc_none, hl_eq, jn_eq, ix_0, ix_1, if_true, if_false, inb0_2, inb1_2, not_true_eq_false, not_false_eq_true, ite_true, ite_false, true_or, or_true, or_self, zero_eq_one_I, one_eq_zero_I, pcM_kind, pcM_len, pcM_R, ms_k0, ms_k1, ms_n1, ms_k2, ms_n2, ms_k3, ms_n3, ms_k4, ms_n4, ms_k5, ms_n5, ms_k6, ms_n6, ms_k7, ms_n7, ms_k8, ms_n8, ms_k9, ms_n9, ms_k10, ms_n10, ms_k11, ms_n11, ms_k12, ms_n12, ms_k13, ms_n13, ms_k14, ms_n14, ms_k15, ms_n15, ms_k16, ms_n16, ms_k17, ms_n17, ms_k18, ms_n18, ms_k19, ms_n19, ms_k20, ms_n20, ms_k21, ms_n21, ms_k22, ms_n22, ms_k23, ms_n23, ms_k24, ms_n24, ms_k25, ms_n25, ms_k26, ms_n26, ms_k27, ms_n27, ms_k28, ms_n28, ms_k29, ms_n29, ms_k30, ms_n30, ms_k31, ms_n31, ms_k32, ms_n32, ms_k33, ms_n33, ms_k34, ms_n34, ms_k35, ms_n35, ms_k36, ms_n36, ms_k37, ms_n37, ms_k38, ms_n38, ms_k39, ms_n39, ms_k40, ms_n40, ms_k41, ms_n41, ms_k50, ms_n50, ms_k51, ms_n51, ms_k52, ms_n52, ms_k53, ms_n53, ms_r0_0, ms_r0_6, ms_r2_0, ms_r2_1, ms_r0_7, ms_r5_0, ms_r5_1, ms_r0_8, ms_r8_0, ms_r8_1, ms_r0_9, ms_r11_0, ms_r11_1, ms_r0_10, ms_r14_0, ms_r14_1, ms_r0_11, ms_r17_0, ms_r17_1, ms_r0_12, ms_r20_0, ms_r20_1, ms_r0_13, ms_r23_0, ms_r23_1, ms_r0_14, ms_r0_15, ms_r0_16, ms_r0_17, ms_r0_18, ms_r0_23, ms_r0_24, ms_r0_25, ms_r0_26, ms_r0_30, ms_r0_31, ms_r0_32, ms_r0_35, ms_r0_36, ms_r0_39, ms_r0_40, ms_r0_41, ms_r0_42, ms_r0_43, ms_r0_47, M.1, e1, e2, e3, pcM_po hj, nI_1]
            by_cases c1 : po j = k
            · by_cases c2 : fstS po k j = -1 <;> simp [c1, c2]
            · simp [c1])
          (by
            intro f s hs
            have e3 : ((10000 : Int32) ≤ nI 10000) = True := eq_true (by rw [e10000]; exact nI_le (Nat.le_refl _) (by omega))
            simp only [F_X3_piece_L63, chk_true, bnd_some, ob_some, oc_some, oc_none, hl_eq, jn_eq, ix_0, ix_1, if_true, if_false, inb0_2, inb1_2, not_true_eq_false, not_false_eq_true, ite_true, ite_false, true_or, or_true, or_self, zero_eq_one_I, one_eq_zero_I, e3, hs.1, hs.2]
            by_cases c1 : w = 0
            · simp [c1]
            · by_cases c2 : w = 1 <;> simp [c1, c2]) 10000 0 (0, -1) n (by omega) (by omega) ⟨rfl, rfl⟩
        cases inS k 0 (nI pn - 1)
        · simp
        · simp only [Bool.true_eq_false, chk_true, bnd_some, ob_some, oc_some, oc_none, hl_eq, jn_eq, ix_0, ix_1, if_true, if_false, inb0_2, inb1_2, not_true_eq_false, not_false_eq_true, ite_true, ite_false, true_or, or_true, or_self, zero_eq_one_I, one_eq_zero_I]
          exact loop
theorem x_piece {n : Nat} {K : Nat → Nat} {x : Nat} {h : AH} {ev ep b : Nat} {Ev Ep : Nat → Nat} {S : St} (hn : 20000 < n) (X : XA K x h ev Ev ep Ep b S) (qx qy k w : Int32) : ∃ po pi pf ps pm wm, F_X0_piece n K x qx qy k w h = some (pieceS S qx qy k w, h.pcX x po pi pf ps pm wm) := by
  have hle := pcN_le S qx qy
  obtain ⟨pi, pf, ps, ok, key⟩ : ∃ pi pf ps, (∀ k, k < pcN S qx qy → ∃ f, f < 10000 ∧ pf k = nI f ∧ pcO S qx qy f = nI k ∧ (∀ j, j < f → pcO S qx qy j ≠ nI k) ∧ ps k = nI (cntS (pcO S qx qy) (nI k) 10000)) ∧ F_X0_findPieces n K x qx qy h = some ((), h.pcX x (pcO S qx qy) pi pf ps (nI (pcN S qx qy)) (wonM S qx qy 10000)) := by
    have key := x_findPieces hn X qx qy
    have e := uX_eq S qx qy (h.I (x + 14)) (h.I (x + 15)) (h.I (x + 16))
    have ok := okU_pc (ok_fold S qx qy (h.I (x + 14)) (h.I (x + 15)) (h.I (x + 16)) 10000 (Nat.le_refl _))
    unfold uX at e
    rw [e.1, e.2] at ok
    rw [e.1, e.2] at key
    exact ⟨_, _, _, ok, key⟩
  simp only [F_X0_piece, pieceS, chk_true, bnd_some, ob_some, oc_some, oc_none, hl_eq, jn_eq, ix_0, ix_1, if_true, if_false, inb0_2, inb1_2, not_true_eq_false, not_false_eq_true, ite_true, ite_false, true_or, or_true, or_self, zero_eq_one_I, one_eq_zero_I, xs_k0, xs_k1, xs_n1, xs_k2, xs_k3, xs_k4, xs_k5, xs_k6, xs_k7, xs_k8, xs_k9, xs_k10, xs_k11, xs_n11, xs_k12, xs_n12, xs_k13, xs_n13, xs_k14, xs_n14, xs_k15, xs_n15, xs_k16, xs_n16, xs_k17, xs_n17, xs_k18, xs_n18, xs_k27, xs_n27, xs_k28, xs_n28, xs_r0_0, xs_r0_1, xs_r2_8, xs_r2_9, xs_r0_2, xs_r0_3, xs_r0_4, xs_r0_8, xs_r0_9, xs_r0_10, xs_r0_18, xs_r0_19, xs_r0_20, xs_r0_21, xs_r0_22, xs_r0_25, xs_r0_26, xs_r0_27, xs_r0_28, X.1, x_vempty hn X, bI_0, x_isPoint, x_in]
  generalize pcO S qx qy = po at ok key ⊢
  generalize pcN S qx qy = pn at ok key hle ⊢
  by_cases c : S.nv = 0
  · refine ⟨h.I (x + 13), h.I (x + 14), h.I (x + 15), h.I (x + 16), h.I x 23, h.I x 24, ?_⟩
    simp [c, pcX_self]
  · cases hpt : ptS qx qy
    · refine ⟨h.I (x + 13), h.I (x + 14), h.I (x + 15), h.I (x + 16), h.I x 23, h.I x 24, ?_⟩
      simp [c, pcX_self]
    · cases hw : inS w 0 2
      · refine ⟨h.I (x + 13), h.I (x + 14), h.I (x + 15), h.I (x + 16), h.I x 23, h.I x 24, ?_⟩
        simp [c, pcX_self]
      · refine ⟨po, pi, pf, ps, nI pn, wonM S qx qy 10000, ?_⟩
        simp only [c, decide_false, Bool.true_eq_false, chk_true, bnd_some, ob_some, oc_some, oc_none, hl_eq, jn_eq, ix_0, ix_1, if_true, if_false, inb0_2, inb1_2, not_true_eq_false, not_false_eq_true, ite_true, ite_false, true_or, or_true, or_self, zero_eq_one_I, one_eq_zero_I, key, pcX_kind, pcX_len, pcX_R, xs_k0, xs_k1, xs_n1, xs_k2, xs_k3, xs_k4, xs_k5, xs_k6, xs_k7, xs_k8, xs_k9, xs_k10, xs_k11, xs_n11, xs_k12, xs_n12, xs_k13, xs_n13, xs_k14, xs_n14, xs_k15, xs_n15, xs_k16, xs_n16, xs_k17, xs_n17, xs_k18, xs_n18, xs_k27, xs_n27, xs_k28, xs_n28, xs_r0_0, xs_r0_1, xs_r2_8, xs_r2_9, xs_r0_2, xs_r0_3, xs_r0_4, xs_r0_8, xs_r0_9, xs_r0_10, xs_r0_18, xs_r0_19, xs_r0_20, xs_r0_21, xs_r0_22, xs_r0_25, xs_r0_26, xs_r0_27, xs_r0_28, X.1, pcX_pm, x_in, bI_0]
        cases hk : inS k 0 (nI pn - 1)
        · simp
        · obtain ⟨q, hq, rfl⟩ := (inS_nI (by omega)).1 hk
          have e1 : ix (nI q) = q := ix_nI (by omega)
          have e2 : inb (nI q) 10000 = True := eq_true ((inb_nI (by omega)).2 (by omega))
          obtain ⟨f, f1, f2, f3, f4, f5⟩ := ok q hq
          have ef : fstS po (nI q) 10000 = nI f := by
            unfold fstS
            cases hf : findS (fun j => decide (po j = nI q)) 10000 0 with
            | none =>
              have := findS_none hf f (by omega) (by omega)
              simp [f3] at this
            | some j =>
              obtain ⟨_, _, g3, g4⟩ := findS_some hf
              have g3' : po j = nI q := by simpa using g3
              rcases Nat.lt_trichotomy j f with hlt | heq | hgt
              · exact absurd g3' (f4 j hlt)
              · rw [heq]; rfl
              · have := g4 f (by omega) hgt
                simp [f3] at this
          simp only [Bool.true_eq_false, chk_true, bnd_some, ob_some, oc_some, oc_none, hl_eq, jn_eq, ix_0, ix_1, if_true, if_false, inb0_2, inb1_2, not_true_eq_false, not_false_eq_true, ite_true, ite_false, true_or, or_true, or_self, zero_eq_one_I, one_eq_zero_I, e1, e2, pcX_pf (show q < 10000 by omega), pcX_ps (show q < 10000 by omega), f2, f5, ef]
          by_cases c1 : w = 0
          · simp [c1]
          · by_cases c2 : w = 1 <;> simp [c1, c2]
