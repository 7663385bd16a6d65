/-! PURE PART SG: bits of eight; pairs -/
set_option maxRecDepth 100000
def ntzI (a : Int32) : Int32 := ((F_J15_numberOfTrailingZeros 0 (fun _ => 0) a ((0, 0), (fun _ => 0), (fun _ => 0), (fun _ _ => 0), (fun _ _ => 0), (fun _ _ => none))).map Prod.fst).getD 0
theorem ntz_eq (n : Nat) (K : Nat → Nat) (a : Int32) (h : AH) : F_J15_numberOfTrailingZeros n K a h = some (ntzI a, h) := by
  unfold ntzI F_J15_numberOfTrailingZeros
  simp only [jn_eq]
  repeat' split
  all_goals rfl
def ntzN (b : Nat) : Nat := (findS (fun j => b.testBit j) 8 0).getD 8
def lobN (b : Nat) : Nat := b &&& (b - 1)
def clrN (b j : Nat) : Nat := if b.testBit j = true then b - 2 ^ j else b
theorem t8_ntz : ∀ b, b < 256 → 0 < b → ntzI (nI b) = nI (ntzN b) := by decide +kernel
theorem t8_ntz2 : ∀ b, b < 256 → 0 < b → ntzN b < 8 ∧ b.testBit (ntzN b) = true := by decide +kernel
theorem t8_low : ∀ b, b < 256 → 0 < b → (nI b &&& (nI b - 1)) = nI (lobN b) := by decide +kernel
theorem t8_clr : ∀ b, b < 256 → ∀ j, j < 8 → (nI b &&& (((1 : Int32) <<< (nI j &&& 31)) ^^^ (-1 : Int32))) = nI (clrN b j) := by decide +kernel
theorem t8_cl : ∀ b, b < 256 → 0 < b → clrN b (ntzN b) = lobN b := by decide +kernel
theorem t8_low2 : ∀ b, b < 256 → 0 < b → lobN b ≤ b ∧ popN (lobN b) + 1 = popN b ∧ ∀ j, j < 8 → j ≤ ntzN b → (lobN b).testBit j = false := by decide +kernel
theorem t8_clr2 : ∀ b, b < 256 → ∀ j, j < 8 → b.testBit j = true → popN (clrN b j) + 1 = popN b := by decide +kernel
theorem clr_le (b j : Nat) : clrN b j ≤ b := by
  unfold clrN
  split
  · exact Nat.sub_le _ _
  · exact Nat.le_refl _
theorem bit_lt {b c j : Nat} (hb : b < 2 ^ c) (h : b.testBit j = true) : j < c := by
  rcases Nat.lt_or_ge j c with z | z
  · exact z
  · rw [Nat.testBit_lt_two_pow (Nat.lt_of_lt_of_le hb (Nat.pow_le_pow_right (by omega) z))] at h; cases h
theorem pow8 {c : Nat} (h : c ≤ 8) : 2 ^ c ≤ 256 := Nat.pow_le_pow_right (by omega) h
def sgB (b : Bool) : Int := if b = true then -1 else 1
theorem sgB_neg (b : Bool) : -(Int64.ofInt (sgB b)) = Int64.ofInt (sgB (!b)) := by cases b <;> decide
theorem sgB_negI (b : Bool) : -(Int32.ofInt (sgB b)) = Int32.ofInt (sgB (!b)) := by cases b <;> decide
theorem sgB_l (b : Bool) : (Int32.ofInt (sgB b)).toInt64 = Int64.ofInt (sgB b) := by cases b <;> decide
def prG (g : Nat → Nat → Int) (rec : Nat → Int) (left first j : Nat) (s : Bool × Int) : Bool × Int := if left.testBit j = true then (!s.1, if g first j = 0 then s.2 else s.2 + sgB s.1 * g first j * rec (clrN left j)) else s
def prZ (g : Nat → Nat → Int) : Nat → Nat → Int
  | 0, _ => 0
  | d + 1, b => if b = 0 then 1 else (foldS (prG g (prZ g d) (lobN b) (ntzN b)) (false, 0) 8).2
theorem pr_skip {g : Nat → Nat → Int} {rec : Nat → Int} {left first : Nat} {s : Bool × Int} : ∀ k, (∀ j, j < k → left.testBit j = false) → foldS (prG g rec left first) s k = s := by
  intro k
  induction k with
  | zero => intro _; rfl
  | succ k ih =>
    intro h
    show prG g rec left first k (foldS (prG g rec left first) s k) = s
    rw [ih (fun j hj => h j (by omega))]
    unfold prG
    rw [if_neg (by rw [h k (by omega)]; decide)]
def gnZ (S : St) (i j : Nat) : Int := (gnS S i j).toInt
theorem gn_l (S : St) (i j : Nat) : (gnS S i j).toInt64 = Int64.ofInt (gnZ S i j) := V_l _
theorem gn_0 (S : St) (i j : Nat) : (gnS S i j = 0) = (gnZ S i j = 0) := i_eq0
def GX (x : Nat) (h : AH) (S : St) : Prop := XSh x h ∧ ∀ i j, i < ncS S → j < ncS S → h.I (x + 19 + i) j = gnS S i j
theorem x_pairs {n : Nat} {K : Nat → Nat} {x : Nat} {h : AH} {S : St} (hn : 20000 < n) (G : GX x h S) : ∀ d b, b < 2 ^ ncS S → popN b < d → F_X0_pairs n K d x (nI b) h = some (Int64.ofInt (prZ (gnZ S) d b), h) := by
  have c8 := nc8 S
  have p8 := pow8 c8
  have H := G.1
  have k0 := xs_k0 H
  intro d
  induction d with
  | zero => intro b _ h; omega
  | succ d ih =>
    intro b hb hp
    show F_X0_pairs_B n K (F_X0_pairs n K d) x (nI b) h = _
    rw [F_X0_pairs_B, prZ]
    rcases Nat.eq_zero_or_pos b with z | z
    · subst z
      rw [if_neg (by decide), if_pos rfl]
      rfl
    · have b0 : ¬ (nI b = 0) := nI_ne0 z (by omega)
      rw [if_pos b0, if_neg (by omega), ntz_eq, bnd_some, t8_ntz b (by omega) z, t8_low b (by omega) z]
      obtain ⟨f8, ft⟩ := t8_ntz2 b (by omega) z
      obtain ⟨l1, l2, l3⟩ := t8_low2 b (by omega) z
      have fc := bit_lt hb ft
      have lb : lobN b < 2 ^ ncS S := by omega
      generalize lobN b = left at *
      generalize ntzN b = first at *
      obtain ⟨r1, r2, r3⟩ := xs_row H f8
      have e1 : ix (nI first) = first := ix_nI (by omega)
      have e2 : inb (nI first) 8 = True := eq_true ((inb_nI (by omega)).2 (by omega))
      have key := loopU (fun f i (s : Bool × Int) => F_X0_pairs_L28 n K (F_X0_pairs n K d) (nI left) (nI first) x f i (Int64.ofInt (sgB s.1)) (Int64.ofInt s.2) h) 8 (fun j s => s = foldS (prG (gnZ S) (prZ (gnZ S) d) left first) (false, 0) j) (fun o => o = some (Int64.ofInt (foldS (prG (gnZ S) (prZ (gnZ S) d) left first) (false, 0) 8).2, h))
        (by
          intro f j s hj hs
          right
          refine ⟨_, rfl, ?_⟩
          have e3 : ((8 : Int32) ≤ nI j) = False := eq_false (nI_ge (b := 8) hj (by omega))
          have e4 : ix (nI j) = j := ix_nI (by omega)
          have e5 : inb (nI j) 8 = True := eq_true ((inb_nI (by omega)).2 (by omega))
          have bt := bit_all left (by omega) j (by omega)
          rw [show foldS (prG (gnZ S) (prZ (gnZ S) d) left first) (false, 0) (j + 1) = prG (gnZ S) (prZ (gnZ S) d) left first j (foldS (prG (gnZ S) (prZ (gnZ S) d) left first) (false, 0) j) from rfl, ← hs]
          unfold prG
          cases ht : left.testBit j
          · rw [ht] at bt
            have bt' : ((nI left >>> (nI j &&& 31)) &&& (1 : Int32)) = 0 := bt
            simp only [F_X0_pairs_L28, chk_true, bnd_some, ob_some, oc_some, oc_none, hl_eq, jn_eq, ix_0, ix_1, if_true, if_false, inb0_2, inb1_2, not_true_eq_false, not_false_eq_true, ite_true, ite_false, true_or, or_true, or_self, zero_eq_one_I, one_eq_zero_I, e3, bt', nI_1, Bool.false_eq_true]
          · rw [ht] at bt
            have bt' : ((nI left >>> (nI j &&& 31)) &&& (1 : Int32)) = 1 := bt
            have jc := bit_lt lb ht
            have gv := G.2 first j fc jc
            have cl := t8_clr left (by omega) j hj
            have cp := t8_clr2 left (by omega) j hj ht
            have cle := clr_le left j
            have rc := ih (clrN left j) (by omega) (by omega)
            by_cases g0 : gnZ S first j = 0
            · have g0' := eq_true g0
              simp only [F_X0_pairs_L28, chk_true, bnd_some, ob_some, oc_some, oc_none, hl_eq, jn_eq, ix_0, ix_1, if_true, if_false, inb0_2, inb1_2, not_true_eq_false, not_false_eq_true, ite_true, ite_false, true_or, or_true, or_self, zero_eq_one_I, one_eq_zero_I, xs_k0, xs_k1, xs_n1, xs_k2, xs_k3, xs_k4, xs_k5, xs_k6, xs_k7, xs_k8, xs_k9, xs_k10, xs_k11, xs_n11, xs_k12, xs_n12, xs_k13, xs_n13, xs_k14, xs_n14, xs_k15, xs_n15, xs_k16, xs_n16, xs_k17, xs_n17, xs_k18, xs_n18, xs_k27, xs_n27, xs_k28, xs_n28, xs_r0_0, xs_r0_1, xs_r2_8, xs_r2_9, xs_r0_2, xs_r0_3, xs_r0_4, xs_r0_8, xs_r0_9, xs_r0_10, xs_r0_18, xs_r0_19, xs_r0_20, xs_r0_21, xs_r0_22, xs_r0_25, xs_r0_26, xs_r0_27, xs_r0_28, H, e1, e2, r1, r2, r3, e3, e4, e5, bt', gv, gn_0, g0', sgB_neg, nI_1]
            · have g0' := eq_false g0
              simp only [F_X0_pairs_L28, chk_true, bnd_some, ob_some, oc_some, oc_none, hl_eq, jn_eq, ix_0, ix_1, if_true, if_false, inb0_2, inb1_2, not_true_eq_false, not_false_eq_true, ite_true, ite_false, true_or, or_true, or_self, zero_eq_one_I, one_eq_zero_I, xs_k0, xs_k1, xs_n1, xs_k2, xs_k3, xs_k4, xs_k5, xs_k6, xs_k7, xs_k8, xs_k9, xs_k10, xs_k11, xs_n11, xs_k12, xs_n12, xs_k13, xs_n13, xs_k14, xs_n14, xs_k15, xs_n15, xs_k16, xs_n16, xs_k17, xs_n17, xs_k18, xs_n18, xs_k27, xs_n27, xs_k28, xs_n28, xs_r0_0, xs_r0_1, xs_r2_8, xs_r2_9, xs_r0_2, xs_r0_3, xs_r0_4, xs_r0_8, xs_r0_9, xs_r0_10, xs_r0_18, xs_r0_19, xs_r0_20, xs_r0_21, xs_r0_22, xs_r0_25, xs_r0_26, xs_r0_27, xs_r0_28, H, e1, e2, r1, r2, r3, e3, e4, e5, bt', gv, gn_0, g0', gn_l, cl, rc, sgB_neg, nI_1, l_pp, l_aa])
        (by
          intro f s hs
          have e3 : ((8 : Int32) ≤ nI 8) = True := eq_true (by decide)
          rw [← hs]
          simp only [F_X0_pairs_L28, chk_true, bnd_some, ob_some, oc_some, oc_none, hl_eq, jn_eq, ix_0, ix_1, if_true, if_false, inb0_2, inb1_2, not_true_eq_false, not_false_eq_true, ite_true, ite_false, true_or, or_true, or_self, zero_eq_one_I, one_eq_zero_I, e3])
      have st := key (8 - (first + 1)) (first + 1) (false, 0) n (by omega) (by omega) (pr_skip (first + 1) (fun j hj => l3 j (by omega) (by omega))).symm
      rw [nI_1]
      exact st
theorem ms_row {m : Nat} {h : AH} (H : MSh m h) {i : Nat} (hi : i < 8) : h.R (m + 41) i = some (m + 42 + i) ∧ h.kind (m + 42 + i) = 33 ∧ h.len (m + 42 + i) = 8 := by
  have h1 : ∀ i, i < 8 → (41, i, 42 + i) ∈ mRs := by decide
  have h2 : ∀ i, i < 8 → mKs.getD (42 + i) 0 = 33 := by decide
  have h3 : ∀ i, i < 8 → mNs.getD (42 + i) 0 = 8 := by decide
  have g1 := H.2.2 _ (h1 i hi)
  have g2 := H.1 (42 + i) (by omega)
  have g3 := H.2.1 (42 + i) (by omega)
  rw [h2 i hi] at g2
  rw [h3 i hi] at g3
  simp only [← Nat.add_assoc] at g1 g2 g3
  exact ⟨g1, g2, g3⟩
def GM (m : Nat) (h : AH) (S : St) : Prop := MSh m h ∧ ∀ i j, i < ncS S → j < ncS S → h.L (m + 42 + i) j = Int64.ofInt (gnZ S i j)
theorem gnZ_bd (S : St) (i j : Nat) : -(2 ^ 31) ≤ gnZ S i j ∧ gnZ S i j < 2 ^ 31 := ⟨Int32.le_toInt _, Int32.toInt_lt _⟩
theorem m_coupled {n : Nat} {K : Nat → Nat} {m : Nat} {h : AH} {S : St} (hn : 20000 < n) (G : GM m h S) : ∀ d b, b < 2 ^ ncS S → popN b < d → F_X3_coupled n K d m (nI b) h = some (Int64.ofInt (prZ (gnZ S) d b), h) := by
  have c8 := nc8 S
  have p8 := pow8 c8
  have H := G.1
  have k0 := ms_k0 H
  intro d
  induction d with
  | zero => intro b _ h; omega
  | succ d ih =>
    intro b hb hp
    show F_X3_coupled_B n K (F_X3_coupled n K d) m (nI b) h = _
    rw [F_X3_coupled_B, prZ]
    rcases Nat.eq_zero_or_pos b with z | z
    · subst z
      rw [if_neg (by decide), if_pos rfl]
      rfl
    · have b0 : ¬ (nI b = 0) := nI_ne0 z (by omega)
      obtain ⟨f8, ft⟩ := t8_ntz2 b (by omega) z
      rw [if_pos b0, if_neg (by omega), ntz_eq, bnd_some, t8_ntz b (by omega) z, t8_clr b (by omega) _ f8, t8_cl b (by omega) z]
      obtain ⟨l1, l2, l3⟩ := t8_low2 b (by omega) z
      have fc := bit_lt hb ft
      have lb : lobN b < 2 ^ ncS S := by omega
      generalize lobN b = left at *
      generalize ntzN b = first at *
      obtain ⟨r1, r2, r3⟩ := ms_row H f8
      have e1 : ix (nI first) = first := ix_nI (by omega)
      have e2 : inb (nI first) 8 = True := eq_true ((inb_nI (by omega)).2 (by omega))
      have key := loopU (fun f i (s : Bool × Int) => F_X3_coupled_L30 n K (F_X3_coupled n K d) (nI left) (nI first) m f i (Int32.ofInt (sgB s.1)) (Int64.ofInt s.2) h) 8 (fun j s => s = foldS (prG (gnZ S) (prZ (gnZ S) d) left first) (false, 0) j) (fun o => o = some (Int64.ofInt (foldS (prG (gnZ S) (prZ (gnZ S) d) left first) (false, 0) 8).2, h))
        (by
          intro f j s hj hs
          right
          refine ⟨_, rfl, ?_⟩
          have e3 : ((8 : Int32) ≤ nI j) = False := eq_false (nI_ge (b := 8) hj (by omega))
          have e4 : ix (nI j) = j := ix_nI (by omega)
          have e5 : inb (nI j) 8 = True := eq_true ((inb_nI (by omega)).2 (by omega))
          have bt := bit_all left (by omega) j (by omega)
          rw [show foldS (prG (gnZ S) (prZ (gnZ S) d) left first) (false, 0) (j + 1) = prG (gnZ S) (prZ (gnZ S) d) left first j (foldS (prG (gnZ S) (prZ (gnZ S) d) left first) (false, 0) j) from rfl, ← hs]
          unfold prG
          cases ht : left.testBit j
          · rw [ht] at bt
            have bt' : ((nI left >>> (nI j &&& 31)) &&& (1 : Int32)) = 0 := bt
            simp only [F_X3_coupled_L30, chk_true, bnd_some, ob_some, oc_some, oc_none, hl_eq, jn_eq, ix_0, ix_1, if_true, if_false, inb0_2, inb1_2, not_true_eq_false, not_false_eq_true, ite_true, ite_false, true_or, or_true, or_self, zero_eq_one_I, one_eq_zero_I, e3, bt', nI_1, Bool.false_eq_true]
          · rw [ht] at bt
            have bt' : ((nI left >>> (nI j &&& 31)) &&& (1 : Int32)) = 1 := bt
            have jc := bit_lt lb ht
            have gv := G.2 first j fc jc
            have gb := gnZ_bd S first j
            have g00 : (lg_cmp (Int64.ofInt (gnZ S first j)) 0 = 0) = (gnZ S first j = 0) := by rw [c_eq0, l_of (by omega) (by omega)]
            have cl := t8_clr left (by omega) j hj
            have cp := t8_clr2 left (by omega) j hj ht
            have cle := clr_le left j
            have rc := ih (clrN left j) (by omega) (by omega)
            by_cases g0 : gnZ S first j = 0
            · have g0' := eq_true g0
              simp only [F_X3_coupled_L30, chk_true, bnd_some, ob_some, oc_some, oc_none, hl_eq, jn_eq, ix_0, ix_1, if_true, if_false, inb0_2, inb1_2, not_true_eq_false, not_false_eq_true, ite_true, ite_false, true_or, or_true, or_self, zero_eq_one_I, one_eq_zero_I, ms_k0, ms_k1, ms_n1, ms_k2, ms_n2, ms_k3, ms_n3, ms_k4, ms_n4, ms_k5, ms_n5, ms_k6, ms_n6, ms_k7, ms_n7, ms_k8, ms_n8, ms_k9, ms_n9, ms_k10, ms_n10, ms_k11, ms_n11, ms_k12, ms_n12, ms_k13, ms_n13, ms_k14, ms_n14, ms_k15, ms_n15, ms_k16, ms_n16, ms_k17, ms_n17, ms_k18, ms_n18, ms_k19, ms_n19, ms_k20, ms_n20, ms_k21, ms_n21, ms_k22, ms_n22, ms_k23, ms_n23, ms_k24, ms_n24, ms_k25, ms_n25, ms_k26, ms_n26, ms_k27, ms_n27, ms_k28, ms_n28, ms_k29, ms_n29, ms_k30, ms_n30, ms_k31, ms_n31, ms_k32, ms_n32, ms_k33, ms_n33, ms_k34, ms_n34, ms_k35, ms_n35, ms_k36, ms_n36, ms_k37, ms_n37, ms_k38, ms_n38, ms_k39, ms_n39, ms_k40, ms_n40, ms_k41, ms_n41, ms_k50, ms_n50, ms_k51, ms_n51, ms_k52, ms_n52, ms_k53, ms_n53, ms_r0_0, ms_r0_6, ms_r2_0, ms_r2_1, ms_r0_7, ms_r5_0, ms_r5_1, ms_r0_8, ms_r8_0, ms_r8_1, ms_r0_9, ms_r11_0, ms_r11_1, ms_r0_10, ms_r14_0, ms_r14_1, ms_r0_11, ms_r17_0, ms_r17_1, ms_r0_12, ms_r20_0, ms_r20_1, ms_r0_13, ms_r23_0, ms_r23_1, ms_r0_14, ms_r0_15, ms_r0_16, ms_r0_17, ms_r0_18, ms_r0_23, ms_r0_24, ms_r0_25, ms_r0_26, ms_r0_30, ms_r0_31, ms_r0_32, ms_r0_35, ms_r0_36, ms_r0_39, ms_r0_40, ms_r0_41, ms_r0_42, ms_r0_43, ms_r0_47, H, e1, e2, r1, r2, r3, e3, e4, e5, bt', gv, g00, g0', sgB_negI, nI_1]
            · have g0' := eq_false g0
              simp only [F_X3_coupled_L30, chk_true, bnd_some, ob_some, oc_some, oc_none, hl_eq, jn_eq, ix_0, ix_1, if_true, if_false, inb0_2, inb1_2, not_true_eq_false, not_false_eq_true, ite_true, ite_false, true_or, or_true, or_self, zero_eq_one_I, one_eq_zero_I, ms_k0, ms_k1, ms_n1, ms_k2, ms_n2, ms_k3, ms_n3, ms_k4, ms_n4, ms_k5, ms_n5, ms_k6, ms_n6, ms_k7, ms_n7, ms_k8, ms_n8, ms_k9, ms_n9, ms_k10, ms_n10, ms_k11, ms_n11, ms_k12, ms_n12, ms_k13, ms_n13, ms_k14, ms_n14, ms_k15, ms_n15, ms_k16, ms_n16, ms_k17, ms_n17, ms_k18, ms_n18, ms_k19, ms_n19, ms_k20, ms_n20, ms_k21, ms_n21, ms_k22, ms_n22, ms_k23, ms_n23, ms_k24, ms_n24, ms_k25, ms_n25, ms_k26, ms_n26, ms_k27, ms_n27, ms_k28, ms_n28, ms_k29, ms_n29, ms_k30, ms_n30, ms_k31, ms_n31, ms_k32, ms_n32, ms_k33, ms_n33, ms_k34, ms_n34, ms_k35, ms_n35, ms_k36, ms_n36, ms_k37, ms_n37, ms_k38, ms_n38, ms_k39, ms_n39, ms_k40, ms_n40, ms_k41, ms_n41, ms_k50, ms_n50, ms_k51, ms_n51, ms_k52, ms_n52, ms_k53, ms_n53, ms_r0_0, ms_r0_6, ms_r2_0, ms_r2_1, ms_r0_7, ms_r5_0, ms_r5_1, ms_r0_8, ms_r8_0, ms_r8_1, ms_r0_9, ms_r11_0, ms_r11_1, ms_r0_10, ms_r14_0, ms_r14_1, ms_r0_11, ms_r17_0, ms_r17_1, ms_r0_12, ms_r20_0, ms_r20_1, ms_r0_13, ms_r23_0, ms_r23_1, ms_r0_14, ms_r0_15, ms_r0_16, ms_r0_17, ms_r0_18, ms_r0_23, ms_r0_24, ms_r0_25, ms_r0_26, ms_r0_30, ms_r0_31, ms_r0_32, ms_r0_35, ms_r0_36, ms_r0_39, ms_r0_40, ms_r0_41, ms_r0_42, ms_r0_43, ms_r0_47, H, e1, e2, r1, r2, r3, e3, e4, e5, bt', gv, g00, g0', cl, rc, sgB_negI, sgB_l, nI_1, l_pp, l_aa])
        (by
          intro f s hs
          have e3 : ((8 : Int32) ≤ nI 8) = True := eq_true (by decide)
          rw [← hs]
          simp only [F_X3_coupled_L30, chk_true, bnd_some, ob_some, oc_some, oc_none, hl_eq, jn_eq, ix_0, ix_1, if_true, if_false, inb0_2, inb1_2, not_true_eq_false, not_false_eq_true, ite_true, ite_false, true_or, or_true, or_self, zero_eq_one_I, one_eq_zero_I, e3])
      have st := key (8 - (first + 1)) (first + 1) (false, 0) n (by omega) (by omega) (pr_skip (first + 1) (fun j hj => l3 j (by omega) (by omega))).symm
      rw [nI_1]
      exact st
/-! bounds -/
theorem for_bd {S : St} (B : Bd S) (ax ay bx byy : Int32) : ∀ k, k ≤ S.nv → 0 ≤ (forS S.V ax ay bx byy k).toInt ∧ (forS S.V ax ay bx byy k).toInt ≤ 9 * k := by
  have h15 := B.2.2.2.1
  intro k
  induction k with
  | zero => intro _; exact ⟨by show 0 ≤ (0 : Int32).toInt; decide, by show (0 : Int32).toInt ≤ 9 * ((0 : Nat) : Int); decide⟩
  | succ k ih =>
    intro hk
    obtain ⟨i1, i2⟩ := ih (by omega)
    obtain ⟨a, b, w, _, _, hw1, hw2, _, _, e3⟩ := B.1 k (by omega)
    rw [forS]
    split
    · rw [e3, i_add (by rw [nI_toInt (by omega)]; omega) (by rw [nI_toInt (by omega)]; omega), nI_toInt (by omega)]
      omega
    · rw [Int32.add_zero]; omega
theorem gnZ_le {S : St} (B : Bd S) (i j : Nat) : (gnZ S i j).natAbs ≤ 135 := by
  have h15 := B.2.2.2.1
  have a := for_bd B (S.P i 0) (S.P i 1) (S.P j 0) (S.P j 1) S.nv (Nat.le_refl _)
  have b := for_bd B (S.P j 0) (S.P j 1) (S.P i 0) (S.P i 1) S.nv (Nat.le_refl _)
  have e : gnZ S i j = (vtS S i j).toInt - (vtS S j i).toInt := i_sub (by unfold vtS; omega) (by unfold vtS; omega)
  rw [e]
  unfold vtS
  omega
theorem pr_bd {g : Nat → Nat → Int} (hg : ∀ i j, (g i j).natAbs ≤ 135) : ∀ d b, b < 256 → (prZ g d b).natAbs ≤ 1080 ^ (popN b / 2) := by
  intro d
  induction d with
  | zero => intro b _; show (0 : Int).natAbs ≤ _; exact Nat.zero_le _
  | succ d ih =>
    intro b hb
    rw [prZ]
    rcases Nat.eq_zero_or_pos b with z | z
    · subst z
      rw [if_pos rfl]
      exact Nat.pow_pos (by omega)
    · rw [if_neg (by omega)]
      obtain ⟨l1, l2, l3⟩ := t8_low2 b hb z
      generalize lobN b = left at *
      have key : ∀ k, k ≤ 8 → (foldS (prG g (prZ g d) left (ntzN b)) (false, 0) k).2.natAbs ≤ k * (135 * 1080 ^ (popN b / 2 - 1)) := by
        intro k
        induction k with
        | zero => intro _; show (0 : Int).natAbs ≤ _; exact Nat.zero_le _
        | succ k ih2 =>
          intro hk
          have i2 := ih2 (by omega)
          show (prG g (prZ g d) left (ntzN b) k (foldS (prG g (prZ g d) left (ntzN b)) (false, 0) k)).2.natAbs ≤ _
          generalize foldS (prG g (prZ g d) left (ntzN b)) (false, 0) k = s at *
          have step : k * (135 * 1080 ^ (popN b / 2 - 1)) ≤ (k + 1) * (135 * 1080 ^ (popN b / 2 - 1)) := Nat.mul_le_mul_right _ (by omega)
          unfold prG
          cases ht : left.testBit k
          · rw [if_neg (by decide)]; omega
          · rw [if_pos rfl]
            by_cases g0 : g (ntzN b) k = 0
            · simp only [g0, if_true]; omega
            · simp only [g0, if_false]
              have cp := t8_clr2 left (by omega) k (by omega) ht
              have cle := clr_le left k
              have i3 := ih (clrN left k) (by omega)
              have sb : (sgB s.1).natAbs ≤ 1 := by unfold sgB; split <;> decide
              have m1 := mul_bd (mul_bd sb (hg (ntzN b) k)) i3
              have e : popN (clrN left k) / 2 = popN b / 2 - 1 := by omega
              rw [e, Nat.one_mul] at m1
              have e2 : (k + 1) * (135 * 1080 ^ (popN b / 2 - 1)) = k * (135 * 1080 ^ (popN b / 2 - 1)) + 135 * 1080 ^ (popN b / 2 - 1) := Nat.succ_mul _ _
              rw [e2]
              generalize 135 * 1080 ^ (popN b / 2 - 1) = M at *
              omega
      have k8 := key 8 (Nat.le_refl _)
      rcases Nat.eq_zero_or_pos (popN b / 2) with y | y
      · have sk : foldS (prG g (prZ g d) left (ntzN b)) (false, 0) 8 = (false, 0) := pr_skip 8 (fun j hj => by
          cases ht : left.testBit j
          · rfl
          · have := t8_clr2 left (by omega) j hj ht
            omega)
        rw [sk]
        exact Nat.zero_le _
      · have e : 1080 ^ (popN b / 2) = 1080 ^ (popN b / 2 - 1) * 1080 := by
          rw [← Nat.pow_succ]; congr 1; omega
        rw [e]
        omega
