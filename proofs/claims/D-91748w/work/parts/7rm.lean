/-! PURE PART RM: a new line; the sign of a long -/
set_option maxRecDepth 100000
theorem l_ofT {a : Int64} {z : Int} (h : a.toInt = z) : a = Int64.ofInt z := by rw [← h, Int64.ofInt_toInt]
theorem i_ofT {a : Int32} {z : Int} (h : a.toInt = z) : a = Int32.ofInt z := by rw [← h, Int32.ofInt_toInt]
theorem l_div {a b : Int64} (h1 : -(2 ^ 62) ≤ a.toInt.tdiv b.toInt) (h2 : a.toInt.tdiv b.toInt ≤ 2 ^ 62) : (a / b).toInt = a.toInt.tdiv b.toInt := by
  rw [Int64.toInt_div]
  exact Int.bmod_eq_of_le (by omega) (by omega)
theorem i_div {a b : Int32} (h1 : -(2 ^ 30) ≤ a.toInt.tdiv b.toInt) (h2 : a.toInt.tdiv b.toInt ≤ 2 ^ 30) : (a / b).toInt = a.toInt.tdiv b.toInt := by
  rw [Int32.toInt_div]
  exact Int.bmod_eq_of_le (by omega) (by omega)
theorem c_lt0 {a : Int64} : (lg_cmp a 0 < 0) = (a.toInt < 0) := by
  rw [lg_cmp_lt, Int64.lt_iff_toInt_lt]; rfl
theorem c_ge0 {a : Int64} : (0 ≤ lg_cmp a 0) = ¬ (a.toInt < 0) := c_ge
theorem gcd_le99 {p q : Int} {k : Nat} (h : p ≠ 0 ∨ q ≠ 0) (hp : p.natAbs ≤ k) (hq : q.natAbs ≤ k) : Int.gcd p q ≤ k := by
  by_cases c : p = 0
  · have : 0 < q.natAbs := by omega
    exact Nat.le_trans (Nat.gcd_le_right _ this) hq
  · have : 0 < p.natAbs := by omega
    exact Nat.le_trans (Nat.gcd_le_left _ this) hp
theorem neg_lN {g : Nat} (hg : g ≤ 2 ^ 62) : -(lN g) = Int64.ofInt (-(g : Int)) := by
  apply l_ofT
  rw [Int64.toInt_neg, pk_lT (by omega)]
  exact Int.bmod_eq_of_le (by omega) (by omega)
theorem of_lN {g : Nat} (hg : g ≤ 2 ^ 62) : lN g = Int64.ofInt (g : Int) := l_ofT (pk_lT (by omega))
theorem neg_nI {g : Nat} (hg : g ≤ 2 ^ 30) : -(nI g) = Int32.ofInt (-(g : Int)) := by
  apply i_ofT
  rw [Int32.toInt_neg, nI_toInt (by omega)]
  exact Int.bmod_eq_of_le (by omega) (by omega)
theorem of_nI {g : Nat} (hg : g ≤ 2 ^ 30) : nI g = Int32.ofInt (g : Int) := i_ofT (nI_toInt (by omega))
theorem sg_jn {β : Type} (J : Int64 → Option β) {P Q : Int64} {g : Nat} (hg : g ≤ 2 ^ 62) (e : g = Int.gcd P.toInt Q.toInt) : (jn (α := Int64 → Option β) J fun j4 =>
  if (lg_cmp P (0 : Int64)) < 0 then (
    j4 (-lN g)
  ) else (
    if ¬ (lg_cmp P (0 : Int64)) = 0 then (
      j4 (lN g)
    ) else (
      if 0 ≤ (lg_cmp Q (0 : Int64)) then (
        j4 (lN g)
      ) else (
        j4 (-lN g)
      )
    )
  )) = J (Int64.ofInt (sgL P.toInt Q.toInt)) := by
  rw [jn_eq, neg_lN hg, of_lN hg]
  unfold sgL
  rw [← e]
  simp only [c_lt0, c_eq0, c_ge0]
  by_cases c1 : P.toInt < 0
  · simp [c1]
  · by_cases c2 : P.toInt = 0
    · by_cases c3 : Q.toInt < 0
      · simp [c2, c3]
      · simp [c2, c3]
    · simp [c1, c2]
theorem sg_jnI {β : Type} (J : Int32 → Option β) {P Q : Int32} {g : Nat} (hg : g ≤ 2 ^ 30) (e : g = Int.gcd P.toInt Q.toInt) : (jn (α := Int32 → Option β) J fun j4 =>
  if P < 0 then (
    j4 (-(nI g))
  ) else (
    if ¬ P = 0 then (
      j4 (nI g)
    ) else (
      if 0 ≤ Q then (
        j4 (nI g)
      ) else (
        j4 (-(nI g))
      )
    )
  )) = J (Int32.ofInt (sgL P.toInt Q.toInt)) := by
  have e1 : (P < 0) = (P.toInt < 0) := by rw [Int32.lt_iff_toInt_lt]; rfl
  have e2 : (0 ≤ Q) = ¬ (Q.toInt < 0) := by rw [i_leT]; rfl
  rw [jn_eq, neg_nI hg, of_nI hg]
  unfold sgL
  rw [← e]
  simp only [e1, e2, i_eq0]
  by_cases c1 : P.toInt < 0
  · simp [c1]
  · by_cases c2 : P.toInt = 0
    · by_cases c3 : Q.toInt < 0
      · simp [c2, c3]
      · simp [c2, c3]
    · simp [c1, c2]
theorem sgL_ne {p q : Int} (h : p ≠ 0 ∨ q ≠ 0) : sgL p q ≠ 0 := by
  have := sg_ne h
  unfold sgL
  split <;> omega
theorem sgL_bd {p q : Int} {k : Nat} (h : p ≠ 0 ∨ q ≠ 0) (hp : p.natAbs ≤ k) (hq : q.natAbs ≤ k) : (sgL p q).natAbs ≤ k := by
  have := gcd_le99 h hp hq
  unfold sgL
  split <;> omega
def AH.setT (h : AH) (d : Nat) (t : T3) : AH := ((h.setL d 0 (Int64.ofInt t.1)).setL d 1 (Int64.ofInt t.2.1)).setL d 2 (Int64.ofInt t.2.2)
theorem L_setT (h : AH) (d : Nat) (t : T3) : (h.setT d t).L d 0 = Int64.ofInt t.1 ∧ (h.setT d t).L d 1 = Int64.ofInt t.2.1 ∧ (h.setT d t).L d 2 = Int64.ofInt t.2.2 := by
  unfold AH.setT
  refine ⟨?_, ?_, ?_⟩ <;> simp [AH.L_setL]
theorem Fr_setT {W : Nat → Nat → Prop} (h : AH) (d : Nat) (t : T3) (hw : h.kind d ≠ 0 → ∀ j, W d j) : Fr 0 0 W h (h.setT d t) := by
  have F1 := Fr_setL (W := W) h d 0 (Int64.ofInt t.1) (fun z => hw z 0)
  have F2 := Fr_trans (W := W) F1 (Fr_setL (W := W) (h.setL d 0 (Int64.ofInt t.1)) d 1 (Int64.ofInt t.2.1) (fun z => hw z 1)) (fun _ _ _ z => z) (fun _ _ _ z => z)
  exact Fr_trans (W := W) F2 (Fr_setL (W := W) _ d 2 (Int64.ofInt t.2.2) (fun z => hw z 2)) (fun _ _ _ z => z) (fun _ _ _ z => z)
theorem x_initL {n : Nat} {K : Nat → Nat} {h : AH} {d : Nat} (hn : 20000 < n) (hd : h.kind d = 12) {X1 Y1 X2 Y2 : Int32} (b1 : 0 ≤ X1.toInt ∧ X1.toInt ≤ 99) (b2 : 0 ≤ Y1.toInt ∧ Y1.toInt ≤ 99) (b3 : 0 ≤ X2.toInt ∧ X2.toInt ≤ 99) (b4 : 0 ≤ Y2.toInt ∧ Y2.toInt ≤ 99) (hne : Y2.toInt - Y1.toInt ≠ 0 ∨ X1.toInt - X2.toInt ≠ 0) : F_X11_init n K d X1 Y1 X2 Y2 h = some ((), h.setT d (mkLine X1.toInt Y1.toInt X2.toInt Y2.toInt)) := by
  have p1 : (Y2 - Y1).toInt64.toInt = Y2.toInt - Y1.toInt := by rw [Int32.toInt_toInt64, i_sub (by omega) (by omega)]
  have q1 : (X1 - X2).toInt64.toInt = X1.toInt - X2.toInt := by rw [Int32.toInt_toInt64, i_sub (by omega) (by omega)]
  have hc := x_common (n := n) (K := K) (h := h) hn (a := (Y2 - Y1).toInt64) (b := (X1 - X2).toInt64) ⟨by omega, by omega⟩ ⟨by omega, by omega⟩
  have hb := gcd_le99 (k := 99) hne (by omega) (by omega)
  have sb := sgL_bd (k := 99) hne (by omega) (by omega)
  have sn := sgL_ne hne
  unfold F_X11_init
  rw [hc, bnd_some, sg_jn _ (by rw [p1, q1]; omega) rfl, p1, q1]
  unfold mkLine AH.setT
  generalize sgL (Y2.toInt - Y1.toInt) (X1.toInt - X2.toInt) = s at *
  have es : (Int64.ofInt s).toInt = s := l_of (by omega) (by omega)
  have s0 : (Int64.ofInt s = 0) = False := eq_false (fun z => sn (by rw [l_eq, es] at z; exact z))
  have t1 := tdiv_bd (p := Y2.toInt - Y1.toInt) (s := s) (k := 99) (by omega)
  have t2 := tdiv_bd (p := X1.toInt - X2.toInt) (s := s) (k := 99) (by omega)
  have d1 : (Y2 - Y1).toInt64 / Int64.ofInt s = Int64.ofInt ((Y2.toInt - Y1.toInt).tdiv s) := by
    apply l_ofT
    rw [l_div (by rw [p1, es]; omega) (by rw [p1, es]; omega), p1, es]
  have d2 : (X1 - X2).toInt64 / Int64.ofInt s = Int64.ofInt ((X1.toInt - X2.toInt).tdiv s) := by
    apply l_ofT
    rw [l_div (by rw [q1, es]; omega) (by rw [q1, es]; omega), q1, es]
  have x1 : X1.toInt64 = Int64.ofInt X1.toInt := l_ofT (Int32.toInt_toInt64 X1)
  have y1 : Y1.toInt64 = Int64.ofInt Y1.toInt := l_ofT (Int32.toInt_toInt64 Y1)
  have l0 : ∀ (a b : Int64), ((h.setL d 0 a).setL d 1 b).L d 0 = a := fun a b => by rw [AH.L_setL, if_neg (by omega), AH.L_setL, if_pos ⟨rfl, rfl⟩]
  have l1 : ∀ (a b : Int64), ((h.setL d 0 a).setL d 1 b).L d 1 = b := fun a b => by rw [AH.L_setL, if_pos ⟨rfl, rfl⟩]
  simp only [chk_true, bnd_some, ob_some, oc_some, oc_none, hl_eq, jn_eq, ix_0, ix_1, if_true, if_false, inb0_2, inb1_2, not_true_eq_false, not_false_eq_true, ite_true, ite_false, true_or, or_true, or_self, zero_eq_one_I, one_eq_zero_I, AH.n_setI, AH.n_setL, AH.n_setR, AH.sl_setI, AH.sl_setL, AH.sl_setR, AH.kind_setI, AH.kind_setL, AH.kind_setR, AH.len_setI, AH.len_setL, AH.len_setR, AH.I_setL, AH.I_setR, AH.L_setI, AH.L_setR, AH.R_setI, AH.R_setL, s0, hd, d1, d2, l0, l1, x1, y1, Int64.ofInt_add, Int64.ofInt_mul]
/-! the sign of a long -/
theorem sgn_pos {a : Int64} (h1 : 0 < a.toInt) : ((a >>> ((63 : Int32).toInt64 &&& 63)) ||| (((-a).toUInt64 >>> ((63 : Int32).toInt64.toUInt64 &&& Int64.toUInt64 63)).toInt64)).toInt32 = 1 := by
  have e1 : a >>> ((63 : Int32).toInt64 &&& 63) = 0 := by
    apply Int64.toInt_inj.1
    have : ((63 : Int32).toInt64 &&& 63) = 63 := by decide
    rw [this, ← Int64.toInt_toBitVec, Int64.toBitVec_shiftRight]
    have e2 : ((63 : Int64).toBitVec.smod 64) = 63#64 := by decide
    rw [e2, BitVec.sshiftRight', BitVec.toInt_sshiftRight, Int64.toInt_toBitVec]
    have hb := Int64.toInt_lt a
    show a.toInt >>> 63 = 0
    rw [Int.shiftRight_eq_div_pow]
    omega
  have e3 : ((-a).toUInt64 >>> ((63 : Int32).toInt64.toUInt64 &&& Int64.toUInt64 63)).toInt64 = 1 := by
    have : ((63 : Int32).toInt64.toUInt64 &&& Int64.toUInt64 63) = 63 := by decide
    rw [this]
    have e4 : (-a).toUInt64 >>> 63 = 1 := by
      apply UInt64.toNat_inj.1
      rw [UInt64.toNat_shiftRight]
      have e5 : (-a).toUInt64.toNat = 2 ^ 64 - a.toInt.toNat := by
        show (-a).toBitVec.toNat = _
        rw [Int64.toBitVec_neg, BitVec.toNat_neg]
        have hb := Int64.toInt_lt a
        have e6 : (a.toBitVec.toNat : Int) = a.toInt := by
          have := BitVec.toInt_eq_toNat_cond a.toBitVec
          have e7 : a.toBitVec.toInt = a.toInt := Int64.toInt_toBitVec a
          have hl := a.toBitVec.isLt
          split at this <;> omega
        omega
      rw [e5]
      have hb := Int64.toInt_lt a
      show (2 ^ 64 - a.toInt.toNat) >>> 63 = 1
      rw [Nat.shiftRight_eq_div_pow]
      omega
    rw [e4]; rfl
  rw [e1, e3]
  decide
theorem sgn_neg {a : Int64} (h1 : a.toInt < 0) : ((a >>> ((63 : Int32).toInt64 &&& 63)) ||| (((-a).toUInt64 >>> ((63 : Int32).toInt64.toUInt64 &&& Int64.toUInt64 63)).toInt64)).toInt32 = -1 := by
  have e1 : a >>> ((63 : Int32).toInt64 &&& 63) = -1 := by
    apply Int64.toInt_inj.1
    have : ((63 : Int32).toInt64 &&& 63) = 63 := by decide
    rw [this, ← Int64.toInt_toBitVec, Int64.toBitVec_shiftRight]
    have e2 : ((63 : Int64).toBitVec.smod 64) = 63#64 := by decide
    rw [e2, BitVec.sshiftRight', BitVec.toInt_sshiftRight, Int64.toInt_toBitVec]
    have hb := Int64.le_toInt a
    show a.toInt >>> 63 = -1
    rw [Int.shiftRight_eq_div_pow]
    omega
  rw [e1]
  have e2 : ∀ y : Int64, (-1 : Int64) ||| y = -1 := by
    intro y
    apply Int64.toBitVec_inj.1
    rw [Int64.toBitVec_or]
    exact BitVec.allOnes_or
  rw [e2]
  decide
theorem x_sgn {n : Nat} {K : Nat → Nat} {h : AH} {a : Int64} : ∃ r, F_J16_signum n K a h = some (r, h) ∧ (0 ≤ r) = ¬ (a.toInt < 0) ∧ (r ≤ 0) = ¬ (0 < a.toInt) := by
  rcases Int.lt_trichotomy a.toInt 0 with z | z | z
  · refine ⟨-1, by unfold F_J16_signum; rw [sgn_neg z], ?_, ?_⟩
    · exact propext ⟨fun y => absurd y (by decide), fun y => absurd z y⟩
    · exact propext ⟨fun _ => by omega, fun _ => by decide⟩
  · have : a = 0 := l_eq.2 z
    subst this
    refine ⟨0, by unfold F_J16_signum; rfl, ?_, ?_⟩
    · exact propext ⟨fun _ => by decide, fun _ => by decide⟩
    · exact propext ⟨fun _ => by decide, fun _ => by decide⟩
  · refine ⟨1, by unfold F_J16_signum; rw [sgn_pos z], ?_, ?_⟩
    · exact propext ⟨fun _ => by omega, fun _ => by decide⟩
    · exact propext ⟨fun y => absurd y (by decide), fun y => absurd z y⟩
