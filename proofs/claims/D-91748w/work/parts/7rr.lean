/-! PURE PART RR: spots; whether a spot is a middle -/
set_option maxRecDepth 100000
def SB (t : T3) : Prop := t.1.natAbs ≤ 4000000 ∧ t.2.1.natAbs ≤ 4000000 ∧ t.2.2.natAbs ≤ 20000
theorem sgM_jn {β : Type} (J : Int64 → Option β) {P : Int64} {g : Nat} (hg : g ≤ 2 ^ 62) : (jn (α := Int64 → Option β) J fun j6 =>
  if 0 ≤ (lg_cmp P (0 : Int64)) then (
    j6 (lN g)
  ) else (
    j6 (-lN g)
  )) = J (Int64.ofInt (if P.toInt < 0 then -(g : Int) else (g : Int))) := by
  rw [jn_eq, neg_lN hg, of_lN hg]
  simp only [c_ge0]
  by_cases c : P.toInt < 0
  · simp [c]
  · simp [c]
theorem gcd_leM {p q : Int} {k : Nat} (hp : p.natAbs ≤ k) (hq : q.natAbs ≤ k) : Int.gcd p q ≤ k := by
  by_cases c : p = 0 ∧ q = 0
  · rw [c.1, c.2]; simp
  · exact gcd_le99 (by omega) hp hq
theorem spot_bd {x y n : Int} (h : SB (x, y, n)) : SB (mkSpot x y n) := ⟨tdiv_bd h.1, tdiv_bd h.2.1, tdiv_bd h.2.2⟩
theorem sgM_ok {x y n : Int} (h : SB (x, y, n)) (hn : n ≠ 0) : Int.gcd (Int.gcd x y) n ≤ 4000000 ∧ sgM x y n ≠ 0 ∧ (sgM x y n).natAbs ≤ 4000000 := by
  have x1 : x.natAbs ≤ 4000000 := h.1
  have y1 : y.natAbs ≤ 4000000 := h.2.1
  have n1 : n.natAbs ≤ 20000 := h.2.2
  have h1 : Int.gcd (Int.gcd x y) n ≤ 4000000 := gcd_leM (by have := gcd_leM (k := 4000000) x1 y1; omega) (by omega)
  have h2 : 0 < (Int.gcd (Int.gcd x y) n : Int) := sg_ne (Or.inr hn)
  refine ⟨h1, ?_, ?_⟩
  · unfold sgM; split <;> omega
  · unfold sgM; split <;> omega
theorem spot_div {x s : Int} (hx : x.natAbs ≤ 4000000) (hs : s.natAbs ≤ 4000000) : Int64.ofInt x / Int64.ofInt s = Int64.ofInt (x.tdiv s) := by
  have ex : (Int64.ofInt x).toInt = x := l_of (by omega) (by omega)
  have es : (Int64.ofInt s).toInt = s := l_of (by omega) (by omega)
  have t1 := tdiv_bd (p := x) (s := s) hx
  apply l_ofT
  rw [l_div (by rw [ex, es]; omega) (by rw [ex, es]; omega), ex, es]
theorem sm_of {z : Int} (h : z.natAbs ≤ 4000000) : sm (Int64.ofInt z) := by
  unfold sm
  rw [l_of (by omega) (by omega)]
  omega
theorem x_initM {n : Nat} {K : Nat → Nat} {h : AH} {d : Nat} (hn : 20000 < n) (hd : h.kind d = 13) {a b c : Int} (hb : SB (a, b, c)) (hc : c ≠ 0) : F_X12_init n K d (Int64.ofInt a) (Int64.ofInt b) (Int64.ofInt c) h = some ((), h.setT d (mkSpot a b c)) := by
  obtain ⟨g1, g2, g3⟩ := sgM_ok hb hc
  obtain ⟨b1, b2, b3⟩ := hb
  have b3' : c.natAbs ≤ 4000000 := by have : c.natAbs ≤ 20000 := b3; omega
  have g0 := gcd_leM (k := 4000000) b1 b2
  have ea : (Int64.ofInt a).toInt = a := l_of (by have : a.natAbs ≤ 4000000 := b1; omega) (by have : a.natAbs ≤ 4000000 := b1; omega)
  have eb : (Int64.ofInt b).toInt = b := l_of (by have : b.natAbs ≤ 4000000 := b2; omega) (by have : b.natAbs ≤ 4000000 := b2; omega)
  have ec : (Int64.ofInt c).toInt = c := l_of (by omega) (by omega)
  have hc1 := x_common (n := n) (K := K) (h := h) hn (sm_of b1) (sm_of b2)
  rw [ea, eb] at hc1
  have eg : (lN (Int.gcd a b)).toInt = (Int.gcd a b : Int) := pk_lT (by have : Int.gcd a b ≤ 4000000 := g0; omega)
  have hc2 := x_common (n := n) (K := K) (h := h) hn (a := lN (Int.gcd a b)) (b := Int64.ofInt c) ⟨by rw [eg]; omega, by rw [eg]; have : Int.gcd a b ≤ 4000000 := g0; omega⟩ (sm_of b3')
  rw [eg, ec] at hc2
  unfold F_X12_init
  rw [hc1, bnd_some, hc2, bnd_some, sgM_jn _ (by omega), ec]
  show _ = some ((), h.setT d (a.tdiv (sgM a b c), b.tdiv (sgM a b c), c.tdiv (sgM a b c)))
  have e : (if c < 0 then -(Int.gcd (Int.gcd a b) c : Int) else (Int.gcd (Int.gcd a b) c : Int)) = sgM a b c := rfl
  rw [e]
  generalize sgM a b c = s at *
  have es : (Int64.ofInt s).toInt = s := l_of (by omega) (by omega)
  have s0 : (Int64.ofInt s = 0) = False := eq_false (fun z => g2 (by rw [l_eq, es] at z; exact z))
  simp only [chk_true, bnd_some, ob_some, oc_some, oc_none, hl_eq, jn_eq, ix_0, ix_1, if_true, if_false, inb0_2, inb1_2, not_true_eq_false, not_false_eq_true, ite_true, ite_false, true_or, or_true, or_self, zero_eq_one_I, one_eq_zero_I, AH.n_setI, AH.n_setL, AH.n_setR, AH.sl_setI, AH.sl_setL, AH.sl_setR, AH.kind_setI, AH.kind_setL, AH.kind_setR, AH.len_setI, AH.len_setL, AH.len_setR, AH.I_setL, AH.I_setR, AH.L_setI, AH.L_setR, AH.R_setI, AH.R_setL, s0, hd, spot_div (x := a) b1 g3, spot_div (x := b) b2 g3, spot_div (x := c) b3' g3]
  rfl
theorem l_pp {a b : Int} : Int64.ofInt a * Int64.ofInt b = Int64.ofInt (a * b) := (Int64.ofInt_mul ..).symm
theorem l_mm {a b : Int} : Int64.ofInt a - Int64.ofInt b = Int64.ofInt (a - b) := (Int64.ofInt_sub ..).symm
theorem l_aa {a b : Int} : Int64.ofInt a + Int64.ofInt b = Int64.ofInt (a + b) := (Int64.ofInt_add ..).symm
theorem x_isAheadM {n : Nat} {K : Nat → Nat} {h : AH} {d d' : Nat} {s t : T3} (bs : SB s) (bt : SB t) (k1 : h.kind d = 13) (k2 : h.kind d' = 13) (s0 : h.L d 0 = Int64.ofInt s.1) (s1 : h.L d 1 = Int64.ofInt s.2.1) (s2 : h.L d 2 = Int64.ofInt s.2.2) (t0 : h.L d' 0 = Int64.ofInt t.1) (t1 : h.L d' 1 = Int64.ofInt t.2.1) (t2 : h.L d' 2 = Int64.ofInt t.2.2) : F_X12_isAhead n K d (some d') h = some (bI (aheadM s t), h) := by
  obtain ⟨a1, a2, a3⟩ := bs
  obtain ⟨b1, b2, b3⟩ := bt
  have m1 := mul_bd a1 b3
  have m2 := mul_bd b1 a3
  have m3 := mul_bd a2 b3
  have m4 := mul_bd b2 a3
  have e1 : (Int64.ofInt (s.1 * t.2.2 - t.1 * s.2.2)).toInt = s.1 * t.2.2 - t.1 * s.2.2 := l_of (by omega) (by omega)
  have e2 : (Int64.ofInt (s.2.1 * t.2.2)).toInt = s.2.1 * t.2.2 := l_of (by omega) (by omega)
  have e3 : (Int64.ofInt (t.2.1 * s.2.2)).toInt = t.2.1 * s.2.2 := l_of (by omega) (by omega)
  have z0 : (0 : Int64).toInt = 0 := rfl
  simp only [F_X12_isAhead, chk_true, bnd_some, ob_some, oc_some, oc_none, hl_eq, jn_eq, ix_0, ix_1, if_true, if_false, inb0_2, inb1_2, not_true_eq_false, not_false_eq_true, ite_true, ite_false, true_or, or_true, or_self, zero_eq_one_I, one_eq_zero_I, k1, k2, s0, s1, s2, t0, t1, t2, l_pp, l_mm, c_eq0, c_ge, e1, e2, e3, z0]
  unfold aheadM bI
  by_cases c4 : s.1 * t.2.2 - t.1 * s.2.2 = 0
  · by_cases c3 : s.2.1 * t.2.2 < t.2.1 * s.2.2 <;> simp [c3, c4]
  · by_cases c5 : s.1 * t.2.2 - t.1 * s.2.2 < 0 <;> simp [c4, c5]
theorem x_isSameM {n : Nat} {K : Nat → Nat} {h : AH} {d d' : Nat} {s t : T3} (bs : SB s) (bt : SB t) (k1 : h.kind d = 13) (k2 : h.kind d' = 13) (s0 : h.L d 0 = Int64.ofInt s.1) (s1 : h.L d 1 = Int64.ofInt s.2.1) (s2 : h.L d 2 = Int64.ofInt s.2.2) (t0 : h.L d' 0 = Int64.ofInt t.1) (t1 : h.L d' 1 = Int64.ofInt t.2.1) (t2 : h.L d' 2 = Int64.ofInt t.2.2) : F_X12_isSame n K d (some d') h = some (bI (decide (s = t)), h) := by
  obtain ⟨a1, a2, a3⟩ := bs
  obtain ⟨b1, b2, b3⟩ := bt
  have e0 : (Int64.ofInt s.1).toInt = s.1 := l_of (by omega) (by omega)
  have e1 : (Int64.ofInt s.2.1).toInt = s.2.1 := l_of (by omega) (by omega)
  have e2 : (Int64.ofInt s.2.2).toInt = s.2.2 := l_of (by omega) (by omega)
  have f0 : (Int64.ofInt t.1).toInt = t.1 := l_of (by omega) (by omega)
  have f1 : (Int64.ofInt t.2.1).toInt = t.2.1 := l_of (by omega) (by omega)
  have f2 : (Int64.ofInt t.2.2).toInt = t.2.2 := l_of (by omega) (by omega)
  simp only [F_X12_isSame, chk_true, bnd_some, ob_some, oc_some, oc_none, hl_eq, jn_eq, ix_0, ix_1, if_true, if_false, inb0_2, inb1_2, not_true_eq_false, not_false_eq_true, ite_true, ite_false, true_or, or_true, or_self, zero_eq_one_I, one_eq_zero_I, k1, k2, s0, s1, s2, t0, t1, t2, c_eq, e0, e1, e2, f0, f1, f2]
  obtain ⟨p, q, r⟩ := s
  obtain ⟨p', q', r'⟩ := t
  unfold bI
  by_cases c1 : p = p'
  · by_cases c2 : q = q'
    · by_cases c3 : r = r' <;> simp [c1, c2, c3]
    · simp [c1, c2]
  · simp [c1]
/-! sides and rays -/
def dX (S : St) (t : T3) (k : Nat) : Int := vX S k * t.2.2 - t.1
def dY (S : St) (t : T3) (k : Nat) : Int := vY S k * t.2.2 - t.2.1
def sdS (S : St) (t : T3) (k u : Nat) : Int := dX S t k * dY S t u - dY S t k * dX S t u
def ryS (S : St) (t : T3) (k u : Nat) : Int := dX S t k * dX S t u + dY S t k * dY S t u
theorem arW_s (S : St) (t : T3) (k w u : Nat) : arW S t k w (u + 1) = arW S t k w u + if (if w = 0 then decide (sdS S t k u < 0) else if w = 1 then decide (0 < sdS S t k u) else if w = 2 then (decide (sdS S t k u = 0) && decide (ryS S t k u < 0)) else (decide (sdS S t k u = 0) && decide (0 < ryS S t k u))) = true then S.V u 2 else 0 := rfl
theorem d_bd {S : St} (B : Bd S) {t : T3} (bt : SB t) {k : Nat} (hk : k < S.nv) : (dX S t k).natAbs ≤ 6000000 ∧ (dY S t k).natAbs ≤ 6000000 := by
  obtain ⟨a1, a2⟩ := vX_bd B hk
  obtain ⟨b1, b2, b3⟩ := bt
  have m1 := mul_bd (a := vX S k) (k := 99) (by omega) b3
  have m2 := mul_bd (a := vY S k) (k := 99) (by omega) b3
  unfold dX dY
  omega
theorem sd_of {S : St} (B : Bd S) {t : T3} (bt : SB t) {k u : Nat} (hk : k < S.nv) (hu : u < S.nv) : (Int64.ofInt (sdS S t k u)).toInt = sdS S t k u ∧ (Int64.ofInt (ryS S t k u)).toInt = ryS S t k u := by
  obtain ⟨a1, a2⟩ := d_bd B bt hk
  obtain ⟨b1, b2⟩ := d_bd B bt hu
  have m1 := mul_bd a1 b2
  have m2 := mul_bd a2 b1
  have m3 := mul_bd a1 b1
  have m4 := mul_bd a2 b2
  unfold sdS ryS
  exact ⟨l_of (by omega) (by omega), l_of (by omega) (by omega)⟩
theorem d_of {S : St} (B : Bd S) {t : T3} (bt : SB t) {k : Nat} (hk : k < S.nv) : (Int64.ofInt (dX S t k)).toInt = dX S t k ∧ (Int64.ofInt (dY S t k)).toInt = dY S t k := by
  obtain ⟨a1, a2⟩ := d_bd B bt hk
  exact ⟨l_of (by omega) (by omega), l_of (by omega) (by omega)⟩
theorem V_l (a : Int32) : a.toInt64 = Int64.ofInt a.toInt := l_ofT (Int32.toInt_toInt64 a)
theorem maxS_comm (a b : Int32) : maxS a b = maxS b a := by
  unfold maxS
  by_cases c1 : a < b
  · have c2 : ¬ b < a := by rw [Int32.lt_iff_toInt_lt] at *; omega
    rw [if_pos c1, if_neg c2]
  · by_cases c2 : b < a
    · rw [if_neg c1, if_pos c2]
    · rw [if_neg c1, if_neg c2]
      apply Int32.toInt_inj.1
      rw [Int32.lt_iff_toInt_lt] at *; omega
theorem mid_fin {S : St} {t : T3} (h : ∀ i, i < S.nv → midP S t i = false) : midS S t = true := by
  unfold midS
  cases hh : anyS (midP S t) S.nv
  · rfl
  · obtain ⟨i, h1, h2⟩ := anyS_iff.1 hh
    rw [h i h1] at h2; cases h2
theorem mid_no {S : St} {t : T3} {i : Nat} (hi : i < S.nv) (h : midP S t i = true) : midS S t = false := by
  unfold midS
  rw [anyS_iff.2 ⟨i, hi, h⟩]; rfl
theorem m_isMid84 {n : Nat} {K : Nat → Nat} {m : Nat} {h : AH} {S : St} (hn : 20000 < n) (M : MA m h S) (B : Bd S) {t : T3} (bt : SB t) {k : Nat} (hk : k < S.nv) (y1 y2 : Int32) (kk : Int32 → Int32 → Int32 → Int32 → AH → Option (Int32 × AH)) : F_X3_isMiddle_L84 n K (Int64.ofInt (dY S t k)) (Int64.ofInt (dX S t k)) y1 y2 m (Int64.ofInt t.1) (Int64.ofInt t.2.1) (Int64.ofInt t.2.2) n 0 0 0 0 0 h kk = kk (arW S t k 2 S.nv) (arW S t k 3 S.nv) (arW S t k 0 S.nv) (arW S t k 1 S.nv) h := by
  obtain ⟨H, HV, HP, HB⟩ := M
  have h15 := HV.2.1
  have key := loopU (fun f i (s : Int32 × Int32 × Int32 × Int32) => F_X3_isMiddle_L84 n K (Int64.ofInt (dY S t k)) (Int64.ofInt (dX S t k)) y1 y2 m (Int64.ofInt t.1) (Int64.ofInt t.2.1) (Int64.ofInt t.2.2) f i s.1 s.2.1 s.2.2.1 s.2.2.2 h kk) S.nv (fun u s => s = (arW S t k 2 u, arW S t k 3 u, arW S t k 0 u, arW S t k 1 u)) (fun o => o = kk (arW S t k 2 S.nv) (arW S t k 3 S.nv) (arW S t k 0 S.nv) (arW S t k 1 S.nv) h)
    (by
      intro f u s hu hs
      right
      refine ⟨_, rfl, ?_⟩
      have e1 : ix (nI u) = u := ix_nI (by omega)
      have e2 : inb (nI u) 15 = True := eq_true ((inb_nI (by omega)).2 (by omega))
      have e3 : (nI S.nv ≤ nI u) = False := eq_false (nI_ge hu (by omega))
      obtain ⟨g0, g1, g2, g3, g4, g5⟩ := HV.2.2 u hu
      have x1 : Int64.ofInt t.2.2 * (S.V u 0).toInt64 - Int64.ofInt t.1 = Int64.ofInt (dX S t u) := by
        rw [V_l, l_pp, l_mm, Int.mul_comm]; rfl
      have x2 : Int64.ofInt t.2.2 * (S.V u 1).toInt64 - Int64.ofInt t.2.1 = Int64.ofInt (dY S t u) := by
        rw [V_l, l_pp, l_mm, Int.mul_comm]; rfl
      have x3 : Int64.ofInt (dX S t k) * Int64.ofInt (dY S t u) - Int64.ofInt (dY S t k) * Int64.ofInt (dX S t u) = Int64.ofInt (sdS S t k u) := by
        rw [l_pp, l_pp, l_mm]; rfl
      have x4 : Int64.ofInt (dX S t k) * Int64.ofInt (dX S t u) + Int64.ofInt (dY S t k) * Int64.ofInt (dY S t u) = Int64.ofInt (ryS S t k u) := by
        rw [l_pp, l_pp, l_aa]; rfl
      obtain ⟨s1, s2⟩ := sd_of B bt hk hu
      have cl : ∀ {a : Int64}, (lg_cmp a 0 ≤ 0) = ¬ (0 < a.toInt) := by
        intro a
        rw [lg_cmp_le, Int64.le_iff_toInt_le]
        exact propext ⟨fun z => by have : a.toInt ≤ 0 := z; omega, fun z => by show a.toInt ≤ 0; omega⟩
      subst hs
      simp only [F_X3_isMiddle_L84, chk_true, bnd_some, ob_some, oc_some, oc_none, hl_eq, jn_eq, ix_0, ix_1, if_true, if_false, inb0_2, inb1_2, not_true_eq_false, not_false_eq_true, ite_true, ite_false, true_or, or_true, or_self, zero_eq_one_I, one_eq_zero_I, ms_k0, ms_k1, ms_n1, ms_k2, ms_n2, ms_k3, ms_n3, ms_k4, ms_n4, ms_k5, ms_n5, ms_k6, ms_n6, ms_k7, ms_n7, ms_k8, ms_n8, ms_k9, ms_n9, ms_k10, ms_n10, ms_k11, ms_n11, ms_k12, ms_n12, ms_k13, ms_n13, ms_k14, ms_n14, ms_k15, ms_n15, ms_k16, ms_n16, ms_k17, ms_n17, ms_k18, ms_n18, ms_k19, ms_n19, ms_k20, ms_n20, ms_k21, ms_n21, ms_k22, ms_n22, ms_k23, ms_n23, ms_k24, ms_n24, ms_k25, ms_n25, ms_k26, ms_n26, ms_k27, ms_n27, ms_k28, ms_n28, ms_k29, ms_n29, ms_k30, ms_n30, ms_k31, ms_n31, ms_k32, ms_n32, ms_k33, ms_n33, ms_k34, ms_n34, ms_k35, ms_n35, ms_k36, ms_n36, ms_k37, ms_n37, ms_k38, ms_n38, ms_k39, ms_n39, ms_k40, ms_n40, ms_k41, ms_n41, ms_k50, ms_n50, ms_k51, ms_n51, ms_k52, ms_n52, ms_k53, ms_n53, ms_r0_0, ms_r0_6, ms_r2_0, ms_r2_1, ms_r0_7, ms_r5_0, ms_r5_1, ms_r0_8, ms_r8_0, ms_r8_1, ms_r0_9, ms_r11_0, ms_r11_1, ms_r0_10, ms_r14_0, ms_r14_1, ms_r0_11, ms_r17_0, ms_r17_1, ms_r0_12, ms_r20_0, ms_r20_1, ms_r0_13, ms_r23_0, ms_r23_1, ms_r0_14, ms_r0_15, ms_r0_16, ms_r0_17, ms_r0_18, ms_r0_23, ms_r0_24, ms_r0_25, ms_r0_26, ms_r0_30, ms_r0_31, ms_r0_32, ms_r0_35, ms_r0_36, ms_r0_39, ms_r0_40, ms_r0_41, ms_r0_42, ms_r0_43, ms_r0_47, H, m_voters H HV, e1, e2, e3, g0, g1, g2, x1, x2, x3, x4, cl, c_ge0, s1, s2, nI_1, arW_s]
      rcases Int.lt_trichotomy (sdS S t k u) 0 with z | z | z
      · have z1 : ¬ (0 < sdS S t k u) := by omega
        have z2 : ¬ (sdS S t k u = 0) := by omega
        simp [z, z1, z2]
      · rcases Int.lt_trichotomy (ryS S t k u) 0 with y | y | y
        · have y1 : ¬ (0 < ryS S t k u) := by omega
          simp [z, y, y1]
        · simp [z, y]
        · have y1 : ¬ (ryS S t k u < 0) := by omega
          simp [z, y, y1]
      · have z1 : ¬ (sdS S t k u < 0) := by omega
        have z2 : ¬ (sdS S t k u = 0) := by omega
        simp [z, z1, z2])
    (by
      intro f s hs
      have e3 : (nI S.nv ≤ nI S.nv) = True := eq_true (nI_le (Nat.le_refl _) (by omega))
      subst hs
      simp only [F_X3_isMiddle_L84, chk_true, bnd_some, ob_some, oc_some, oc_none, hl_eq, jn_eq, ix_0, ix_1, if_true, if_false, inb0_2, inb1_2, not_true_eq_false, not_false_eq_true, ite_true, ite_false, true_or, or_true, or_self, zero_eq_one_I, one_eq_zero_I, ms_k0, ms_k1, ms_n1, ms_k2, ms_n2, ms_k3, ms_n3, ms_k4, ms_n4, ms_k5, ms_n5, ms_k6, ms_n6, ms_k7, ms_n7, ms_k8, ms_n8, ms_k9, ms_n9, ms_k10, ms_n10, ms_k11, ms_n11, ms_k12, ms_n12, ms_k13, ms_n13, ms_k14, ms_n14, ms_k15, ms_n15, ms_k16, ms_n16, ms_k17, ms_n17, ms_k18, ms_n18, ms_k19, ms_n19, ms_k20, ms_n20, ms_k21, ms_n21, ms_k22, ms_n22, ms_k23, ms_n23, ms_k24, ms_n24, ms_k25, ms_n25, ms_k26, ms_n26, ms_k27, ms_n27, ms_k28, ms_n28, ms_k29, ms_n29, ms_k30, ms_n30, ms_k31, ms_n31, ms_k32, ms_n32, ms_k33, ms_n33, ms_k34, ms_n34, ms_k35, ms_n35, ms_k36, ms_n36, ms_k37, ms_n37, ms_k38, ms_n38, ms_k39, ms_n39, ms_k40, ms_n40, ms_k41, ms_n41, ms_k50, ms_n50, ms_k51, ms_n51, ms_k52, ms_n52, ms_k53, ms_n53, ms_r0_0, ms_r0_6, ms_r2_0, ms_r2_1, ms_r0_7, ms_r5_0, ms_r5_1, ms_r0_8, ms_r8_0, ms_r8_1, ms_r0_9, ms_r11_0, ms_r11_1, ms_r0_10, ms_r14_0, ms_r14_1, ms_r0_11, ms_r17_0, ms_r17_1, ms_r0_12, ms_r20_0, ms_r20_1, ms_r0_13, ms_r23_0, ms_r23_1, ms_r0_14, ms_r0_15, ms_r0_16, ms_r0_17, ms_r0_18, ms_r0_23, ms_r0_24, ms_r0_25, ms_r0_26, ms_r0_30, ms_r0_31, ms_r0_32, ms_r0_35, ms_r0_36, ms_r0_39, ms_r0_40, ms_r0_41, ms_r0_42, ms_r0_43, ms_r0_47, H, m_voters H HV, e3])
  exact key S.nv 0 (0, 0, 0, 0) n (by omega) (by omega) rfl
theorem m_isMiddle {n : Nat} {K : Nat → Nat} {m : Nat} {h : AH} {S : St} (hn : 20000 < n) (M : MA m h S) (B : Bd S) {t : T3} (bt : SB t) : F_X3_isMiddle n K m (Int64.ofInt t.1) (Int64.ofInt t.2.1) (Int64.ofInt t.2.2) h = some (bI (midS S t), h) := by
  have M0 := M
  obtain ⟨H, HV, HP, HB⟩ := M
  have h15 := HV.2.1
  have key := loopU (fun f i (_ : Unit) => F_X3_isMiddle_L9 n K (totS S.V S.nv) m (Int64.ofInt t.1) (Int64.ofInt t.2.1) (Int64.ofInt t.2.2) f i h) S.nv (fun k _ => ∀ i, i < k → midP S t i = false) (fun o => o = some (bI (midS S t), h))
    (by
      intro f k s hk hs
      have e1 : ix (nI k) = k := ix_nI (by omega)
      have e2 : inb (nI k) 15 = True := eq_true ((inb_nI (by omega)).2 (by omega))
      have e3 : (nI S.nv ≤ nI k) = False := eq_false (nI_ge hk (by omega))
      obtain ⟨g0, g1, g2, g3, g4, g5⟩ := HV.2.2 k hk
      have x1 : Int64.ofInt t.2.2 * (S.V k 0).toInt64 - Int64.ofInt t.1 = Int64.ofInt (dX S t k) := by
        rw [V_l, l_pp, l_mm, Int.mul_comm]; rfl
      have x2 : Int64.ofInt t.2.2 * (S.V k 1).toInt64 - Int64.ofInt t.2.1 = Int64.ofInt (dY S t k) := by
        rw [V_l, l_pp, l_mm, Int.mul_comm]; rfl
      obtain ⟨d1, d2⟩ := d_of B bt hk
      have st : F_X3_isMiddle_L9 n K (totS S.V S.nv) m (Int64.ofInt t.1) (Int64.ofInt t.2.1) (Int64.ofInt t.2.2) (f + 1) (nI k) h = if midP S t k = true then some (0, h) else F_X3_isMiddle_L9 n K (totS S.V S.nv) m (Int64.ofInt t.1) (Int64.ofInt t.2.1) (Int64.ofInt t.2.2) f (nI (k + 1)) h := by
        simp only [F_X3_isMiddle_L9, chk_true, bnd_some, ob_some, oc_some, oc_none, hl_eq, ix_0, ix_1, if_true, if_false, inb0_2, inb1_2, not_true_eq_false, not_false_eq_true, ite_true, ite_false, true_or, or_true, or_self, zero_eq_one_I, one_eq_zero_I, ms_k0, ms_k1, ms_n1, ms_k2, ms_n2, ms_k3, ms_n3, ms_k4, ms_n4, ms_k5, ms_n5, ms_k6, ms_n6, ms_k7, ms_n7, ms_k8, ms_n8, ms_k9, ms_n9, ms_k10, ms_n10, ms_k11, ms_n11, ms_k12, ms_n12, ms_k13, ms_n13, ms_k14, ms_n14, ms_k15, ms_n15, ms_k16, ms_n16, ms_k17, ms_n17, ms_k18, ms_n18, ms_k19, ms_n19, ms_k20, ms_n20, ms_k21, ms_n21, ms_k22, ms_n22, ms_k23, ms_n23, ms_k24, ms_n24, ms_k25, ms_n25, ms_k26, ms_n26, ms_k27, ms_n27, ms_k28, ms_n28, ms_k29, ms_n29, ms_k30, ms_n30, ms_k31, ms_n31, ms_k32, ms_n32, ms_k33, ms_n33, ms_k34, ms_n34, ms_k35, ms_n35, ms_k36, ms_n36, ms_k37, ms_n37, ms_k38, ms_n38, ms_k39, ms_n39, ms_k40, ms_n40, ms_k41, ms_n41, ms_k50, ms_n50, ms_k51, ms_n51, ms_k52, ms_n52, ms_k53, ms_n53, ms_r0_0, ms_r0_6, ms_r2_0, ms_r2_1, ms_r0_7, ms_r5_0, ms_r5_1, ms_r0_8, ms_r8_0, ms_r8_1, ms_r0_9, ms_r11_0, ms_r11_1, ms_r0_10, ms_r14_0, ms_r14_1, ms_r0_11, ms_r17_0, ms_r17_1, ms_r0_12, ms_r20_0, ms_r20_1, ms_r0_13, ms_r23_0, ms_r23_1, ms_r0_14, ms_r0_15, ms_r0_16, ms_r0_17, ms_r0_18, ms_r0_23, ms_r0_24, ms_r0_25, ms_r0_26, ms_r0_30, ms_r0_31, ms_r0_32, ms_r0_35, ms_r0_36, ms_r0_39, ms_r0_40, ms_r0_41, ms_r0_42, ms_r0_43, ms_r0_47, H, m_voters H HV, e1, e2, e3, g0, g1, x1, x2]
        rw [jn_and]
        simp only [c_eq0, d1, d2, m_isMid84 hn M0 B bt hk, nI_1]
        unfold midP
        rw [show vX S k * t.2.2 - t.1 = dX S t k from rfl, show vY S k * t.2.2 - t.2.1 = dY S t k from rfl]
        by_cases c : dX S t k = 0 ∧ dY S t k = 0
        · simp [c.1, c.2]
        · rw [if_neg c]
          have c2 : (!(decide (dX S t k = 0) && decide (dY S t k = 0))) = true := by
            rw [← Bool.decide_and, decide_eq_false c]; rfl
          rw [c2, Bool.true_and, maxS_comm (arW S t k 0 S.nv), maxS_comm (arW S t k 2 S.nv)]
          simp only [i_le, maxS, decide_eq_true_eq]
          by_cases c3 : totS S.V S.nv < 2 * ((if arW S t k 1 S.nv < arW S t k 0 S.nv then arW S t k 0 S.nv else arW S t k 1 S.nv) + (if arW S t k 3 S.nv < arW S t k 2 S.nv then arW S t k 2 S.nv else arW S t k 3 S.nv))
          · simp [c3]
          · simp [c3]
      cases hp : midP S t k
      · right
        refine ⟨(), fun i hi => ?_, ?_⟩
        · rcases Nat.lt_or_ge i k with z | z
          · exact hs i z
          · rw [show i = k by omega]; exact hp
        · rw [st, hp]; rfl
      · left
        rw [st, hp, mid_no hk hp]; rfl)
    (by
      intro f s hs
      have e3 : (nI S.nv ≤ nI S.nv) = True := eq_true (nI_le (Nat.le_refl _) (by omega))
      simp only [F_X3_isMiddle_L9, chk_true, bnd_some, ob_some, oc_some, oc_none, hl_eq, jn_eq, ix_0, ix_1, if_true, if_false, inb0_2, inb1_2, not_true_eq_false, not_false_eq_true, ite_true, ite_false, true_or, or_true, or_self, zero_eq_one_I, one_eq_zero_I, ms_k0, ms_k1, ms_n1, ms_k2, ms_n2, ms_k3, ms_n3, ms_k4, ms_n4, ms_k5, ms_n5, ms_k6, ms_n6, ms_k7, ms_n7, ms_k8, ms_n8, ms_k9, ms_n9, ms_k10, ms_n10, ms_k11, ms_n11, ms_k12, ms_n12, ms_k13, ms_n13, ms_k14, ms_n14, ms_k15, ms_n15, ms_k16, ms_n16, ms_k17, ms_n17, ms_k18, ms_n18, ms_k19, ms_n19, ms_k20, ms_n20, ms_k21, ms_n21, ms_k22, ms_n22, ms_k23, ms_n23, ms_k24, ms_n24, ms_k25, ms_n25, ms_k26, ms_n26, ms_k27, ms_n27, ms_k28, ms_n28, ms_k29, ms_n29, ms_k30, ms_n30, ms_k31, ms_n31, ms_k32, ms_n32, ms_k33, ms_n33, ms_k34, ms_n34, ms_k35, ms_n35, ms_k36, ms_n36, ms_k37, ms_n37, ms_k38, ms_n38, ms_k39, ms_n39, ms_k40, ms_n40, ms_k41, ms_n41, ms_k50, ms_n50, ms_k51, ms_n51, ms_k52, ms_n52, ms_k53, ms_n53, ms_r0_0, ms_r0_6, ms_r2_0, ms_r2_1, ms_r0_7, ms_r5_0, ms_r5_1, ms_r0_8, ms_r8_0, ms_r8_1, ms_r0_9, ms_r11_0, ms_r11_1, ms_r0_10, ms_r14_0, ms_r14_1, ms_r0_11, ms_r17_0, ms_r17_1, ms_r0_12, ms_r20_0, ms_r20_1, ms_r0_13, ms_r23_0, ms_r23_1, ms_r0_14, ms_r0_15, ms_r0_16, ms_r0_17, ms_r0_18, ms_r0_23, ms_r0_24, ms_r0_25, ms_r0_26, ms_r0_30, ms_r0_31, ms_r0_32, ms_r0_35, ms_r0_36, ms_r0_39, ms_r0_40, ms_r0_41, ms_r0_42, ms_r0_43, ms_r0_47, H, m_voters H HV, e3, mid_fin hs, bI])
  have k := key S.nv 0 () n (by omega) (by omega) (fun i hi => absurd hi (Nat.not_lt_zero i))
  simp only [F_X3_isMiddle, chk_true, bnd_some, ob_some, oc_some, oc_none, hl_eq, jn_eq, ix_0, ix_1, if_true, if_false, inb0_2, inb1_2, not_true_eq_false, not_false_eq_true, ite_true, ite_false, true_or, or_true, or_self, zero_eq_one_I, one_eq_zero_I, ms_k0, ms_k1, ms_n1, ms_k2, ms_n2, ms_k3, ms_n3, ms_k4, ms_n4, ms_k5, ms_n5, ms_k6, ms_n6, ms_k7, ms_n7, ms_k8, ms_n8, ms_k9, ms_n9, ms_k10, ms_n10, ms_k11, ms_n11, ms_k12, ms_n12, ms_k13, ms_n13, ms_k14, ms_n14, ms_k15, ms_n15, ms_k16, ms_n16, ms_k17, ms_n17, ms_k18, ms_n18, ms_k19, ms_n19, ms_k20, ms_n20, ms_k21, ms_n21, ms_k22, ms_n22, ms_k23, ms_n23, ms_k24, ms_n24, ms_k25, ms_n25, ms_k26, ms_n26, ms_k27, ms_n27, ms_k28, ms_n28, ms_k29, ms_n29, ms_k30, ms_n30, ms_k31, ms_n31, ms_k32, ms_n32, ms_k33, ms_n33, ms_k34, ms_n34, ms_k35, ms_n35, ms_k36, ms_n36, ms_k37, ms_n37, ms_k38, ms_n38, ms_k39, ms_n39, ms_k40, ms_n40, ms_k41, ms_n41, ms_k50, ms_n50, ms_k51, ms_n51, ms_k52, ms_n52, ms_k53, ms_n53, ms_r0_0, ms_r0_6, ms_r2_0, ms_r2_1, ms_r0_7, ms_r5_0, ms_r5_1, ms_r0_8, ms_r8_0, ms_r8_1, ms_r0_9, ms_r11_0, ms_r11_1, ms_r0_10, ms_r14_0, ms_r14_1, ms_r0_11, ms_r17_0, ms_r17_1, ms_r0_12, ms_r20_0, ms_r20_1, ms_r0_13, ms_r23_0, ms_r23_1, ms_r0_14, ms_r0_15, ms_r0_16, ms_r0_17, ms_r0_18, ms_r0_23, ms_r0_24, ms_r0_25, ms_r0_26, ms_r0_30, ms_r0_31, ms_r0_32, ms_r0_35, ms_r0_36, ms_r0_39, ms_r0_40, ms_r0_41, ms_r0_42, ms_r0_43, ms_r0_47, H, m_total (n := n) (by omega) H HV]
  exact k
