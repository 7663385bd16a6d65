/-! PURE PART RN: a line that halves, the sheet's; a line's place in the row -/
set_option maxRecDepth 100000
theorem vX_bd {S : St} (B : Bd S) {v : Nat} (hv : v < S.nv) : (0 ≤ vX S v ∧ vX S v ≤ 99) ∧ (0 ≤ vY S v ∧ vY S v ≤ 99) := by
  obtain ⟨a, b, w, ha, hb, _, _, e1, e2, _⟩ := B.1 v hv
  unfold vX vY
  rw [e1, e2, nI_toInt (by omega), nI_toInt (by omega)]
  omega
theorem lnT_ne {S : St} {i j : Nat} (h : ¬ (S.V i 0 = S.V j 0 ∧ S.V i 1 = S.V j 1)) : vY S j - vY S i ≠ 0 ∨ vX S i - vX S j ≠ 0 := by
  by_cases c : vX S i = vX S j
  · left
    intro z
    exact h ⟨Int32.toInt_inj.1 c, Int32.toInt_inj.1 (show vY S i = vY S j by omega)⟩
  · right; omega
theorem lnT_ok {S : St} (B : Bd S) {i j : Nat} (hi : i < S.nv) (hj : j < S.nv) (h : ¬ (S.V i 0 = S.V j 0 ∧ S.V i 1 = S.V j 1)) : NrmL (lnT S i j) ∧ LB (lnT S i j) := by
  obtain ⟨a1, a2⟩ := vX_bd B hi
  obtain ⟨b1, b2⟩ := vX_bd B hj
  exact ⟨nrm_line (lnT_ne h), line_bd a1 a2 b1 b2⟩
theorem side_v {S : St} (B : Bd S) {t : T3} (bt : LB t) {k : Nat} (hk : k < S.nv) : (Int64.ofInt t.1 * (S.V k 0).toInt64 + Int64.ofInt t.2.1 * (S.V k 1).toInt64 - Int64.ofInt t.2.2).toInt = t.1 * vX S k + t.2.1 * vY S k - t.2.2 := by
  obtain ⟨a1, a2⟩ := vX_bd B hk
  obtain ⟨t1, t2, t3⟩ := bt
  have m1 := mul_bd t1 (x := vX S k) (l := 99) (by omega)
  have m2 := mul_bd t2 (x := vY S k) (l := 99) (by omega)
  rw [show (S.V k 0).toInt64 = Int64.ofInt (vX S k) from l_ofT (Int32.toInt_toInt64 _), show (S.V k 1).toInt64 = Int64.ofInt (vY S k) from l_ofT (Int32.toInt_toInt64 _), ← Int64.ofInt_mul, ← Int64.ofInt_mul, ← Int64.ofInt_add, ← Int64.ofInt_sub, l_of (by omega) (by omega)]
theorem x_halves {n : Nat} {K : Nat → Nat} {x : Nat} {h : AH} {ev ep b : Nat} {Ev Ep : Nat → Nat} {S : St} (hn : 20000 < n) (X : XA K x h ev Ev ep Ep b S) (B : Bd S) {d : Nat} {t : T3} (bt : LB t) (hd : h.kind d = 12) (d0 : h.L d 0 = Int64.ofInt t.1) (d1 : h.L d 1 = Int64.ofInt t.2.1) (d2 : h.L d 2 = Int64.ofInt t.2.2) : F_X0_halves n K x (some d) h = some (bI (halvS S t), h) := by
  obtain ⟨H, HV, HP, HB⟩ := X
  have h15 := HV.2.1
  have b6 := HB.2.2.2.2.2
  have key := loopU (fun f i (s : Int32 × Int32) => F_X0_halves_L7 n K x (some d) f i s.1 s.2 h) S.nv (fun k s => s = (sideW S t true k, sideW S t false k)) (fun o => o = some (bI (halvS S t), h))
    (by
      intro f k s hk hs
      right
      refine ⟨_, rfl, ?_⟩
      have e3 : (nI S.nv ≤ nI k) = False := eq_false (nI_ge hk (by omega))
      obtain ⟨gk, g3, g0, g1, g2, g4, g5⟩ := HV.2.2 k hk
      obtain ⟨r, hr, hr1, hr2⟩ := x_sgn (n := n) (K := K) (h := h) (a := Int64.ofInt t.1 * (S.V k 0).toInt64 + Int64.ofInt t.2.1 * (S.V k 1).toInt64 - Int64.ofInt t.2.2)
      rw [side_v B bt hk] at hr1 hr2
      have cb : (t.1 * vX S k + t.2.1 * vY S k - t.2.2 < 0) = (t.1 * vX S k + t.2.1 * vY S k < t.2.2) := propext ⟨fun z => by omega, fun z => by omega⟩
      have ca : (0 < t.1 * vX S k + t.2.1 * vY S k - t.2.2) = (t.2.2 < t.1 * vX S k + t.2.1 * vY S k) := propext ⟨fun z => by omega, fun z => by omega⟩
      rw [cb] at hr1
      rw [ca] at hr2
      have hside : F_X11_side n K d (S.V k 0).toInt64 (S.V k 1).toInt64 h = some (r, h) := by
        simp only [F_X11_side, chk_true, bnd_some, ob_some, oc_some, oc_none, hl_eq, jn_eq, ix_0, ix_1, if_true, if_false, inb0_2, inb1_2, not_true_eq_false, not_false_eq_true, ite_true, ite_false, true_or, or_true, or_self, zero_eq_one_I, one_eq_zero_I, hd, d0, d1, d2, hr]
      subst hs
      simp only [F_X0_halves_L7, chk_true, bnd_some, ob_some, oc_some, oc_none, hl_eq, jn_eq, ix_0, ix_1, if_true, if_false, inb0_2, inb1_2, not_true_eq_false, not_false_eq_true, ite_true, ite_false, true_or, or_true, or_self, zero_eq_one_I, one_eq_zero_I, xs_k0, xs_k1, xs_n1, xs_k2, xs_k3, xs_k4, xs_k5, xs_k6, xs_k7, xs_k8, xs_k9, xs_k10, xs_k11, xs_n11, xs_k12, xs_n12, xs_k13, xs_n13, xs_k14, xs_n14, xs_k15, xs_n15, xs_k16, xs_n16, xs_k17, xs_n17, xs_k18, xs_n18, xs_k27, xs_n27, xs_k28, xs_n28, xs_r0_0, xs_r0_1, xs_r2_8, xs_r2_9, xs_r0_2, xs_r0_3, xs_r0_4, xs_r0_8, xs_r0_9, xs_r0_10, xs_r0_18, xs_r0_19, xs_r0_20, xs_r0_21, xs_r0_22, xs_r0_25, xs_r0_26, xs_r0_27, xs_r0_28, H, l_size HV.1, l_get HV.1 hk, e3, gk, and_self, g0, g1, hd, hside, hr1, hr2, g2, nI_1, sideW]
      by_cases c1 : t.1 * vX S k + t.2.1 * vY S k < t.2.2
      · have c2 : ¬ (t.2.2 < t.1 * vX S k + t.2.1 * vY S k) := by omega
        simp [c1, c2]
      · by_cases c2 : t.2.2 < t.1 * vX S k + t.2.1 * vY S k
        · simp [c1, c2]
        · simp [c1, c2])
    (by
      intro f s hs
      have e3 : (nI S.nv ≤ nI S.nv) = True := eq_true (nI_le (Nat.le_refl _) (by omega))
      subst hs
      simp only [F_X0_halves_L7, chk_true, bnd_some, ob_some, oc_some, oc_none, hl_eq, jn_eq, ix_0, ix_1, if_true, if_false, inb0_2, inb1_2, not_true_eq_false, not_false_eq_true, ite_true, ite_false, true_or, or_true, or_self, zero_eq_one_I, one_eq_zero_I, xs_k0, xs_k1, xs_n1, xs_k2, xs_k3, xs_k4, xs_k5, xs_k6, xs_k7, xs_k8, xs_k9, xs_k10, xs_k11, xs_n11, xs_k12, xs_n12, xs_k13, xs_n13, xs_k14, xs_n14, xs_k15, xs_n15, xs_k16, xs_n16, xs_k17, xs_n17, xs_k18, xs_n18, xs_k27, xs_n27, xs_k28, xs_n28, xs_r0_0, xs_r0_1, xs_r2_8, xs_r2_9, xs_r0_2, xs_r0_3, xs_r0_4, xs_r0_8, xs_r0_9, xs_r0_10, xs_r0_18, xs_r0_19, xs_r0_20, xs_r0_21, xs_r0_22, xs_r0_25, xs_r0_26, xs_r0_27, xs_r0_28, H, l_size HV.1, e3, b6, halvS]
      by_cases c1 : totS S.V S.nv < 2 * sideW S t false S.nv
      · simp [c1, bI]
      · by_cases c2 : totS S.V S.nv < 2 * sideW S t true S.nv
        · simp [c1, c2, bI]
        · simp [c1, c2, bI])
  exact key S.nv 0 (0, 0) n (by omega) (by omega) rfl
def TLok (l : TL) : Prop := SortS aheadL NrmL l ∧ ∀ k, k < l.1 → LB (l.2 k)
theorem sel_pos {β : Type} {ah : T3 → T3 → Bool} {t : T3} {l : TL} (k : Nat → β) : selS (findS (fun q => !ah (l.2 q) t) l.1 0) k (k l.1) = k (posS ah t l) := by
  unfold posS
  cases findS (fun q => !ah (l.2 q) t) l.1 0 <;> rfl
theorem x_srchL {n : Nat} {K : Nat → Nat} {x : Nat} {h : AH} (hn : 20000 < n) (H : XSh x h) {l : TL} (hl : l.1 ≤ 6000) {e5 : Nat} {E5 : Nat → Nat} (l5 : Ls K h (x + 9) e5 l.1 E5) (X3 : X3L h 12 l.1 E5 l.2) (T : ∀ k, k < l.1 → LB (l.2 k)) {d : Nat} {t : T3} (bt : LB t) (hd : h.kind d = 12) (d0 : h.L d 0 = Int64.ofInt t.1) (d1 : h.L d 1 = Int64.ofInt t.2.1) (d2 : h.L d 2 = Int64.ofInt t.2.2) (y1 y2 : Int32) (k : Int32 → AH → Option (Unit × AH)) : F_X0_findLines_L122 n K d y1 y2 x n 0 h k = k (nI (posS aheadL t l)) h := by
  have key := loopG (fun f i => F_X0_findLines_L122 n K d y1 y2 x f i h k) l.1 (fun q => !aheadL (l.2 q) t) (fun q => k (nI q) h) (k (nI l.1) h)
    (by
      intro f q hq
      have e3 : (nI l.1 ≤ nI q) = False := eq_false (nI_ge hq (by omega))
      obtain ⟨g1, g2, g3, g4⟩ := X3 q hq
      simp only [F_X0_findLines_L122, chk_true, bnd_some, ob_some, oc_some, oc_none, hl_eq, jn_eq, ix_0, ix_1, if_true, if_false, inb0_2, inb1_2, not_true_eq_false, not_false_eq_true, ite_true, ite_false, true_or, or_true, or_self, zero_eq_one_I, one_eq_zero_I, xs_k0, xs_k1, xs_n1, xs_k2, xs_k3, xs_k4, xs_k5, xs_k6, xs_k7, xs_k8, xs_k9, xs_k10, xs_k11, xs_n11, xs_k12, xs_n12, xs_k13, xs_n13, xs_k14, xs_n14, xs_k15, xs_n15, xs_k16, xs_n16, xs_k17, xs_n17, xs_k18, xs_n18, xs_k27, xs_n27, xs_k28, xs_n28, xs_r0_0, xs_r0_1, xs_r2_8, xs_r2_9, xs_r0_2, xs_r0_3, xs_r0_4, xs_r0_8, xs_r0_9, xs_r0_10, xs_r0_18, xs_r0_19, xs_r0_20, xs_r0_21, xs_r0_22, xs_r0_25, xs_r0_26, xs_r0_27, xs_r0_28, H, l_size l5, l_get l5 hq, e3, g1, x_isAheadL (n := n) (K := K) (T q hq) bt g1 hd g2 g3 g4 d0 d1 d2, nI_1, bI_0]
      cases hb : aheadL (l.2 q) t <;> simp)
    (by
      intro f
      have e3 : (nI l.1 ≤ nI l.1) = True := eq_true (nI_le (Nat.le_refl _) (by omega))
      simp only [F_X0_findLines_L122, chk_true, bnd_some, ob_some, oc_some, oc_none, hl_eq, jn_eq, ix_0, ix_1, if_true, if_false, inb0_2, inb1_2, not_true_eq_false, not_false_eq_true, ite_true, ite_false, true_or, or_true, or_self, zero_eq_one_I, one_eq_zero_I, xs_k0, xs_k1, xs_n1, xs_k2, xs_k3, xs_k4, xs_k5, xs_k6, xs_k7, xs_k8, xs_k9, xs_k10, xs_k11, xs_n11, xs_k12, xs_n12, xs_k13, xs_n13, xs_k14, xs_n14, xs_k15, xs_n15, xs_k16, xs_n16, xs_k17, xs_n17, xs_k18, xs_n18, xs_k27, xs_n27, xs_k28, xs_n28, xs_r0_0, xs_r0_1, xs_r2_8, xs_r2_9, xs_r0_2, xs_r0_3, xs_r0_4, xs_r0_8, xs_r0_9, xs_r0_10, xs_r0_18, xs_r0_19, xs_r0_20, xs_r0_21, xs_r0_22, xs_r0_25, xs_r0_26, xs_r0_27, xs_r0_28, H, l_size l5, e3]) n (by omega)
  exact key.trans (sel_pos (fun q => k (nI q) h))
