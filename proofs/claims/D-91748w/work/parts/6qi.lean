/-! PURE PART QI: doubt, the answers; bounds of a state -/
set_option maxRecDepth 100000
def Bd (S : St) : Prop := (∀ v, v < S.nv → ∃ a b w, a < 100 ∧ b < 100 ∧ 1 ≤ w ∧ w ≤ 9 ∧ S.V v 0 = nI a ∧ S.V v 1 = nI b ∧ S.V v 2 = nI w) ∧ (∀ p, p < S.np → ∃ a b, a < 100 ∧ b < 100 ∧ S.P p 0 = nI a ∧ S.P p 1 = nI b) ∧ (∃ q, 1 ≤ q ∧ q ≤ 99 ∧ S.bp = nI q) ∧ S.nv ≤ 15 ∧ S.np ≤ 20
theorem tot_bd {S : St} (B : Bd S) : ∀ k, k ≤ S.nv → ∃ t, t ≤ 9 * k ∧ totS S.V k = nI t := by
  intro k
  induction k with
  | zero => intro _; exact ⟨0, by omega, rfl⟩
  | succ k ih =>
    intro hk
    obtain ⟨t, h1, h2⟩ := ih (by omega)
    obtain ⟨a, b, w, _, _, _, h3, _, _, h4⟩ := B.1 k (by omega)
    exact ⟨t + w, by omega, by rw [totS, h2, h4, nI_add]⟩
theorem for_self (V : Nat → Nat → Int32) (a b : Int32) : ∀ k, forS V a b a b k = 0 := by
  intro k
  induction k with
  | zero => rfl
  | succ k ih => rw [forS, ih, if_neg (Int32.lt_irrefl)]; rfl
theorem ab_irr {S : St} (B : Bd S) (i : Nat) : abS S i i = false := by
  obtain ⟨t, h1, h2⟩ := tot_bd B S.nv (Nat.le_refl _)
  obtain ⟨q, q1, q2, q3⟩ := B.2.2.1
  have h15 := B.2.2.2.1
  unfold abS btS beatS
  rw [for_self, h2, q3]
  have e : q * t ≤ 99 * 135 := Nat.mul_le_mul q2 (by omega)
  have e0 : ¬ nI (q * t) < 0 := nI_pos (by omega)
  unfold wonS
  rw [pk_mul, Int32.zero_mul]
  have z : ¬ (0 : Int32) < 0 := by decide
  split
  · simp [z]
  · split
    · simp [e0]
    · simp [z]
def bxS (S : St) (v p k e : Nat) : N3 := boxT S v p k e (ix (S.V v 0)) (ix (S.V v 1))
def dbV (S : St) (p k e v : Nat) (s : M3) : M3 := (s.1 + (if sureX (bxS S v p k e) = -2 then S.V v 2 else 0), s.2.1 + (if sureX (bxS S v p k e) = 1 then S.V v 2 else 0), s.2.2 + (if sureX (bxS S v p k e) = 2 then S.V v 2 else 0))
def dbS (S : St) (p k e : Nat) : M3 := foldS (dbV S p k e) (0, 0, 0) S.nv
theorem bx_ok {S : St} (B : Bd S) {v p k e : Nat} (hv : v < S.nv) (he : e < 6) : okN (bxS S v p k e) ∧ 0 < (bxS S v p k e).1 := by
  obtain ⟨a, b, w, ha, hb, _, _, h1, h2, _⟩ := B.1 v hv
  unfold bxS
  rw [h1, h2, ix_nI (by omega), ix_nI (by omega)]
  refine ⟨fold_inv (Nat.le_refl _) (fun _ _ _ h => ok_row h), ?_⟩
  rw [box_1]
  exact Nat.mul_pos (cntN_le ha he).2 (cntN_le hb he).2
theorem sure_rel {t : N3} (ok : okN t) (h0 : 0 < t.1) : ((sureM t = 1) = (sureX t = -2)) ∧ ((sureM t = 0) = (sureX t = 1)) ∧ ((sureM t = -1) = (sureX t = 2)) := by
  obtain ⟨c, b, a⟩ := t
  have ok' : b + a ≤ c := ok
  have h0' : 0 < c := h0
  unfold sureM sureX
  show (((if b = c then (1 : Int32) else if a = c then -1 else if a + b = 0 then 2 else 0) = 1) = ((if a = c then (2 : Int32) else if b = c then -2 else if a + b = 0 then 0 else 1) = -2)) ∧ (((if b = c then (1 : Int32) else if a = c then -1 else if a + b = 0 then 2 else 0) = 0) = ((if a = c then (2 : Int32) else if b = c then -2 else if a + b = 0 then 0 else 1) = 1)) ∧ (((if b = c then (1 : Int32) else if a = c then -1 else if a + b = 0 then 2 else 0) = -1) = ((if a = c then (2 : Int32) else if b = c then -2 else if a + b = 0 then 0 else 1) = 2))
  by_cases c1 : b = c
  · have c2 : ¬ a = c := by omega
    rw [if_pos c1, if_neg c2, if_pos c1]
    decide
  · by_cases c2 : a = c
    · rw [if_neg c1, if_pos c2, if_pos c2]
      decide
    · rw [if_neg c1, if_neg c2, if_neg c2, if_neg c1]
      by_cases c3 : a + b = 0
      · rw [if_pos c3, if_pos c3]; decide
      · rw [if_neg c3, if_neg c3]; decide
theorem x_dbL {n : Nat} {K : Nat → Nat} {x : Nat} {h : AH} {ev ep b : Nat} {Ev Ep : Nat → Nat} {S : St} (hn : 20000 < n) (X : XA K x h ev Ev ep Ep b S) (B : Bd S) {p k e : Nat} (hp : p < S.np) (hk : k < S.np) (he : e < 6) (y : Int32) (kk : Int32 → Int32 → Int32 → AH → Option (Int32 × AH)) : F_X0_doubt_L60 n K (nI k) y (Ep p) x (nI p) (nI e) n 0 0 0 0 h kk = kk (dbS S p k e).1 (dbS S p k e).2.1 (dbS S p k e).2.2 h := by
  have h15 := xnv hn X
  exact loopF (fun f i (s : M3) => F_X0_doubt_L60 n K (nI k) y (Ep p) x (nI p) (nI e) f i s.1 s.2.1 s.2.2 h kk) S.nv (dbV S p k e) (fun s => kk s.1 s.2.1 s.2.2 h) (0, 0, 0)
    (by
      intro f v s hv
      obtain ⟨a, b, w, ha, hb, _, _, h1, h2, _⟩ := B.1 v hv
      obtain ⟨gk, f3, f0, f1, f2, f4, f5⟩ := X.2.1.2.2 v hv
      have e3 : (nI S.nv ≤ nI v) = False := eq_false (nI_ge hv (by omega))
      have es : F_X0_surely n K x (some (Ev v)) (nI e) (some (Ep k)) (some (Ep p)) h = some (sureX (bxS S v p k e), h) := by
        unfold bxS
        rw [h1, h2, ix_nI (by omega), ix_nI (by omega)]
        exact x_surely hn X hv hp hk h1 ha h2 hb he
      simp only [F_X0_doubt_L60, chk_true, bnd_some, ob_some, oc_some, oc_none, hl_eq, jn_eq, ix_0, ix_1, if_true, if_false, inb0_2, inb1_2, not_true_eq_false, not_false_eq_true, ite_true, ite_false, true_or, or_true, or_self, zero_eq_one_I, one_eq_zero_I, xs_k0, xs_k1, xs_n1, xs_k2, xs_k3, xs_k4, xs_k5, xs_k6, xs_k7, xs_k8, xs_k9, xs_k10, xs_k11, xs_n11, xs_k12, xs_n12, xs_k13, xs_n13, xs_k14, xs_n14, xs_k15, xs_n15, xs_k16, xs_n16, xs_k17, xs_n17, xs_k18, xs_n18, xs_k27, xs_n27, xs_k28, xs_n28, xs_r0_0, xs_r0_1, xs_r2_8, xs_r2_9, xs_r0_2, xs_r0_3, xs_r0_4, xs_r0_8, xs_r0_9, xs_r0_10, xs_r0_18, xs_r0_19, xs_r0_20, xs_r0_21, xs_r0_22, xs_r0_25, xs_r0_26, xs_r0_27, xs_r0_28, X.1, x_vsize hn X, x_vget hn X hv, e3, gk, and_self, x_pget hn X hk, x_pkind hn X hk, es, f2, nI_1, dbV]
      generalize sureX (bxS S v p k e) = q
      by_cases c1 : q = 2
      · subst c1; simp
      · by_cases c2 : q = 1
        · subst c2; simp
        · by_cases c3 : q = -2
          · subst c3; simp
          · simp [c1, c2, c3])
    (by
      intro f s
      have e3 : (nI S.nv ≤ nI S.nv) = True := eq_true (nI_le (Nat.le_refl _) (by omega))
      simp only [F_X0_doubt_L60, chk_true, bnd_some, ob_some, oc_some, oc_none, hl_eq, jn_eq, ix_0, ix_1, if_true, if_false, inb0_2, inb1_2, not_true_eq_false, not_false_eq_true, ite_true, ite_false, true_or, or_true, or_self, zero_eq_one_I, one_eq_zero_I, xs_k0, xs_k1, xs_n1, xs_k2, xs_k3, xs_k4, xs_k5, xs_k6, xs_k7, xs_k8, xs_k9, xs_k10, xs_k11, xs_n11, xs_k12, xs_n12, xs_k13, xs_n13, xs_k14, xs_n14, xs_k15, xs_n15, xs_k16, xs_n16, xs_k17, xs_n17, xs_k18, xs_n18, xs_k27, xs_n27, xs_k28, xs_n28, xs_r0_0, xs_r0_1, xs_r2_8, xs_r2_9, xs_r0_2, xs_r0_3, xs_r0_4, xs_r0_8, xs_r0_9, xs_r0_10, xs_r0_18, xs_r0_19, xs_r0_20, xs_r0_21, xs_r0_22, xs_r0_25, xs_r0_26, xs_r0_27, xs_r0_28, X.1, x_vsize hn X, e3]) n (by omega)
def AH.asM (h : AH) (m : Nat) (d f o : Int32) : AH := (h.1, h.2.1, h.2.2.1, (fun b j => if b = m then (if j = 44 then d else if j = 45 then f else if j = 46 then o else h.2.2.2.1 b j) else h.2.2.2.1 b j), h.2.2.2.2.1, h.2.2.2.2.2)
theorem as_I (h : AH) (m : Nat) (d f o : Int32) (b j : Nat) : (h.asM m d f o).I b j = if b = m then (if j = 44 then d else if j = 45 then f else if j = 46 then o else h.I b j) else h.I b j := rfl
theorem as_kind (h : AH) (m : Nat) (d f o : Int32) : (h.asM m d f o).kind = h.kind := rfl
theorem as_len (h : AH) (m : Nat) (d f o : Int32) : (h.asM m d f o).len = h.len := rfl
theorem as_R (h : AH) (m : Nat) (d f o : Int32) : (h.asM m d f o).R = h.R := rfl
theorem as_44 (h : AH) (m : Nat) (d f o : Int32) : (h.asM m d f o).I m 44 = d := by rw [as_I]; simp
theorem as_45 (h : AH) (m : Nat) (d f o : Int32) : (h.asM m d f o).I m 45 = f := by rw [as_I]; simp
theorem as_46 (h : AH) (m : Nat) (d f o : Int32) : (h.asM m d f o).I m 46 = o := by rw [as_I]; simp
theorem as_s44 (h : AH) (m : Nat) (d f o v : Int32) : (h.asM m d f o).setI m 44 v = h.asM m v f o := by
  refine AH.ext rfl rfl rfl ?_ (fun _ _ => rfl) (fun _ _ => rfl)
  intro b k
  rw [AH.I_setI, as_I, as_I]
  by_cases c : b = m
  · by_cases c2 : k = 44 <;> simp [c, c2]
  · simp [c]
theorem as_s45 (h : AH) (m : Nat) (d f o v : Int32) : (h.asM m d f o).setI m 45 v = h.asM m d v o := by
  refine AH.ext rfl rfl rfl ?_ (fun _ _ => rfl) (fun _ _ => rfl)
  intro b k
  rw [AH.I_setI, as_I, as_I]
  by_cases c : b = m
  · by_cases c2 : k = 45 <;> simp [c, c2]
  · simp [c]
theorem as_s46 (h : AH) (m : Nat) (d f o v : Int32) : (h.asM m d f o).setI m 46 v = h.asM m d f v := by
  refine AH.ext rfl rfl rfl ?_ (fun _ _ => rfl) (fun _ _ => rfl)
  intro b k
  rw [AH.I_setI, as_I, as_I]
  by_cases c : b = m
  · by_cases c2 : k = 46 <;> simp [c, c2]
  · simp [c]
theorem as_self (h : AH) (m : Nat) : h.asM m (h.I m 44) (h.I m 45) (h.I m 46) = h := by
  refine AH.ext rfl rfl rfl ?_ (fun _ _ => rfl) (fun _ _ => rfl)
  intro b k
  rw [as_I]
  by_cases c : b = m
  · by_cases c1 : k = 44
    · simp [c, c1]
    · by_cases c2 : k = 45
      · simp [c, c2]
      · by_cases c3 : k = 46 <;> simp [c, c1, c2, c3]
  · simp [c]
theorem MA_as {m : Nat} {h : AH} {S : St} (M : MA m h S) (d f o : Int32) : MA m (h.asM m d f o) S :=
  MA_of M rfl rfl rfl (fun b h1 h2 => by funext j; rw [as_I, if_neg (by omega)])
theorem m_asks {n : Nat} {K : Nat → Nat} {m : Nat} {h : AH} {S : St} (hn : 20000 < n) (M : MA m h S) (B : Bd S) {p k e : Nat} (hp : p < S.np) (hk : k < S.np) (he : e < 6) (d0 f0 o0 : Int32) : F_X3_asks n K m (nI p) (nI k) (nI e) (h.asM m d0 f0 o0) = some ((), h.asM m (dbS S p k e).2.1 (dbS S p k e).1 (dbS S p k e).2.2) := by
  have h15 := mnv hn M
  have key := loopF (fun f i (s : M3) => F_X3_asks_L18 n K m (nI p) (nI k) (nI e) f i (h.asM m s.2.1 s.1 s.2.2)) S.nv (dbV S p k e) (fun s => some ((), h.asM m s.2.1 s.1 s.2.2)) (0, 0, 0)
    (by
      intro f v s hv
      obtain ⟨a, b, w, ha, hb, _, _, h1, h2, _⟩ := B.1 v hv
      have M' := MA_as M s.2.1 s.1 s.2.2
      obtain ⟨g0, g1, g2, g3, g4, g5⟩ := M.2.1.2.2 v hv
      have e1 : ix (nI v) = v := ix_nI (by omega)
      have e2 : inb (nI v) 15 = True := eq_true ((inb_nI (by omega)).2 (by omega))
      have e3 : (nI S.nv ≤ nI v) = False := eq_false (nI_ge hv (by omega))
      have g9 : ∀ d f o, (h.asM m d f o).I (m + 9) v = S.V v 2 := by intro d f o; rw [as_I, if_neg (by omega)]; exact g2
      have es : F_X3_sure n K m (nI v) (nI p) (nI k) (nI e) (h.asM m s.2.1 s.1 s.2.2) = some (sureM (bxS S v p k e), h.asM m s.2.1 s.1 s.2.2) := by
        unfold bxS
        rw [h1, h2, ix_nI (by omega), ix_nI (by omega)]
        exact m_sure hn M' hv hp hk h1 ha h2 hb he
      obtain ⟨o1, o2⟩ := bx_ok B (p := p) (k := k) hv he
      obtain ⟨r1, r2, r3⟩ := sure_rel o1 o2
      simp only [F_X3_asks_L18, chk_true, bnd_some, ob_some, oc_some, oc_none, hl_eq, jn_eq, ix_0, ix_1, if_true, if_false, inb0_2, inb1_2, not_true_eq_false, not_false_eq_true, ite_true, ite_false, true_or, or_true, or_self, zero_eq_one_I, one_eq_zero_I, as_kind, as_len, as_R, ms_k0, ms_k1, ms_n1, ms_k2, ms_n2, ms_k3, ms_n3, ms_k4, ms_n4, ms_k5, ms_n5, ms_k6, ms_n6, ms_k7, ms_n7, ms_k8, ms_n8, ms_k9, ms_n9, ms_k10, ms_n10, ms_k11, ms_n11, ms_k12, ms_n12, ms_k13, ms_n13, ms_k14, ms_n14, ms_k15, ms_n15, ms_k16, ms_n16, ms_k17, ms_n17, ms_k18, ms_n18, ms_k19, ms_n19, ms_k20, ms_n20, ms_k21, ms_n21, ms_k22, ms_n22, ms_k23, ms_n23, ms_k24, ms_n24, ms_k25, ms_n25, ms_k26, ms_n26, ms_k27, ms_n27, ms_k28, ms_n28, ms_k29, ms_n29, ms_k30, ms_n30, ms_k31, ms_n31, ms_k32, ms_n32, ms_k33, ms_n33, ms_k34, ms_n34, ms_k35, ms_n35, ms_k36, ms_n36, ms_k37, ms_n37, ms_k38, ms_n38, ms_k39, ms_n39, ms_k40, ms_n40, ms_k41, ms_n41, ms_k50, ms_n50, ms_k51, ms_n51, ms_k52, ms_n52, ms_k53, ms_n53, ms_r0_0, ms_r0_6, ms_r2_0, ms_r2_1, ms_r0_7, ms_r5_0, ms_r5_1, ms_r0_8, ms_r8_0, ms_r8_1, ms_r0_9, ms_r11_0, ms_r11_1, ms_r0_10, ms_r14_0, ms_r14_1, ms_r0_11, ms_r17_0, ms_r17_1, ms_r0_12, ms_r20_0, ms_r20_1, ms_r0_13, ms_r23_0, ms_r23_1, ms_r0_14, ms_r0_15, ms_r0_16, ms_r0_17, ms_r0_18, ms_r0_23, ms_r0_24, ms_r0_25, ms_r0_26, ms_r0_30, ms_r0_31, ms_r0_32, ms_r0_35, ms_r0_36, ms_r0_39, ms_r0_40, ms_r0_41, ms_r0_42, ms_r0_43, ms_r0_47, M.1, m_votersA hn M', e1, e2, e3, es, r1, r2, r3, as_44, as_45, as_46, as_s44, as_s45, as_s46, g9, nI_1, dbV]
      generalize sureX (bxS S v p k e) = q
      by_cases c1 : q = 2
      · subst c1; simp
      · by_cases c2 : q = 1
        · subst c2; simp
        · by_cases c3 : q = -2
          · subst c3; simp
          · simp [c1, c2, c3])
    (by
      intro f s
      have M' := MA_as M s.2.1 s.1 s.2.2
      have e3 : (nI S.nv ≤ nI S.nv) = True := eq_true (nI_le (Nat.le_refl _) (by omega))
      simp only [F_X3_asks_L18, chk_true, bnd_some, ob_some, oc_some, oc_none, hl_eq, jn_eq, ix_0, ix_1, if_true, if_false, inb0_2, inb1_2, not_true_eq_false, not_false_eq_true, ite_true, ite_false, true_or, or_true, or_self, zero_eq_one_I, one_eq_zero_I, as_kind, ms_k0, ms_k1, ms_n1, ms_k2, ms_n2, ms_k3, ms_n3, ms_k4, ms_n4, ms_k5, ms_n5, ms_k6, ms_n6, ms_k7, ms_n7, ms_k8, ms_n8, ms_k9, ms_n9, ms_k10, ms_n10, ms_k11, ms_n11, ms_k12, ms_n12, ms_k13, ms_n13, ms_k14, ms_n14, ms_k15, ms_n15, ms_k16, ms_n16, ms_k17, ms_n17, ms_k18, ms_n18, ms_k19, ms_n19, ms_k20, ms_n20, ms_k21, ms_n21, ms_k22, ms_n22, ms_k23, ms_n23, ms_k24, ms_n24, ms_k25, ms_n25, ms_k26, ms_n26, ms_k27, ms_n27, ms_k28, ms_n28, ms_k29, ms_n29, ms_k30, ms_n30, ms_k31, ms_n31, ms_k32, ms_n32, ms_k33, ms_n33, ms_k34, ms_n34, ms_k35, ms_n35, ms_k36, ms_n36, ms_k37, ms_n37, ms_k38, ms_n38, ms_k39, ms_n39, ms_k40, ms_n40, ms_k41, ms_n41, ms_k50, ms_n50, ms_k51, ms_n51, ms_k52, ms_n52, ms_k53, ms_n53, ms_r0_0, ms_r0_6, ms_r2_0, ms_r2_1, ms_r0_7, ms_r5_0, ms_r5_1, ms_r0_8, ms_r8_0, ms_r8_1, ms_r0_9, ms_r11_0, ms_r11_1, ms_r0_10, ms_r14_0, ms_r14_1, ms_r0_11, ms_r17_0, ms_r17_1, ms_r0_12, ms_r20_0, ms_r20_1, ms_r0_13, ms_r23_0, ms_r23_1, ms_r0_14, ms_r0_15, ms_r0_16, ms_r0_17, ms_r0_18, ms_r0_23, ms_r0_24, ms_r0_25, ms_r0_26, ms_r0_30, ms_r0_31, ms_r0_32, ms_r0_35, ms_r0_36, ms_r0_39, ms_r0_40, ms_r0_41, ms_r0_42, ms_r0_43, ms_r0_47, M.1, m_votersA hn M', e3]) n (by omega)
  simp only [F_X3_asks, chk_true, bnd_some, ob_some, oc_some, oc_none, hl_eq, jn_eq, ix_0, ix_1, if_true, if_false, inb0_2, inb1_2, not_true_eq_false, not_false_eq_true, ite_true, ite_false, true_or, or_true, or_self, zero_eq_one_I, one_eq_zero_I, as_kind, ms_k0, ms_k1, ms_n1, ms_k2, ms_n2, ms_k3, ms_n3, ms_k4, ms_n4, ms_k5, ms_n5, ms_k6, ms_n6, ms_k7, ms_n7, ms_k8, ms_n8, ms_k9, ms_n9, ms_k10, ms_n10, ms_k11, ms_n11, ms_k12, ms_n12, ms_k13, ms_n13, ms_k14, ms_n14, ms_k15, ms_n15, ms_k16, ms_n16, ms_k17, ms_n17, ms_k18, ms_n18, ms_k19, ms_n19, ms_k20, ms_n20, ms_k21, ms_n21, ms_k22, ms_n22, ms_k23, ms_n23, ms_k24, ms_n24, ms_k25, ms_n25, ms_k26, ms_n26, ms_k27, ms_n27, ms_k28, ms_n28, ms_k29, ms_n29, ms_k30, ms_n30, ms_k31, ms_n31, ms_k32, ms_n32, ms_k33, ms_n33, ms_k34, ms_n34, ms_k35, ms_n35, ms_k36, ms_n36, ms_k37, ms_n37, ms_k38, ms_n38, ms_k39, ms_n39, ms_k40, ms_n40, ms_k41, ms_n41, ms_k50, ms_n50, ms_k51, ms_n51, ms_k52, ms_n52, ms_k53, ms_n53, ms_r0_0, ms_r0_6, ms_r2_0, ms_r2_1, ms_r0_7, ms_r5_0, ms_r5_1, ms_r0_8, ms_r8_0, ms_r8_1, ms_r0_9, ms_r11_0, ms_r11_1, ms_r0_10, ms_r14_0, ms_r14_1, ms_r0_11, ms_r17_0, ms_r17_1, ms_r0_12, ms_r20_0, ms_r20_1, ms_r0_13, ms_r23_0, ms_r23_1, ms_r0_14, ms_r0_15, ms_r0_16, ms_r0_17, ms_r0_18, ms_r0_23, ms_r0_24, ms_r0_25, ms_r0_26, ms_r0_30, ms_r0_31, ms_r0_32, ms_r0_35, ms_r0_36, ms_r0_39, ms_r0_40, ms_r0_41, ms_r0_42, ms_r0_43, ms_r0_47, M.1, as_s44, as_s45, as_s46]
  exact key
def dw1 (S : St) (p e k : Nat) : Bool := !decide (k = p) && wonS S.bk S.bp S.bw (totS S.V S.nv) (dbS S p k e).2.2 ((dbS S p k e).1 + (dbS S p k e).2.1)
def dw2 (S : St) (p e k : Nat) : Bool := !decide (k = p) && wonS S.bk S.bp S.bw (totS S.V S.nv) ((dbS S p k e).2.2 + (dbS S p k e).2.1) (dbS S p k e).1
def dbtN (S : St) (p e : Nat) : Int32 := selS (findS (dw1 S p e) S.np 0) (fun _ => 0) (if anyS (dw2 S p e) S.np then 1 else 2)
def doubtS (S : St) (p e : Int32) : Int32 := if inS p 0 (nI S.np - 1) = true then (if inS e 0 5 = true then dbtN S (ix p) (ix e) else -1) else -1
theorem find_at {p : Nat → Bool} {N k : Nat} (hk : k < N) (h0 : ∀ i, i < k → p i = false) (h1 : p k = true) : findS p N 0 = some k := by
  cases hf : findS p N 0 with
  | none =>
    have := findS_none hf k (by omega) (by omega)
    rw [h1] at this; cases this
  | some j =>
    obtain ⟨_, _, g3, g4⟩ := findS_some hf
    rcases Nat.lt_trichotomy j k with hlt | heq | hgt
    · rw [h0 j hlt] at g3; cases g3
    · rw [heq]
    · have := g4 k (by omega) hgt
      rw [h1] at this; cases this
theorem find_no {p : Nat → Bool} {N : Nat} (h0 : ∀ i, i < N → p i = false) : findS p N 0 = none := by
  cases hf : findS p N 0 with
  | none => rfl
  | some j =>
    obtain ⟨_, g2, g3, _⟩ := findS_some hf
    rw [h0 j (by omega)] at g3; cases g3
theorem x_doubt {n : Nat} {K : Nat → Nat} {x : Nat} {h : AH} {ev ep b : Nat} {Ev Ep : Nat → Nat} {S : St} (hn : 20000 < n) (X : XA K x h ev Ev ep Ep b S) (B : Bd S) (p e : Int32) : F_X0_doubt n K x p e h = some (doubtS S p e, h) := by
  have h20 := xnp hn X
  by_cases hp : inS p 0 (nI S.np - 1) = true
  · obtain ⟨i, hi, rfl⟩ := (inS_nI (by omega)).1 hp
    have e1 : ix (nI i) = i := ix_nI (by omega)
    by_cases he : inS e 0 5 = true
    · obtain ⟨q, hq, rfl⟩ := (inS_le (d := 5) (by omega)).1 he
      have e2 : ix (nI q) = q := ix_nI (by omega)
      have hw := fun yes no al => x_wins (n := n) (K := K) X.2.2.2 yes no al
      obtain ⟨b5, b0, b1, b2, b3, b4⟩ := X.2.2.2
      have key := loopU (fun f k (s : Int32) => F_X0_doubt_L27 n K (Ep i) x (nI i) (nI q) f k s h) S.np (fun k s => (∀ j, j < k → dw1 S i q j = false) ∧ s = bI (!anyS (dw2 S i q) k)) (fun o => o = some (dbtN S i q, h))
        (by
          intro f k s hk hs
          have e3 : (nI S.np ≤ nI k) = False := eq_false (nI_ge hk (by omega))
          have e4 : (nI k = nI i) = (k = i) := propext (nI_eq (by omega) (by omega))
          rw [hs.2]
          by_cases c : k = i
          · right
            have d1 : dw1 S i q k = false := by unfold dw1; simp [c]
            have d2 : dw2 S i q k = false := by unfold dw2; simp [c]
            refine ⟨bI (!anyS (dw2 S i q) (k + 1)), ⟨fun j hj => ?_, rfl⟩, ?_⟩
            · rcases Nat.lt_or_ge j k with z | z
              · exact hs.1 j z
              · have : j = k := by omega
                rw [this]; exact d1
            · rw [anyS, d2, Bool.or_false]
              have c' : (k = i) = True := eq_true c
              simp only [F_X0_doubt_L27, chk_true, bnd_some, ob_some, oc_some, oc_none, hl_eq, jn_eq, ix_0, ix_1, if_true, if_false, inb0_2, inb1_2, not_true_eq_false, not_false_eq_true, ite_true, ite_false, true_or, or_true, or_self, zero_eq_one_I, one_eq_zero_I, xs_k0, xs_k1, xs_n1, xs_k2, xs_k3, xs_k4, xs_k5, xs_k6, xs_k7, xs_k8, xs_k9, xs_k10, xs_k11, xs_n11, xs_k12, xs_n12, xs_k13, xs_n13, xs_k14, xs_n14, xs_k15, xs_n15, xs_k16, xs_n16, xs_k17, xs_n17, xs_k18, xs_n18, xs_k27, xs_n27, xs_k28, xs_n28, xs_r0_0, xs_r0_1, xs_r2_8, xs_r2_9, xs_r0_2, xs_r0_3, xs_r0_4, xs_r0_8, xs_r0_9, xs_r0_10, xs_r0_18, xs_r0_19, xs_r0_20, xs_r0_21, xs_r0_22, xs_r0_25, xs_r0_26, xs_r0_27, xs_r0_28, X.1, x_psize hn X, e3, e4, c', nI_1]
          · have d1 : dw1 S i q k = wonS S.bk S.bp S.bw (totS S.V S.nv) (dbS S i k q).2.2 ((dbS S i k q).1 + (dbS S i k q).2.1) := by unfold dw1; simp [c]
            have d2 : dw2 S i q k = wonS S.bk S.bp S.bw (totS S.V S.nv) ((dbS S i k q).2.2 + (dbS S i k q).2.1) (dbS S i k q).1 := by unfold dw2; simp [c]
            have ew : ∀ a, F_X0_doubt_L27 n K (Ep i) x (nI i) (nI q) (f + 1) (nI k) a h = if dw1 S i q k = true then some (0, h) else F_X0_doubt_L27 n K (Ep i) x (nI i) (nI q) f (nI (k + 1)) (if a = 0 then 0 else bI (!dw2 S i q k)) h := by
              intro a
              simp only [F_X0_doubt_L27, chk_true, bnd_some, ob_some, oc_some, oc_none, hl_eq, jn_eq, ix_0, ix_1, if_true, if_false, inb0_2, inb1_2, not_true_eq_false, not_false_eq_true, ite_true, ite_false, true_or, or_true, or_self, zero_eq_one_I, one_eq_zero_I, xs_k0, xs_k1, xs_n1, xs_k2, xs_k3, xs_k4, xs_k5, xs_k6, xs_k7, xs_k8, xs_k9, xs_k10, xs_k11, xs_n11, xs_k12, xs_n12, xs_k13, xs_n13, xs_k14, xs_n14, xs_k15, xs_n15, xs_k16, xs_n16, xs_k17, xs_n17, xs_k18, xs_n18, xs_k27, xs_n27, xs_k28, xs_n28, xs_r0_0, xs_r0_1, xs_r2_8, xs_r2_9, xs_r0_2, xs_r0_3, xs_r0_4, xs_r0_8, xs_r0_9, xs_r0_10, xs_r0_18, xs_r0_19, xs_r0_20, xs_r0_21, xs_r0_22, xs_r0_25, xs_r0_26, xs_r0_27, xs_r0_28, X.1, x_psize hn X, e3, e4, c, x_dbL hn X B hi hk (show q < 6 by omega), b5, b0, b4, hw, nI_1, bI_0, ← d1, ← d2]
              rcases Bool.eq_false_or_eq_true (dw1 S i q k) with z1 | z1 <;> rcases Bool.eq_false_or_eq_true (dw2 S i q k) with z2 | z2 <;> by_cases z3 : a = 0 <;> simp [z1, z2, z3, bI]
            show _ ∨ _
            rw [ew]
            rcases Bool.eq_false_or_eq_true (dw1 S i q k) with z1 | z1
            · left
              rw [if_pos z1]
              unfold dbtN
              rw [find_at hk hs.1 z1]
              rfl
            · right
              rw [if_neg (by rw [z1]; decide)]
              refine ⟨_, ⟨fun j hj => ?_, ?_⟩, rfl⟩
              · rcases Nat.lt_or_ge j k with z | z
                · exact hs.1 j z
                · have : j = k := by omega
                  rw [this]; exact z1
              · rw [anyS]
                cases anyS (dw2 S i q) k <;> cases dw2 S i q k <;> simp [bI])
        (by
          intro f s hs
          have e3 : (nI S.np ≤ nI S.np) = True := eq_true (nI_le (Nat.le_refl _) (by omega))
          rw [hs.2]
          simp only [F_X0_doubt_L27, chk_true, bnd_some, ob_some, oc_some, oc_none, hl_eq, jn_eq, ix_0, ix_1, if_true, if_false, inb0_2, inb1_2, not_true_eq_false, not_false_eq_true, ite_true, ite_false, true_or, or_true, or_self, zero_eq_one_I, one_eq_zero_I, xs_k0, xs_k1, xs_n1, xs_k2, xs_k3, xs_k4, xs_k5, xs_k6, xs_k7, xs_k8, xs_k9, xs_k10, xs_k11, xs_n11, xs_k12, xs_n12, xs_k13, xs_n13, xs_k14, xs_n14, xs_k15, xs_n15, xs_k16, xs_n16, xs_k17, xs_n17, xs_k18, xs_n18, xs_k27, xs_n27, xs_k28, xs_n28, xs_r0_0, xs_r0_1, xs_r2_8, xs_r2_9, xs_r0_2, xs_r0_3, xs_r0_4, xs_r0_8, xs_r0_9, xs_r0_10, xs_r0_18, xs_r0_19, xs_r0_20, xs_r0_21, xs_r0_22, xs_r0_25, xs_r0_26, xs_r0_27, xs_r0_28, X.1, x_psize hn X, e3, bI_0]
          unfold dbtN
          rw [find_no hs.1]
          cases anyS (dw2 S i q) S.np <;> rfl)
      simp only [F_X0_doubt, doubtS, chk_true, bnd_some, ob_some, oc_some, oc_none, hl_eq, jn_eq, ix_0, ix_1, if_true, if_false, inb0_2, inb1_2, not_true_eq_false, not_false_eq_true, ite_true, ite_false, true_or, or_true, or_self, zero_eq_one_I, one_eq_zero_I, xs_k0, xs_k1, xs_n1, xs_k2, xs_k3, xs_k4, xs_k5, xs_k6, xs_k7, xs_k8, xs_k9, xs_k10, xs_k11, xs_n11, xs_k12, xs_n12, xs_k13, xs_n13, xs_k14, xs_n14, xs_k15, xs_n15, xs_k16, xs_n16, xs_k17, xs_n17, xs_k18, xs_n18, xs_k27, xs_n27, xs_k28, xs_n28, xs_r0_0, xs_r0_1, xs_r2_8, xs_r2_9, xs_r0_2, xs_r0_3, xs_r0_4, xs_r0_8, xs_r0_9, xs_r0_10, xs_r0_18, xs_r0_19, xs_r0_20, xs_r0_21, xs_r0_22, xs_r0_25, xs_r0_26, xs_r0_27, xs_r0_28, X.1, x_placeAt X.1 X.2.2.1 hi, hp, he, x_in, bI_0, Bool.true_eq_false, e1, e2]
      exact key S.np 0 1 n (by omega) (by omega) ⟨fun j hj => by omega, rfl⟩
    · have he' : inS e 0 5 = false := by simpa using he
      simp only [F_X0_doubt, doubtS, chk_true, bnd_some, ob_some, oc_some, oc_none, hl_eq, jn_eq, ix_0, ix_1, if_true, if_false, inb0_2, inb1_2, not_true_eq_false, not_false_eq_true, ite_true, ite_false, true_or, or_true, or_self, zero_eq_one_I, one_eq_zero_I, xs_k0, xs_k1, xs_n1, xs_k2, xs_k3, xs_k4, xs_k5, xs_k6, xs_k7, xs_k8, xs_k9, xs_k10, xs_k11, xs_n11, xs_k12, xs_n12, xs_k13, xs_n13, xs_k14, xs_n14, xs_k15, xs_n15, xs_k16, xs_n16, xs_k17, xs_n17, xs_k18, xs_n18, xs_k27, xs_n27, xs_k28, xs_n28, xs_r0_0, xs_r0_1, xs_r2_8, xs_r2_9, xs_r0_2, xs_r0_3, xs_r0_4, xs_r0_8, xs_r0_9, xs_r0_10, xs_r0_18, xs_r0_19, xs_r0_20, xs_r0_21, xs_r0_22, xs_r0_25, xs_r0_26, xs_r0_27, xs_r0_28, X.1, x_placeAt X.1 X.2.2.1 hi, hp, he', x_in, bI_0, Bool.false_eq_true]
  · have hp' : inS p 0 (nI S.np - 1) = false := by simpa using hp
    simp only [F_X0_doubt, doubtS, chk_true, bnd_some, ob_some, oc_some, oc_none, hl_eq, jn_eq, ix_0, ix_1, if_true, if_false, inb0_2, inb1_2, not_true_eq_false, not_false_eq_true, ite_true, ite_false, true_or, or_true, or_self, zero_eq_one_I, one_eq_zero_I, xs_k0, xs_k1, xs_n1, xs_k2, xs_k3, xs_k4, xs_k5, xs_k6, xs_k7, xs_k8, xs_k9, xs_k10, xs_k11, xs_n11, xs_k12, xs_n12, xs_k13, xs_n13, xs_k14, xs_n14, xs_k15, xs_n15, xs_k16, xs_n16, xs_k17, xs_n17, xs_k18, xs_n18, xs_k27, xs_n27, xs_k28, xs_n28, xs_r0_0, xs_r0_1, xs_r2_8, xs_r2_9, xs_r0_2, xs_r0_3, xs_r0_4, xs_r0_8, xs_r0_9, xs_r0_10, xs_r0_18, xs_r0_19, xs_r0_20, xs_r0_21, xs_r0_22, xs_r0_25, xs_r0_26, xs_r0_27, xs_r0_28, X.1, x_placeAtN X.1 X.2.2.1 hp', hp', Bool.false_eq_true]
theorem m_doubt {n : Nat} {K : Nat → Nat} {m : Nat} {h : AH} {S : St} (hn : 20000 < n) (M : MA m h S) (B : Bd S) (p e : Int32) : ∃ d f o, F_X3_doubt n K m p e h = some (doubtS S p e, h.asM m d f o) := by
  have h20 := mnp hn M
  by_cases hp : inS p 0 (nI S.np - 1) = true
  · obtain ⟨i, hi, rfl⟩ := (inS_nI (by omega)).1 hp
    have e1 : ix (nI i) = i := ix_nI (by omega)
    by_cases he : inS e 0 5 = true
    · obtain ⟨q, hq, rfl⟩ := (inS_le (d := 5) (by omega)).1 he
      have e2 : ix (nI q) = q := ix_nI (by omega)
      have key := loopU (fun f k (s : Int32 × M3) => F_X3_doubt_L27 n K m (nI i) (nI q) f k s.1 (h.asM m s.2.1 s.2.2.1 s.2.2.2)) S.np (fun k s => (∀ j, j < k → dw1 S i q j = false) ∧ s.1 = bI (anyS (dw2 S i q) k)) (fun o => ∃ d f o', o = some (dbtN S i q, h.asM m d f o'))
        (by
          intro f k s hk hs
          have e3 : (nI S.np ≤ nI k) = False := eq_false (nI_ge hk (by omega))
          have e4 : (nI k = nI i) = (k = i) := propext (nI_eq (by omega) (by omega))
          have M' := MA_as M s.2.1 s.2.2.1 s.2.2.2
          have M2 := MA_as M (dbS S i k q).2.1 (dbS S i k q).1 (dbS S i k q).2.2
          have hw := fun yes no => m_isWon (n := n) (K := K) (by omega) M2.1 M2.2.1 M2.2.2.2 yes no
          rw [hs.2]
          by_cases c : k = i
          · right
            have d1 : dw1 S i q k = false := by unfold dw1; simp [c]
            have d2 : dw2 S i q k = false := by unfold dw2; simp [c]
            refine ⟨(bI (anyS (dw2 S i q) (k + 1)), s.2), ⟨fun j hj => ?_, rfl⟩, ?_⟩
            · rcases Nat.lt_or_ge j k with z | z
              · exact hs.1 j z
              · have : j = k := by omega
                rw [this]; exact d1
            · rw [anyS, d2, Bool.or_false]
              have c' : (k = i) = True := eq_true c
              simp only [F_X3_doubt_L27, chk_true, bnd_some, ob_some, oc_some, oc_none, hl_eq, jn_eq, ix_0, ix_1, if_true, if_false, inb0_2, inb1_2, not_true_eq_false, not_false_eq_true, ite_true, ite_false, true_or, or_true, or_self, zero_eq_one_I, one_eq_zero_I, as_kind, ms_k0, ms_k1, ms_n1, ms_k2, ms_n2, ms_k3, ms_n3, ms_k4, ms_n4, ms_k5, ms_n5, ms_k6, ms_n6, ms_k7, ms_n7, ms_k8, ms_n8, ms_k9, ms_n9, ms_k10, ms_n10, ms_k11, ms_n11, ms_k12, ms_n12, ms_k13, ms_n13, ms_k14, ms_n14, ms_k15, ms_n15, ms_k16, ms_n16, ms_k17, ms_n17, ms_k18, ms_n18, ms_k19, ms_n19, ms_k20, ms_n20, ms_k21, ms_n21, ms_k22, ms_n22, ms_k23, ms_n23, ms_k24, ms_n24, ms_k25, ms_n25, ms_k26, ms_n26, ms_k27, ms_n27, ms_k28, ms_n28, ms_k29, ms_n29, ms_k30, ms_n30, ms_k31, ms_n31, ms_k32, ms_n32, ms_k33, ms_n33, ms_k34, ms_n34, ms_k35, ms_n35, ms_k36, ms_n36, ms_k37, ms_n37, ms_k38, ms_n38, ms_k39, ms_n39, ms_k40, ms_n40, ms_k41, ms_n41, ms_k50, ms_n50, ms_k51, ms_n51, ms_k52, ms_n52, ms_k53, ms_n53, ms_r0_0, ms_r0_6, ms_r2_0, ms_r2_1, ms_r0_7, ms_r5_0, ms_r5_1, ms_r0_8, ms_r8_0, ms_r8_1, ms_r0_9, ms_r11_0, ms_r11_1, ms_r0_10, ms_r14_0, ms_r14_1, ms_r0_11, ms_r17_0, ms_r17_1, ms_r0_12, ms_r20_0, ms_r20_1, ms_r0_13, ms_r23_0, ms_r23_1, ms_r0_14, ms_r0_15, ms_r0_16, ms_r0_17, ms_r0_18, ms_r0_23, ms_r0_24, ms_r0_25, ms_r0_26, ms_r0_30, ms_r0_31, ms_r0_32, ms_r0_35, ms_r0_36, ms_r0_39, ms_r0_40, ms_r0_41, ms_r0_42, ms_r0_43, ms_r0_47, M.1, m_placesA hn M', e3, e4, c', nI_1]
          · have d1 : dw1 S i q k = wonS S.bk S.bp S.bw (totS S.V S.nv) (dbS S i k q).2.2 ((dbS S i k q).1 + (dbS S i k q).2.1) := by unfold dw1; simp [c]
            have d2 : dw2 S i q k = wonS S.bk S.bp S.bw (totS S.V S.nv) ((dbS S i k q).2.2 + (dbS S i k q).2.1) (dbS S i k q).1 := by unfold dw2; simp [c]
            have ew : ∀ a, F_X3_doubt_L27 n K m (nI i) (nI q) (f + 1) (nI k) a (h.asM m s.2.1 s.2.2.1 s.2.2.2) = if dw1 S i q k = true then some (0, h.asM m (dbS S i k q).2.1 (dbS S i k q).1 (dbS S i k q).2.2) else F_X3_doubt_L27 n K m (nI i) (nI q) f (nI (k + 1)) (if a = 0 then bI (dw2 S i q k) else 1) (h.asM m (dbS S i k q).2.1 (dbS S i k q).1 (dbS S i k q).2.2) := by
              intro a
              simp only [F_X3_doubt_L27, chk_true, bnd_some, ob_some, oc_some, oc_none, hl_eq, jn_eq, ix_0, ix_1, if_true, if_false, inb0_2, inb1_2, not_true_eq_false, not_false_eq_true, ite_true, ite_false, true_or, or_true, or_self, zero_eq_one_I, one_eq_zero_I, as_kind, ms_k0, ms_k1, ms_n1, ms_k2, ms_n2, ms_k3, ms_n3, ms_k4, ms_n4, ms_k5, ms_n5, ms_k6, ms_n6, ms_k7, ms_n7, ms_k8, ms_n8, ms_k9, ms_n9, ms_k10, ms_n10, ms_k11, ms_n11, ms_k12, ms_n12, ms_k13, ms_n13, ms_k14, ms_n14, ms_k15, ms_n15, ms_k16, ms_n16, ms_k17, ms_n17, ms_k18, ms_n18, ms_k19, ms_n19, ms_k20, ms_n20, ms_k21, ms_n21, ms_k22, ms_n22, ms_k23, ms_n23, ms_k24, ms_n24, ms_k25, ms_n25, ms_k26, ms_n26, ms_k27, ms_n27, ms_k28, ms_n28, ms_k29, ms_n29, ms_k30, ms_n30, ms_k31, ms_n31, ms_k32, ms_n32, ms_k33, ms_n33, ms_k34, ms_n34, ms_k35, ms_n35, ms_k36, ms_n36, ms_k37, ms_n37, ms_k38, ms_n38, ms_k39, ms_n39, ms_k40, ms_n40, ms_k41, ms_n41, ms_k50, ms_n50, ms_k51, ms_n51, ms_k52, ms_n52, ms_k53, ms_n53, ms_r0_0, ms_r0_6, ms_r2_0, ms_r2_1, ms_r0_7, ms_r5_0, ms_r5_1, ms_r0_8, ms_r8_0, ms_r8_1, ms_r0_9, ms_r11_0, ms_r11_1, ms_r0_10, ms_r14_0, ms_r14_1, ms_r0_11, ms_r17_0, ms_r17_1, ms_r0_12, ms_r20_0, ms_r20_1, ms_r0_13, ms_r23_0, ms_r23_1, ms_r0_14, ms_r0_15, ms_r0_16, ms_r0_17, ms_r0_18, ms_r0_23, ms_r0_24, ms_r0_25, ms_r0_26, ms_r0_30, ms_r0_31, ms_r0_32, ms_r0_35, ms_r0_36, ms_r0_39, ms_r0_40, ms_r0_41, ms_r0_42, ms_r0_43, ms_r0_47, M.1, m_placesA hn M', e3, e4, c, m_asks hn M B hi hk (show q < 6 by omega), as_44, as_45, as_46, hw, nI_1, bI_0, ← d1, ← d2]
              rcases Bool.eq_false_or_eq_true (dw1 S i q k) with z1 | z1 <;> rcases Bool.eq_false_or_eq_true (dw2 S i q k) with z2 | z2 <;> by_cases z3 : a = 0 <;> simp [z1, z2, z3, bI]
            show _ ∨ _
            rw [ew]
            rcases Bool.eq_false_or_eq_true (dw1 S i q k) with z1 | z1
            · left
              rw [if_pos z1]
              unfold dbtN
              rw [find_at hk hs.1 z1]
              exact ⟨_, _, _, rfl⟩
            · right
              rw [if_neg (by rw [z1]; decide)]
              refine ⟨(if bI (anyS (dw2 S i q) k) = 0 then bI (dw2 S i q k) else 1, (dbS S i k q).2.1, (dbS S i k q).1, (dbS S i k q).2.2), ⟨fun j hj => ?_, ?_⟩, rfl⟩
              · rcases Nat.lt_or_ge j k with z | z
                · exact hs.1 j z
                · have : j = k := by omega
                  rw [this]; exact z1
              · rw [anyS]
                cases anyS (dw2 S i q) k <;> cases dw2 S i q k <;> simp [bI])
        (by
          intro f s hs
          have M' := MA_as M s.2.1 s.2.2.1 s.2.2.2
          have e3 : (nI S.np ≤ nI S.np) = True := eq_true (nI_le (Nat.le_refl _) (by omega))
          refine ⟨s.2.1, s.2.2.1, s.2.2.2, ?_⟩
          rw [hs.2]
          simp only [F_X3_doubt_L27, chk_true, bnd_some, ob_some, oc_some, oc_none, hl_eq, jn_eq, ix_0, ix_1, if_true, if_false, inb0_2, inb1_2, not_true_eq_false, not_false_eq_true, ite_true, ite_false, true_or, or_true, or_self, zero_eq_one_I, one_eq_zero_I, as_kind, ms_k0, ms_k1, ms_n1, ms_k2, ms_n2, ms_k3, ms_n3, ms_k4, ms_n4, ms_k5, ms_n5, ms_k6, ms_n6, ms_k7, ms_n7, ms_k8, ms_n8, ms_k9, ms_n9, ms_k10, ms_n10, ms_k11, ms_n11, ms_k12, ms_n12, ms_k13, ms_n13, ms_k14, ms_n14, ms_k15, ms_n15, ms_k16, ms_n16, ms_k17, ms_n17, ms_k18, ms_n18, ms_k19, ms_n19, ms_k20, ms_n20, ms_k21, ms_n21, ms_k22, ms_n22, ms_k23, ms_n23, ms_k24, ms_n24, ms_k25, ms_n25, ms_k26, ms_n26, ms_k27, ms_n27, ms_k28, ms_n28, ms_k29, ms_n29, ms_k30, ms_n30, ms_k31, ms_n31, ms_k32, ms_n32, ms_k33, ms_n33, ms_k34, ms_n34, ms_k35, ms_n35, ms_k36, ms_n36, ms_k37, ms_n37, ms_k38, ms_n38, ms_k39, ms_n39, ms_k40, ms_n40, ms_k41, ms_n41, ms_k50, ms_n50, ms_k51, ms_n51, ms_k52, ms_n52, ms_k53, ms_n53, ms_r0_0, ms_r0_6, ms_r2_0, ms_r2_1, ms_r0_7, ms_r5_0, ms_r5_1, ms_r0_8, ms_r8_0, ms_r8_1, ms_r0_9, ms_r11_0, ms_r11_1, ms_r0_10, ms_r14_0, ms_r14_1, ms_r0_11, ms_r17_0, ms_r17_1, ms_r0_12, ms_r20_0, ms_r20_1, ms_r0_13, ms_r23_0, ms_r23_1, ms_r0_14, ms_r0_15, ms_r0_16, ms_r0_17, ms_r0_18, ms_r0_23, ms_r0_24, ms_r0_25, ms_r0_26, ms_r0_30, ms_r0_31, ms_r0_32, ms_r0_35, ms_r0_36, ms_r0_39, ms_r0_40, ms_r0_41, ms_r0_42, ms_r0_43, ms_r0_47, M.1, m_placesA hn M', e3, bI_0]
          unfold dbtN
          rw [find_no hs.1]
          cases anyS (dw2 S i q) S.np <;> rfl)
      have key2 := key S.np 0 (0, h.I m 44, h.I m 45, h.I m 46) n (by omega) (by omega) ⟨fun j hj => by omega, rfl⟩
      simp only [as_self] at key2
      simp only [F_X3_doubt, doubtS, chk_true, bnd_some, ob_some, oc_some, oc_none, hl_eq, jn_eq, ix_0, ix_1, if_true, if_false, inb0_2, inb1_2, not_true_eq_false, not_false_eq_true, ite_true, ite_false, true_or, or_true, or_self, zero_eq_one_I, one_eq_zero_I, ms_k0, ms_k1, ms_n1, ms_k2, ms_n2, ms_k3, ms_n3, ms_k4, ms_n4, ms_k5, ms_n5, ms_k6, ms_n6, ms_k7, ms_n7, ms_k8, ms_n8, ms_k9, ms_n9, ms_k10, ms_n10, ms_k11, ms_n11, ms_k12, ms_n12, ms_k13, ms_n13, ms_k14, ms_n14, ms_k15, ms_n15, ms_k16, ms_n16, ms_k17, ms_n17, ms_k18, ms_n18, ms_k19, ms_n19, ms_k20, ms_n20, ms_k21, ms_n21, ms_k22, ms_n22, ms_k23, ms_n23, ms_k24, ms_n24, ms_k25, ms_n25, ms_k26, ms_n26, ms_k27, ms_n27, ms_k28, ms_n28, ms_k29, ms_n29, ms_k30, ms_n30, ms_k31, ms_n31, ms_k32, ms_n32, ms_k33, ms_n33, ms_k34, ms_n34, ms_k35, ms_n35, ms_k36, ms_n36, ms_k37, ms_n37, ms_k38, ms_n38, ms_k39, ms_n39, ms_k40, ms_n40, ms_k41, ms_n41, ms_k50, ms_n50, ms_k51, ms_n51, ms_k52, ms_n52, ms_k53, ms_n53, ms_r0_0, ms_r0_6, ms_r2_0, ms_r2_1, ms_r0_7, ms_r5_0, ms_r5_1, ms_r0_8, ms_r8_0, ms_r8_1, ms_r0_9, ms_r11_0, ms_r11_1, ms_r0_10, ms_r14_0, ms_r14_1, ms_r0_11, ms_r17_0, ms_r17_1, ms_r0_12, ms_r20_0, ms_r20_1, ms_r0_13, ms_r23_0, ms_r23_1, ms_r0_14, ms_r0_15, ms_r0_16, ms_r0_17, ms_r0_18, ms_r0_23, ms_r0_24, ms_r0_25, ms_r0_26, ms_r0_30, ms_r0_31, ms_r0_32, ms_r0_35, ms_r0_36, ms_r0_39, ms_r0_40, ms_r0_41, ms_r0_42, ms_r0_43, ms_r0_47, M.1, m_isPlace M.1 M.2.2.1, hp, he, m_inC (nI q) 5 (C := 5) (by decide), bI_0, Bool.true_eq_false, e1, e2]
      exact key2
    · have he' : inS e 0 5 = false := by simpa using he
      refine ⟨h.I m 44, h.I m 45, h.I m 46, ?_⟩
      simp only [F_X3_doubt, doubtS, chk_true, bnd_some, ob_some, oc_some, oc_none, hl_eq, jn_eq, ix_0, ix_1, if_true, if_false, inb0_2, inb1_2, not_true_eq_false, not_false_eq_true, ite_true, ite_false, true_or, or_true, or_self, zero_eq_one_I, one_eq_zero_I, ms_k0, ms_k1, ms_n1, ms_k2, ms_n2, ms_k3, ms_n3, ms_k4, ms_n4, ms_k5, ms_n5, ms_k6, ms_n6, ms_k7, ms_n7, ms_k8, ms_n8, ms_k9, ms_n9, ms_k10, ms_n10, ms_k11, ms_n11, ms_k12, ms_n12, ms_k13, ms_n13, ms_k14, ms_n14, ms_k15, ms_n15, ms_k16, ms_n16, ms_k17, ms_n17, ms_k18, ms_n18, ms_k19, ms_n19, ms_k20, ms_n20, ms_k21, ms_n21, ms_k22, ms_n22, ms_k23, ms_n23, ms_k24, ms_n24, ms_k25, ms_n25, ms_k26, ms_n26, ms_k27, ms_n27, ms_k28, ms_n28, ms_k29, ms_n29, ms_k30, ms_n30, ms_k31, ms_n31, ms_k32, ms_n32, ms_k33, ms_n33, ms_k34, ms_n34, ms_k35, ms_n35, ms_k36, ms_n36, ms_k37, ms_n37, ms_k38, ms_n38, ms_k39, ms_n39, ms_k40, ms_n40, ms_k41, ms_n41, ms_k50, ms_n50, ms_k51, ms_n51, ms_k52, ms_n52, ms_k53, ms_n53, ms_r0_0, ms_r0_6, ms_r2_0, ms_r2_1, ms_r0_7, ms_r5_0, ms_r5_1, ms_r0_8, ms_r8_0, ms_r8_1, ms_r0_9, ms_r11_0, ms_r11_1, ms_r0_10, ms_r14_0, ms_r14_1, ms_r0_11, ms_r17_0, ms_r17_1, ms_r0_12, ms_r20_0, ms_r20_1, ms_r0_13, ms_r23_0, ms_r23_1, ms_r0_14, ms_r0_15, ms_r0_16, ms_r0_17, ms_r0_18, ms_r0_23, ms_r0_24, ms_r0_25, ms_r0_26, ms_r0_30, ms_r0_31, ms_r0_32, ms_r0_35, ms_r0_36, ms_r0_39, ms_r0_40, ms_r0_41, ms_r0_42, ms_r0_43, ms_r0_47, M.1, m_isPlace M.1 M.2.2.1, hp, he', m_inC e 5 (C := 5) (by decide), bI_0, Bool.true_eq_false, Bool.false_eq_true, as_self]
  · have hp' : inS p 0 (nI S.np - 1) = false := by simpa using hp
    refine ⟨h.I m 44, h.I m 45, h.I m 46, ?_⟩
    simp only [F_X3_doubt, doubtS, chk_true, bnd_some, ob_some, oc_some, oc_none, hl_eq, jn_eq, ix_0, ix_1, if_true, if_false, inb0_2, inb1_2, not_true_eq_false, not_false_eq_true, ite_true, ite_false, true_or, or_true, or_self, zero_eq_one_I, one_eq_zero_I, ms_k0, ms_k1, ms_n1, ms_k2, ms_n2, ms_k3, ms_n3, ms_k4, ms_n4, ms_k5, ms_n5, ms_k6, ms_n6, ms_k7, ms_n7, ms_k8, ms_n8, ms_k9, ms_n9, ms_k10, ms_n10, ms_k11, ms_n11, ms_k12, ms_n12, ms_k13, ms_n13, ms_k14, ms_n14, ms_k15, ms_n15, ms_k16, ms_n16, ms_k17, ms_n17, ms_k18, ms_n18, ms_k19, ms_n19, ms_k20, ms_n20, ms_k21, ms_n21, ms_k22, ms_n22, ms_k23, ms_n23, ms_k24, ms_n24, ms_k25, ms_n25, ms_k26, ms_n26, ms_k27, ms_n27, ms_k28, ms_n28, ms_k29, ms_n29, ms_k30, ms_n30, ms_k31, ms_n31, ms_k32, ms_n32, ms_k33, ms_n33, ms_k34, ms_n34, ms_k35, ms_n35, ms_k36, ms_n36, ms_k37, ms_n37, ms_k38, ms_n38, ms_k39, ms_n39, ms_k40, ms_n40, ms_k41, ms_n41, ms_k50, ms_n50, ms_k51, ms_n51, ms_k52, ms_n52, ms_k53, ms_n53, ms_r0_0, ms_r0_6, ms_r2_0, ms_r2_1, ms_r0_7, ms_r5_0, ms_r5_1, ms_r0_8, ms_r8_0, ms_r8_1, ms_r0_9, ms_r11_0, ms_r11_1, ms_r0_10, ms_r14_0, ms_r14_1, ms_r0_11, ms_r17_0, ms_r17_1, ms_r0_12, ms_r20_0, ms_r20_1, ms_r0_13, ms_r23_0, ms_r23_1, ms_r0_14, ms_r0_15, ms_r0_16, ms_r0_17, ms_r0_18, ms_r0_23, ms_r0_24, ms_r0_25, ms_r0_26, ms_r0_30, ms_r0_31, ms_r0_32, ms_r0_35, ms_r0_36, ms_r0_39, ms_r0_40, ms_r0_41, ms_r0_42, ms_r0_43, ms_r0_47, M.1, m_isPlace M.1 M.2.2.1, hp', bI_0, Bool.false_eq_true, as_self]
