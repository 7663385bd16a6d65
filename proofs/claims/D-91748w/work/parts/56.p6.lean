/-! PURE PART 6: states; answers that only read -/
set_option maxRecDepth 100000
/-- voters (count, V v: 0 x 1 y 2 weight 3 measure 4 wide 5 tall), places (count, P p: 0 x 1 y), bar (kind, part, whole) -/
abbrev St : Type := (Nat × (Nat → Nat → Int32)) × (Nat × (Nat → Nat → Int32)) × (Int32 × Int32 × Int32)
def St.nv (S : St) : Nat := S.1.1
def St.V (S : St) : Nat → Nat → Int32 := S.1.2
def St.np (S : St) : Nat := S.2.1.1
def St.P (S : St) : Nat → Nat → Int32 := S.2.1.2
def St.bk (S : St) : Int32 := S.2.2.1
def St.bp (S : St) : Int32 := S.2.2.2.1
def St.bw (S : St) : Int32 := S.2.2.2.2
def XA (K : Nat → Nat) (x : Nat) (h : AH) (ev : Nat) (Ev : Nat → Nat) (ep : Nat) (Ep : Nat → Nat) (b : Nat) (S : St) : Prop :=
  XSh x h ∧ XV K x h ev S.nv Ev S.V ∧ XP K x h ep S.np Ep S.P ∧ XB x h b S.bk S.bp S.bw (totS S.V S.nv)
def MA (m : Nat) (h : AH) (S : St) : Prop := MSh m h ∧ MV m h S.nv S.V ∧ MP m h S.np S.P ∧ MB m h S.bk S.bp S.bw
def vtS (S : St) (i j : Nat) : Int32 := forS S.V (S.P i 0) (S.P i 1) (S.P j 0) (S.P j 1) S.nv
def btS (S : St) (ax ay bx byy : Int32) : Bool := beatS S.V S.nv S.bk S.bp S.bw ax ay bx byy
def abS (S : St) (i j : Nat) : Bool := btS S (S.P i 0) (S.P i 1) (S.P j 0) (S.P j 1)
def foldS {σ : Type} (g : Nat → σ → σ) (s : σ) : Nat → σ
  | 0 => s
  | k + 1 => g k (foldS g s k)
def findS (p : Nat → Bool) : Nat → Nat → Option Nat
  | 0, _ => none
  | r + 1, k => if p k then some k else findS p r (k + 1)
def selS {β : Type} (o : Option Nat) (A : Nat → β) (B : β) : β := match o with
  | none => B
  | some k => A k
/-- a loop that folds -/
theorem loopF {σ β : Type} (F : Nat → Int32 → σ → Option β) (N : Nat) (g : Nat → σ → σ) (R : σ → Option β) (s0 : σ)
    (step : ∀ f k s, k < N → F (f + 1) (nI k) s = F f (nI (k + 1)) (g k s)) (fin : ∀ f s, F (f + 1) (nI N) s = R s) (fuel : Nat) (hf : N < fuel) : F fuel 0 s0 = R (foldS g s0 N) :=
  loopU F N (fun k s => s = foldS g s0 k) (fun o => o = R (foldS g s0 N)) (fun f k s hk hs => Or.inr ⟨_, rfl, by rw [step f k s hk, hs, foldS]⟩) (fun f s hs => by rw [fin, hs]) N 0 s0 fuel (by omega) hf rfl
/-- a loop that folds, from a later counter -/
theorem loopF1 {σ β : Type} (F : Nat → Int32 → σ → Option β) (N : Nat) (g : Nat → σ → σ) (R : σ → Option β) (s0 : σ)
    (step : ∀ f k s, k < N → F (f + 1) (nI (k + 1)) s = F f (nI (k + 2)) (g k s)) (fin : ∀ f s, F (f + 1) (nI (N + 1)) s = R s) (fuel : Nat) (hf : N < fuel) : F fuel 1 s0 = R (foldS g s0 N) := by
  have := loopU (fun f i s => F f (i + 1) s) N (fun k s => s = foldS g s0 k) (fun o => o = R (foldS g s0 N)) (fun f k s hk hs => Or.inr ⟨_, rfl, by rw [nI_1, nI_1, step f k s hk, hs, foldS]⟩) (fun f s hs => by rw [nI_1, fin, hs]) N 0 s0 fuel (by omega) hf rfl
  exact this
theorem loopG_aux {β : Type} (F : Nat → Int32 → Option β) (N : Nat) (p : Nat → Bool) (A : Nat → Option β) (B : Option β)
    (step : ∀ f k, k < N → F (f + 1) (nI k) = if p k then A k else F f (nI (k + 1))) (fin : ∀ f, F (f + 1) (nI N) = B) : ∀ r k fuel, k + r = N → r < fuel → F fuel (nI k) = selS (findS p r k) A B := by
  intro r
  induction r with
  | zero =>
    intro k fuel hk hf
    obtain ⟨f, rfl⟩ : ∃ f, fuel = f + 1 := ⟨fuel - 1, by omega⟩
    have : k = N := by omega
    subst this
    exact fin f
  | succ r ih =>
    intro k fuel hk hf
    obtain ⟨f, rfl⟩ : ∃ f, fuel = f + 1 := ⟨fuel - 1, by omega⟩
    rw [step f k (by omega), findS]
    by_cases c : p k = true
    · rw [if_pos c, if_pos c]; rfl
    · rw [if_neg c, if_neg c]; exact ih (k + 1) f (by omega) (by omega)
/-- a loop that looks for the first -/
theorem loopG {β : Type} (F : Nat → Int32 → Option β) (N : Nat) (p : Nat → Bool) (A : Nat → Option β) (B : Option β)
    (step : ∀ f k, k < N → F (f + 1) (nI k) = if p k then A k else F f (nI (k + 1))) (fin : ∀ f, F (f + 1) (nI N) = B) (fuel : Nat) (hf : N < fuel) : F fuel 0 = selS (findS p N 0) A B :=
  loopG_aux F N p A B step fin N 0 fuel (by omega) hf
theorem findS_some {p : Nat → Bool} : ∀ {r k j : Nat}, findS p r k = some j → k ≤ j ∧ j < k + r ∧ p j = true ∧ ∀ i, k ≤ i → i < j → p i = false := by
  intro r
  induction r with
  | zero => intro k j h; cases h
  | succ r ih =>
    intro k j h
    rw [findS] at h
    by_cases c : p k = true
    · rw [if_pos c] at h
      cases h
      exact ⟨Nat.le_refl _, by omega, c, fun i h1 h2 => by omega⟩
    · rw [if_neg c] at h
      obtain ⟨h1, h2, h3, h4⟩ := ih h
      refine ⟨by omega, by omega, h3, fun i h5 h6 => ?_⟩
      rcases Nat.eq_or_lt_of_le h5 with h7 | h7
      · subst h7; simpa using c
      · exact h4 i (by omega) h6
theorem findS_none {p : Nat → Bool} : ∀ {r k : Nat}, findS p r k = none → ∀ i, k ≤ i → i < k + r → p i = false := by
  intro r
  induction r with
  | zero => intro k h i h1 h2; omega
  | succ r ih =>
    intro k h i h1 h2
    rw [findS] at h
    by_cases c : p k = true
    · rw [if_pos c] at h; cases h
    · rw [if_neg c] at h
      rcases Nat.eq_or_lt_of_le h1 with h7 | h7
      · subst h7; simpa using c
      · exact ih h i (by omega) (by omega)
theorem findS_congr {p q : Nat → Bool} : ∀ {r k : Nat}, (∀ i, k ≤ i → i < k + r → p i = q i) → findS p r k = findS q r k := by
  intro r
  induction r with
  | zero => intro k _; rfl
  | succ r ih =>
    intro k h
    rw [findS, findS, h k (Nat.le_refl _) (by omega), ih (fun i h1 h2 => h i (by omega) (by omega))]
theorem foldS_congr {σ : Type} {g g' : Nat → σ → σ} {s : σ} : ∀ {N : Nat}, (∀ k a, k < N → g k a = g' k a) → foldS g s N = foldS g' s N := by
  intro N
  induction N with
  | zero => intro _; rfl
  | succ N ih => intro h; rw [foldS, foldS, ih (fun k a hk => h k a (by omega)), h N _ (by omega)]
theorem x_votesOf {n : Nat} {K : Nat → Nat} {x : Nat} {h : AH} {ev ep b : Nat} {Ev Ep : Nat → Nat} {S : St} (hn : 20000 < n) (X : XA K x h ev Ev ep Ep b S) {i j : Nat} (hi : i < S.np) (hj : j < S.np) : F_X0_votesOf n K x (some (Ep i)) (some (Ep j)) h = some (vtS S i j, h) := by
  obtain ⟨H, HV, HP, HB⟩ := X
  obtain ⟨a1, a2, a3⟩ := HP.2.2 i hi
  obtain ⟨b1, b2, b3⟩ := HP.2.2 j hj
  simp only [F_X0_votesOf, chk_true, bnd_some, ob_some, oc_some, oc_none, hl_eq, jn_eq, ix_0, ix_1, if_true, if_false, inb0_2, inb1_2, not_true_eq_false, not_false_eq_true, ite_true, ite_false, true_or, or_true, or_self, zero_eq_one_I, one_eq_zero_I, xs_k0, xs_k1, xs_n1, xs_k2, xs_k3, xs_k4, xs_k5, xs_k6, xs_k7, xs_k8, xs_k9, xs_k10, xs_k11, xs_n11, xs_k12, xs_n12, xs_k13, xs_n13, xs_k14, xs_n14, xs_k15, xs_n15, xs_k16, xs_n16, xs_k17, xs_n17, xs_k18, xs_n18, xs_k27, xs_n27, xs_k28, xs_n28, xs_r0_0, xs_r0_1, xs_r2_8, xs_r2_9, xs_r0_2, xs_r0_3, xs_r0_4, xs_r0_8, xs_r0_9, xs_r0_10, xs_r0_18, xs_r0_19, xs_r0_20, xs_r0_21, xs_r0_22, xs_r0_25, xs_r0_26, xs_r0_27, xs_r0_28, H, a1, a2, a3, b1, b2, b3, x_votesFor (n := n) (by omega) H HV, vtS]
theorem x_above {n : Nat} {K : Nat → Nat} {x : Nat} {h : AH} {ev ep b : Nat} {Ev Ep : Nat → Nat} {S : St} (hn : 20000 < n) (X : XA K x h ev Ev ep Ep b S) {i j : Nat} (hi : i < S.np) (hj : j < S.np) : F_X0_above n K x (some (Ep i)) (some (Ep j)) h = some (bI (abS S i j), h) := by
  obtain ⟨H, HV, HP, HB⟩ := X
  obtain ⟨a1, a2, a3⟩ := HP.2.2 i hi
  obtain ⟨b1, b2, b3⟩ := HP.2.2 j hj
  simp only [F_X0_above, chk_true, bnd_some, ob_some, oc_some, oc_none, hl_eq, jn_eq, ix_0, ix_1, if_true, if_false, inb0_2, inb1_2, not_true_eq_false, not_false_eq_true, ite_true, ite_false, true_or, or_true, or_self, zero_eq_one_I, one_eq_zero_I, xs_k0, xs_k1, xs_n1, xs_k2, xs_k3, xs_k4, xs_k5, xs_k6, xs_k7, xs_k8, xs_k9, xs_k10, xs_k11, xs_n11, xs_k12, xs_n12, xs_k13, xs_n13, xs_k14, xs_n14, xs_k15, xs_n15, xs_k16, xs_n16, xs_k17, xs_n17, xs_k18, xs_n18, xs_k27, xs_n27, xs_k28, xs_n28, xs_r0_0, xs_r0_1, xs_r2_8, xs_r2_9, xs_r0_2, xs_r0_3, xs_r0_4, xs_r0_8, xs_r0_9, xs_r0_10, xs_r0_18, xs_r0_19, xs_r0_20, xs_r0_21, xs_r0_22, xs_r0_25, xs_r0_26, xs_r0_27, xs_r0_28, H, a1, a2, a3, b1, b2, b3, x_isBeaten (n := n) (by omega) H HV HB, bI_01, abS, btS]
theorem m_votesOf {n : Nat} {K : Nat → Nat} {m : Nat} {h : AH} {S : St} (hn : 20000 < n) (M : MA m h S) {i j : Nat} (hi : i < S.np) (hj : j < S.np) : F_X3_votesOf n K m (nI i) (nI j) h = some (vtS S i j, h) := by
  obtain ⟨H, HV, HP, HB⟩ := M
  have h20 := HP.2.1
  obtain ⟨a2, a3⟩ := HP.2.2 i hi
  obtain ⟨b2, b3⟩ := HP.2.2 j hj
  have e1 : ix (nI i) = i := ix_nI (by omega)
  have e2 : inb (nI i) 20 = True := eq_true ((inb_nI (by omega)).2 (by omega))
  have e3 : ix (nI j) = j := ix_nI (by omega)
  have e4 : inb (nI j) 20 = True := eq_true ((inb_nI (by omega)).2 (by omega))
  simp only [F_X3_votesOf, chk_true, bnd_some, ob_some, oc_some, oc_none, hl_eq, jn_eq, ix_0, ix_1, if_true, if_false, inb0_2, inb1_2, not_true_eq_false, not_false_eq_true, ite_true, ite_false, true_or, or_true, or_self, zero_eq_one_I, one_eq_zero_I, ms_k0, ms_k1, ms_n1, ms_k2, ms_n2, ms_k3, ms_n3, ms_k4, ms_n4, ms_k5, ms_n5, ms_k6, ms_n6, ms_k7, ms_n7, ms_k8, ms_n8, ms_k9, ms_n9, ms_k10, ms_n10, ms_k11, ms_n11, ms_k12, ms_n12, ms_k13, ms_n13, ms_k14, ms_n14, ms_k15, ms_n15, ms_k16, ms_n16, ms_k17, ms_n17, ms_k18, ms_n18, ms_k19, ms_n19, ms_k20, ms_n20, ms_k21, ms_n21, ms_k22, ms_n22, ms_k23, ms_n23, ms_k24, ms_n24, ms_k25, ms_n25, ms_k26, ms_n26, ms_k27, ms_n27, ms_k28, ms_n28, ms_k29, ms_n29, ms_k30, ms_n30, ms_k31, ms_n31, ms_k32, ms_n32, ms_k33, ms_n33, ms_k34, ms_n34, ms_k35, ms_n35, ms_k36, ms_n36, ms_k37, ms_n37, ms_k38, ms_n38, ms_k39, ms_n39, ms_k40, ms_n40, ms_k41, ms_n41, ms_k50, ms_n50, ms_k51, ms_n51, ms_k52, ms_n52, ms_k53, ms_n53, ms_r0_0, ms_r0_6, ms_r2_0, ms_r2_1, ms_r0_7, ms_r5_0, ms_r5_1, ms_r0_8, ms_r8_0, ms_r8_1, ms_r0_9, ms_r11_0, ms_r11_1, ms_r0_10, ms_r14_0, ms_r14_1, ms_r0_11, ms_r17_0, ms_r17_1, ms_r0_12, ms_r20_0, ms_r20_1, ms_r0_13, ms_r23_0, ms_r23_1, ms_r0_14, ms_r0_15, ms_r0_16, ms_r0_17, ms_r0_18, ms_r0_23, ms_r0_24, ms_r0_25, ms_r0_26, ms_r0_30, ms_r0_31, ms_r0_32, ms_r0_35, ms_r0_36, ms_r0_39, ms_r0_40, ms_r0_41, ms_r0_42, ms_r0_43, ms_r0_47, H, e1, e2, e3, e4, a2, a3, b2, b3, m_forOf (n := n) (by omega) H HV, vtS]
theorem m_beatsOf {n : Nat} {K : Nat → Nat} {m : Nat} {h : AH} {S : St} (hn : 20000 < n) (M : MA m h S) {i j : Nat} (hi : i < S.np) (hj : j < S.np) : F_X3_beatsOf n K m (nI i) (nI j) h = some (bI (abS S i j), h) := by
  obtain ⟨H, HV, HP, HB⟩ := M
  have h20 := HP.2.1
  obtain ⟨a2, a3⟩ := HP.2.2 i hi
  obtain ⟨b2, b3⟩ := HP.2.2 j hj
  have e1 : ix (nI i) = i := ix_nI (by omega)
  have e2 : inb (nI i) 20 = True := eq_true ((inb_nI (by omega)).2 (by omega))
  have e3 : ix (nI j) = j := ix_nI (by omega)
  have e4 : inb (nI j) 20 = True := eq_true ((inb_nI (by omega)).2 (by omega))
  simp only [F_X3_beatsOf, chk_true, bnd_some, ob_some, oc_some, oc_none, hl_eq, jn_eq, ix_0, ix_1, if_true, if_false, inb0_2, inb1_2, not_true_eq_false, not_false_eq_true, ite_true, ite_false, true_or, or_true, or_self, zero_eq_one_I, one_eq_zero_I, ms_k0, ms_k1, ms_n1, ms_k2, ms_n2, ms_k3, ms_n3, ms_k4, ms_n4, ms_k5, ms_n5, ms_k6, ms_n6, ms_k7, ms_n7, ms_k8, ms_n8, ms_k9, ms_n9, ms_k10, ms_n10, ms_k11, ms_n11, ms_k12, ms_n12, ms_k13, ms_n13, ms_k14, ms_n14, ms_k15, ms_n15, ms_k16, ms_n16, ms_k17, ms_n17, ms_k18, ms_n18, ms_k19, ms_n19, ms_k20, ms_n20, ms_k21, ms_n21, ms_k22, ms_n22, ms_k23, ms_n23, ms_k24, ms_n24, ms_k25, ms_n25, ms_k26, ms_n26, ms_k27, ms_n27, ms_k28, ms_n28, ms_k29, ms_n29, ms_k30, ms_n30, ms_k31, ms_n31, ms_k32, ms_n32, ms_k33, ms_n33, ms_k34, ms_n34, ms_k35, ms_n35, ms_k36, ms_n36, ms_k37, ms_n37, ms_k38, ms_n38, ms_k39, ms_n39, ms_k40, ms_n40, ms_k41, ms_n41, ms_k50, ms_n50, ms_k51, ms_n51, ms_k52, ms_n52, ms_k53, ms_n53, ms_r0_0, ms_r0_6, ms_r2_0, ms_r2_1, ms_r0_7, ms_r5_0, ms_r5_1, ms_r0_8, ms_r8_0, ms_r8_1, ms_r0_9, ms_r11_0, ms_r11_1, ms_r0_10, ms_r14_0, ms_r14_1, ms_r0_11, ms_r17_0, ms_r17_1, ms_r0_12, ms_r20_0, ms_r20_1, ms_r0_13, ms_r23_0, ms_r23_1, ms_r0_14, ms_r0_15, ms_r0_16, ms_r0_17, ms_r0_18, ms_r0_23, ms_r0_24, ms_r0_25, ms_r0_26, ms_r0_30, ms_r0_31, ms_r0_32, ms_r0_35, ms_r0_36, ms_r0_39, ms_r0_40, ms_r0_41, ms_r0_42, ms_r0_43, ms_r0_47, H, e1, e2, e3, e4, a2, a3, b2, b3, m_beatsAt (n := n) (by omega) H HV HB, bI_01, abS, btS]
/-- the place loops: facts of a counter -/
theorem m_placesA {n : Nat} {K : Nat → Nat} {m : Nat} {h : AH} {S : St} (hn : 20000 < n) (M : MA m h S) : F_X3_places n K m h = some (nI S.np, h) := m_places M.1 M.2.2.1
theorem x_psize {n : Nat} {K : Nat → Nat} {x : Nat} {h : AH} {ev ep b : Nat} {Ev Ep : Nat → Nat} {S : St} (hn : 20000 < n) (X : XA K x h ev Ev ep Ep b S) : F_J2_size n K (x + 6) h = some (nI S.np, h) := l_size X.2.2.1.1
theorem x_pget {n : Nat} {K : Nat → Nat} {x : Nat} {h : AH} {ev ep b : Nat} {Ev Ep : Nat → Nat} {S : St} (hn : 20000 < n) (X : XA K x h ev Ev ep Ep b S) {i : Nat} (hi : i < S.np) : F_J2_get n K (x + 6) (nI i) h = some (some (Ep i), h) := l_get X.2.2.1.1 hi
theorem x_pkind {n : Nat} {K : Nat → Nat} {x : Nat} {h : AH} {ev ep b : Nat} {Ev Ep : Nat → Nat} {S : St} (hn : 20000 < n) (X : XA K x h ev Ev ep Ep b S) {i : Nat} (hi : i < S.np) : h.kind (Ep i) = 11 := (X.2.2.1.2.2 i hi).1
theorem xnp {n : Nat} {K : Nat → Nat} {x : Nat} {h : AH} {ev ep b : Nat} {Ev Ep : Nat → Nat} {S : St} (hn : 20000 < n) (X : XA K x h ev Ev ep Ep b S) : S.np ≤ 20 := X.2.2.1.2.1
theorem mnp {n : Nat} {m : Nat} {h : AH} {S : St} (hn : 20000 < n) (M : MA m h S) : S.np ≤ 20 := M.2.2.1.2.1
def needS (S : St) (p : Nat) : Int32 := foldS (fun k a => if k = p then a else maxS a (vtS S k p)) 0 S.np
theorem x_needOf {n : Nat} {K : Nat → Nat} {x : Nat} {h : AH} {ev ep b : Nat} {Ev Ep : Nat → Nat} {S : St} (hn : 20000 < n) (X : XA K x h ev Ev ep Ep b S) {p : Nat} (hp : p < S.np) : F_X0_needOf n K x (nI p) h = some (needS S p, h) := by
  have h20 := xnp hn X
  have key := loopF (fun f i (s : Int32) => F_X0_needOf_L4 n K x (nI p) f i s h) S.np (fun k a => if k = p then a else maxS a (vtS S k p)) (fun s => some (s, h)) 0
    (by
      intro f k s hk
      have e3 : (nI S.np ≤ nI k) = False := eq_false (nI_ge hk (by omega))
      have e4 : (nI k = nI p) = (k = p) := propext (nI_eq (by omega) (by omega))
      simp only [F_X0_needOf_L4, chk_true, bnd_some, ob_some, oc_some, oc_none, hl_eq, jn_eq, ix_0, ix_1, if_true, if_false, inb0_2, inb1_2, not_true_eq_false, not_false_eq_true, ite_true, ite_false, true_or, or_true, or_self, zero_eq_one_I, one_eq_zero_I, xs_k0, xs_k1, xs_n1, xs_k2, xs_k3, xs_k4, xs_k5, xs_k6, xs_k7, xs_k8, xs_k9, xs_k10, xs_k11, xs_n11, xs_k12, xs_n12, xs_k13, xs_n13, xs_k14, xs_n14, xs_k15, xs_n15, xs_k16, xs_n16, xs_k17, xs_n17, xs_k18, xs_n18, xs_k27, xs_n27, xs_k28, xs_n28, xs_r0_0, xs_r0_1, xs_r2_8, xs_r2_9, xs_r0_2, xs_r0_3, xs_r0_4, xs_r0_8, xs_r0_9, xs_r0_10, xs_r0_18, xs_r0_19, xs_r0_20, xs_r0_21, xs_r0_22, xs_r0_25, xs_r0_26, xs_r0_27, xs_r0_28, X.1, x_psize hn X, e3, e4, x_pget hn X hk, x_pget hn X hp, x_pkind hn X hk, x_pkind hn X hp, x_votesOf hn X hk hp, nI_1]
      by_cases c : k = p
      · simp only [c, chk_true, bnd_some, ob_some, oc_some, oc_none, hl_eq, jn_eq, ix_0, ix_1, if_true, if_false, inb0_2, inb1_2, not_true_eq_false, not_false_eq_true, ite_true, ite_false, true_or, or_true, or_self, zero_eq_one_I, one_eq_zero_I]
      · simp only [c, chk_true, bnd_some, ob_some, oc_some, oc_none, hl_eq, jn_eq, ix_0, ix_1, if_true, if_false, inb0_2, inb1_2, not_true_eq_false, not_false_eq_true, ite_true, ite_false, true_or, or_true, or_self, zero_eq_one_I, one_eq_zero_I, maxS])
    (by
      intro f s
      have e3 : (nI S.np ≤ nI S.np) = True := eq_true (nI_le (Nat.le_refl _) (by omega))
      simp only [F_X0_needOf_L4, chk_true, bnd_some, ob_some, oc_some, oc_none, hl_eq, jn_eq, ix_0, ix_1, if_true, if_false, inb0_2, inb1_2, not_true_eq_false, not_false_eq_true, ite_true, ite_false, true_or, or_true, or_self, zero_eq_one_I, one_eq_zero_I, xs_k0, xs_k1, xs_n1, xs_k2, xs_k3, xs_k4, xs_k5, xs_k6, xs_k7, xs_k8, xs_k9, xs_k10, xs_k11, xs_n11, xs_k12, xs_n12, xs_k13, xs_n13, xs_k14, xs_n14, xs_k15, xs_n15, xs_k16, xs_n16, xs_k17, xs_n17, xs_k18, xs_n18, xs_k27, xs_n27, xs_k28, xs_n28, xs_r0_0, xs_r0_1, xs_r2_8, xs_r2_9, xs_r0_2, xs_r0_3, xs_r0_4, xs_r0_8, xs_r0_9, xs_r0_10, xs_r0_18, xs_r0_19, xs_r0_20, xs_r0_21, xs_r0_22, xs_r0_25, xs_r0_26, xs_r0_27, xs_r0_28, X.1, x_psize hn X, e3]) n (by omega)
  exact key
theorem m_needOf {n : Nat} {K : Nat → Nat} {m : Nat} {h : AH} {S : St} (hn : 20000 < n) (M : MA m h S) {p : Nat} (hp : p < S.np) : F_X3_needOf n K m (nI p) h = some (needS S p, h) := by
  have h20 := mnp hn M
  have key := loopF (fun f i (s : Int32) => F_X3_needOf_L4 n K m (nI p) f i s h) S.np (fun k a => if k = p then a else maxS a (vtS S k p)) (fun s => some (s, h)) 0
    (by
      intro f k s hk
      have e3 : (nI S.np ≤ nI k) = False := eq_false (nI_ge hk (by omega))
      have e4 : (nI k = nI p) = (k = p) := propext (nI_eq (by omega) (by omega))
      simp only [F_X3_needOf_L4, chk_true, bnd_some, ob_some, oc_some, oc_none, hl_eq, jn_eq, ix_0, ix_1, if_true, if_false, inb0_2, inb1_2, not_true_eq_false, not_false_eq_true, ite_true, ite_false, true_or, or_true, or_self, zero_eq_one_I, one_eq_zero_I, ms_k0, ms_k1, ms_n1, ms_k2, ms_n2, ms_k3, ms_n3, ms_k4, ms_n4, ms_k5, ms_n5, ms_k6, ms_n6, ms_k7, ms_n7, ms_k8, ms_n8, ms_k9, ms_n9, ms_k10, ms_n10, ms_k11, ms_n11, ms_k12, ms_n12, ms_k13, ms_n13, ms_k14, ms_n14, ms_k15, ms_n15, ms_k16, ms_n16, ms_k17, ms_n17, ms_k18, ms_n18, ms_k19, ms_n19, ms_k20, ms_n20, ms_k21, ms_n21, ms_k22, ms_n22, ms_k23, ms_n23, ms_k24, ms_n24, ms_k25, ms_n25, ms_k26, ms_n26, ms_k27, ms_n27, ms_k28, ms_n28, ms_k29, ms_n29, ms_k30, ms_n30, ms_k31, ms_n31, ms_k32, ms_n32, ms_k33, ms_n33, ms_k34, ms_n34, ms_k35, ms_n35, ms_k36, ms_n36, ms_k37, ms_n37, ms_k38, ms_n38, ms_k39, ms_n39, ms_k40, ms_n40, ms_k41, ms_n41, ms_k50, ms_n50, ms_k51, ms_n51, ms_k52, ms_n52, ms_k53, ms_n53, ms_r0_0, ms_r0_6, ms_r2_0, ms_r2_1, ms_r0_7, ms_r5_0, ms_r5_1, ms_r0_8, ms_r8_0, ms_r8_1, ms_r0_9, ms_r11_0, ms_r11_1, ms_r0_10, ms_r14_0, ms_r14_1, ms_r0_11, ms_r17_0, ms_r17_1, ms_r0_12, ms_r20_0, ms_r20_1, ms_r0_13, ms_r23_0, ms_r23_1, ms_r0_14, ms_r0_15, ms_r0_16, ms_r0_17, ms_r0_18, ms_r0_23, ms_r0_24, ms_r0_25, ms_r0_26, ms_r0_30, ms_r0_31, ms_r0_32, ms_r0_35, ms_r0_36, ms_r0_39, ms_r0_40, ms_r0_41, ms_r0_42, ms_r0_43, ms_r0_47, M.1, m_placesA hn M, e3, e4, m_votesOf hn M hk hp, nI_1]
      by_cases c : k = p
      · simp only [c, chk_true, bnd_some, ob_some, oc_some, oc_none, hl_eq, jn_eq, ix_0, ix_1, if_true, if_false, inb0_2, inb1_2, not_true_eq_false, not_false_eq_true, ite_true, ite_false, true_or, or_true, or_self, zero_eq_one_I, one_eq_zero_I]
      · simp only [c, chk_true, bnd_some, ob_some, oc_some, oc_none, hl_eq, jn_eq, ix_0, ix_1, if_true, if_false, inb0_2, inb1_2, not_true_eq_false, not_false_eq_true, ite_true, ite_false, true_or, or_true, or_self, zero_eq_one_I, one_eq_zero_I, maxS])
    (by
      intro f s
      have e3 : (nI S.np ≤ nI S.np) = True := eq_true (nI_le (Nat.le_refl _) (by omega))
      simp only [F_X3_needOf_L4, chk_true, bnd_some, ob_some, oc_some, oc_none, hl_eq, jn_eq, ix_0, ix_1, if_true, if_false, inb0_2, inb1_2, not_true_eq_false, not_false_eq_true, ite_true, ite_false, true_or, or_true, or_self, zero_eq_one_I, one_eq_zero_I, ms_k0, ms_k1, ms_n1, ms_k2, ms_n2, ms_k3, ms_n3, ms_k4, ms_n4, ms_k5, ms_n5, ms_k6, ms_n6, ms_k7, ms_n7, ms_k8, ms_n8, ms_k9, ms_n9, ms_k10, ms_n10, ms_k11, ms_n11, ms_k12, ms_n12, ms_k13, ms_n13, ms_k14, ms_n14, ms_k15, ms_n15, ms_k16, ms_n16, ms_k17, ms_n17, ms_k18, ms_n18, ms_k19, ms_n19, ms_k20, ms_n20, ms_k21, ms_n21, ms_k22, ms_n22, ms_k23, ms_n23, ms_k24, ms_n24, ms_k25, ms_n25, ms_k26, ms_n26, ms_k27, ms_n27, ms_k28, ms_n28, ms_k29, ms_n29, ms_k30, ms_n30, ms_k31, ms_n31, ms_k32, ms_n32, ms_k33, ms_n33, ms_k34, ms_n34, ms_k35, ms_n35, ms_k36, ms_n36, ms_k37, ms_n37, ms_k38, ms_n38, ms_k39, ms_n39, ms_k40, ms_n40, ms_k41, ms_n41, ms_k50, ms_n50, ms_k51, ms_n51, ms_k52, ms_n52, ms_k53, ms_n53, ms_r0_0, ms_r0_6, ms_r2_0, ms_r2_1, ms_r0_7, ms_r5_0, ms_r5_1, ms_r0_8, ms_r8_0, ms_r8_1, ms_r0_9, ms_r11_0, ms_r11_1, ms_r0_10, ms_r14_0, ms_r14_1, ms_r0_11, ms_r17_0, ms_r17_1, ms_r0_12, ms_r20_0, ms_r20_1, ms_r0_13, ms_r23_0, ms_r23_1, ms_r0_14, ms_r0_15, ms_r0_16, ms_r0_17, ms_r0_18, ms_r0_23, ms_r0_24, ms_r0_25, ms_r0_26, ms_r0_30, ms_r0_31, ms_r0_32, ms_r0_35, ms_r0_36, ms_r0_39, ms_r0_40, ms_r0_41, ms_r0_42, ms_r0_43, ms_r0_47, M.1, m_placesA hn M, e3]) n (by omega)
  exact key
def unS (S : St) (p : Nat) : Bool := (findS (fun k => !decide (k = p) && abS S k p) S.np 0).isNone
theorem x_isUnbeaten {n : Nat} {K : Nat → Nat} {x : Nat} {h : AH} {ev ep b : Nat} {Ev Ep : Nat → Nat} {S : St} (hn : 20000 < n) (X : XA K x h ev Ev ep Ep b S) {p : Nat} (hp : p < S.np) : F_X0_isUnbeaten n K x (nI p) h = some (bI (unS S p), h) := by
  have h20 := xnp hn X
  have key := loopG (fun f i => F_X0_isUnbeaten_L2 n K x (nI p) f i h) S.np (fun k => !decide (k = p) && abS S k p) (fun _ => some (0, h)) (some (1, h))
    (by
      intro f k hk
      have e3 : (nI S.np ≤ nI k) = False := eq_false (nI_ge hk (by omega))
      have e4 : (nI k = nI p) = (k = p) := propext (nI_eq (by omega) (by omega))
      simp only [F_X0_isUnbeaten_L2, chk_true, bnd_some, ob_some, oc_some, oc_none, hl_eq, jn_eq, ix_0, ix_1, if_true, if_false, inb0_2, inb1_2, not_true_eq_false, not_false_eq_true, ite_true, ite_false, true_or, or_true, or_self, zero_eq_one_I, one_eq_zero_I, xs_k0, xs_k1, xs_n1, xs_k2, xs_k3, xs_k4, xs_k5, xs_k6, xs_k7, xs_k8, xs_k9, xs_k10, xs_k11, xs_n11, xs_k12, xs_n12, xs_k13, xs_n13, xs_k14, xs_n14, xs_k15, xs_n15, xs_k16, xs_n16, xs_k17, xs_n17, xs_k18, xs_n18, xs_k27, xs_n27, xs_k28, xs_n28, xs_r0_0, xs_r0_1, xs_r2_8, xs_r2_9, xs_r0_2, xs_r0_3, xs_r0_4, xs_r0_8, xs_r0_9, xs_r0_10, xs_r0_18, xs_r0_19, xs_r0_20, xs_r0_21, xs_r0_22, xs_r0_25, xs_r0_26, xs_r0_27, xs_r0_28, X.1, x_psize hn X, e3, e4, x_pget hn X hk, x_pget hn X hp, x_pkind hn X hk, x_pkind hn X hp, x_above hn X hk hp, nI_1, bI_0]
      by_cases c : k = p
      · simp [c]
      · cases hb : abS S k p <;> simp [c])
    (by
      intro f
      have e3 : (nI S.np ≤ nI S.np) = True := eq_true (nI_le (Nat.le_refl _) (by omega))
      simp only [F_X0_isUnbeaten_L2, chk_true, bnd_some, ob_some, oc_some, oc_none, hl_eq, jn_eq, ix_0, ix_1, if_true, if_false, inb0_2, inb1_2, not_true_eq_false, not_false_eq_true, ite_true, ite_false, true_or, or_true, or_self, zero_eq_one_I, one_eq_zero_I, xs_k0, xs_k1, xs_n1, xs_k2, xs_k3, xs_k4, xs_k5, xs_k6, xs_k7, xs_k8, xs_k9, xs_k10, xs_k11, xs_n11, xs_k12, xs_n12, xs_k13, xs_n13, xs_k14, xs_n14, xs_k15, xs_n15, xs_k16, xs_n16, xs_k17, xs_n17, xs_k18, xs_n18, xs_k27, xs_n27, xs_k28, xs_n28, xs_r0_0, xs_r0_1, xs_r2_8, xs_r2_9, xs_r0_2, xs_r0_3, xs_r0_4, xs_r0_8, xs_r0_9, xs_r0_10, xs_r0_18, xs_r0_19, xs_r0_20, xs_r0_21, xs_r0_22, xs_r0_25, xs_r0_26, xs_r0_27, xs_r0_28, X.1, x_psize hn X, e3]) n (by omega)
  refine key.trans ?_
  unfold unS
  cases findS (fun k => !decide (k = p) && abS S k p) S.np 0 <;> rfl
theorem m_isUnbeaten {n : Nat} {K : Nat → Nat} {m : Nat} {h : AH} {S : St} (hn : 20000 < n) (M : MA m h S) {p : Nat} (hp : p < S.np) : F_X3_isUnbeaten n K m (nI p) h = some (bI (unS S p), h) := by
  have h20 := mnp hn M
  have key := loopG (fun f i => F_X3_isUnbeaten_L2 n K m (nI p) f i h) S.np (fun k => !decide (k = p) && abS S k p) (fun _ => some (0, h)) (some (1, h))
    (by
      intro f k hk
      have e3 : (nI S.np ≤ nI k) = False := eq_false (nI_ge hk (by omega))
      have e4 : (nI k = nI p) = (k = p) := propext (nI_eq (by omega) (by omega))
      simp only [F_X3_isUnbeaten_L2, chk_true, bnd_some, ob_some, oc_some, oc_none, hl_eq, jn_eq, ix_0, ix_1, if_true, if_false, inb0_2, inb1_2, not_true_eq_false, not_false_eq_true, ite_true, ite_false, true_or, or_true, or_self, zero_eq_one_I, one_eq_zero_I, ms_k0, ms_k1, ms_n1, ms_k2, ms_n2, ms_k3, ms_n3, ms_k4, ms_n4, ms_k5, ms_n5, ms_k6, ms_n6, ms_k7, ms_n7, ms_k8, ms_n8, ms_k9, ms_n9, ms_k10, ms_n10, ms_k11, ms_n11, ms_k12, ms_n12, ms_k13, ms_n13, ms_k14, ms_n14, ms_k15, ms_n15, ms_k16, ms_n16, ms_k17, ms_n17, ms_k18, ms_n18, ms_k19, ms_n19, ms_k20, ms_n20, ms_k21, ms_n21, ms_k22, ms_n22, ms_k23, ms_n23, ms_k24, ms_n24, ms_k25, ms_n25, ms_k26, ms_n26, ms_k27, ms_n27, ms_k28, ms_n28, ms_k29, ms_n29, ms_k30, ms_n30, ms_k31, ms_n31, ms_k32, ms_n32, ms_k33, ms_n33, ms_k34, ms_n34, ms_k35, ms_n35, ms_k36, ms_n36, ms_k37, ms_n37, ms_k38, ms_n38, ms_k39, ms_n39, ms_k40, ms_n40, ms_k41, ms_n41, ms_k50, ms_n50, ms_k51, ms_n51, ms_k52, ms_n52, ms_k53, ms_n53, ms_r0_0, ms_r0_6, ms_r2_0, ms_r2_1, ms_r0_7, ms_r5_0, ms_r5_1, ms_r0_8, ms_r8_0, ms_r8_1, ms_r0_9, ms_r11_0, ms_r11_1, ms_r0_10, ms_r14_0, ms_r14_1, ms_r0_11, ms_r17_0, ms_r17_1, ms_r0_12, ms_r20_0, ms_r20_1, ms_r0_13, ms_r23_0, ms_r23_1, ms_r0_14, ms_r0_15, ms_r0_16, ms_r0_17, ms_r0_18, ms_r0_23, ms_r0_24, ms_r0_25, ms_r0_26, ms_r0_30, ms_r0_31, ms_r0_32, ms_r0_35, ms_r0_36, ms_r0_39, ms_r0_40, ms_r0_41, ms_r0_42, ms_r0_43, ms_r0_47, M.1, m_placesA hn M, e3, e4, m_beatsOf hn M hk hp, nI_1, bI_0]
      by_cases c : k = p
      · simp [c]
      · cases hb : abS S k p <;> simp [c])
    (by
      intro f
      have e3 : (nI S.np ≤ nI S.np) = True := eq_true (nI_le (Nat.le_refl _) (by omega))
      simp only [F_X3_isUnbeaten_L2, chk_true, bnd_some, ob_some, oc_some, oc_none, hl_eq, jn_eq, ix_0, ix_1, if_true, if_false, inb0_2, inb1_2, not_true_eq_false, not_false_eq_true, ite_true, ite_false, true_or, or_true, or_self, zero_eq_one_I, one_eq_zero_I, ms_k0, ms_k1, ms_n1, ms_k2, ms_n2, ms_k3, ms_n3, ms_k4, ms_n4, ms_k5, ms_n5, ms_k6, ms_n6, ms_k7, ms_n7, ms_k8, ms_n8, ms_k9, ms_n9, ms_k10, ms_n10, ms_k11, ms_n11, ms_k12, ms_n12, ms_k13, ms_n13, ms_k14, ms_n14, ms_k15, ms_n15, ms_k16, ms_n16, ms_k17, ms_n17, ms_k18, ms_n18, ms_k19, ms_n19, ms_k20, ms_n20, ms_k21, ms_n21, ms_k22, ms_n22, ms_k23, ms_n23, ms_k24, ms_n24, ms_k25, ms_n25, ms_k26, ms_n26, ms_k27, ms_n27, ms_k28, ms_n28, ms_k29, ms_n29, ms_k30, ms_n30, ms_k31, ms_n31, ms_k32, ms_n32, ms_k33, ms_n33, ms_k34, ms_n34, ms_k35, ms_n35, ms_k36, ms_n36, ms_k37, ms_n37, ms_k38, ms_n38, ms_k39, ms_n39, ms_k40, ms_n40, ms_k41, ms_n41, ms_k50, ms_n50, ms_k51, ms_n51, ms_k52, ms_n52, ms_k53, ms_n53, ms_r0_0, ms_r0_6, ms_r2_0, ms_r2_1, ms_r0_7, ms_r5_0, ms_r5_1, ms_r0_8, ms_r8_0, ms_r8_1, ms_r0_9, ms_r11_0, ms_r11_1, ms_r0_10, ms_r14_0, ms_r14_1, ms_r0_11, ms_r17_0, ms_r17_1, ms_r0_12, ms_r20_0, ms_r20_1, ms_r0_13, ms_r23_0, ms_r23_1, ms_r0_14, ms_r0_15, ms_r0_16, ms_r0_17, ms_r0_18, ms_r0_23, ms_r0_24, ms_r0_25, ms_r0_26, ms_r0_30, ms_r0_31, ms_r0_32, ms_r0_35, ms_r0_36, ms_r0_39, ms_r0_40, ms_r0_41, ms_r0_42, ms_r0_43, ms_r0_47, M.1, m_placesA hn M, e3]) n (by omega)
  refine key.trans ?_
  unfold unS
  cases findS (fun k => !decide (k = p) && abS S k p) S.np 0 <;> rfl
def peaceS (S : St) : Int32 := selS (findS (unS S) S.np 0) nI (-1)
theorem x_peace {n : Nat} {K : Nat → Nat} {x : Nat} {h : AH} {ev ep b : Nat} {Ev Ep : Nat → Nat} {S : St} (hn : 20000 < n) (X : XA K x h ev Ev ep Ep b S) : F_X0_peace n K x h = some (peaceS S, h) := by
  have h20 := xnp hn X
  have key := loopG (fun f i => F_X0_peace_L2 n K x f i h) S.np (unS S) (fun k => some (nI k, h)) (some (-1, h))
    (by
      intro f k hk
      have e3 : (nI S.np ≤ nI k) = False := eq_false (nI_ge hk (by omega))
      simp only [F_X0_peace_L2, chk_true, bnd_some, ob_some, oc_some, oc_none, hl_eq, jn_eq, ix_0, ix_1, if_true, if_false, inb0_2, inb1_2, not_true_eq_false, not_false_eq_true, ite_true, ite_false, true_or, or_true, or_self, zero_eq_one_I, one_eq_zero_I, xs_k0, xs_k1, xs_n1, xs_k2, xs_k3, xs_k4, xs_k5, xs_k6, xs_k7, xs_k8, xs_k9, xs_k10, xs_k11, xs_n11, xs_k12, xs_n12, xs_k13, xs_n13, xs_k14, xs_n14, xs_k15, xs_n15, xs_k16, xs_n16, xs_k17, xs_n17, xs_k18, xs_n18, xs_k27, xs_n27, xs_k28, xs_n28, xs_r0_0, xs_r0_1, xs_r2_8, xs_r2_9, xs_r0_2, xs_r0_3, xs_r0_4, xs_r0_8, xs_r0_9, xs_r0_10, xs_r0_18, xs_r0_19, xs_r0_20, xs_r0_21, xs_r0_22, xs_r0_25, xs_r0_26, xs_r0_27, xs_r0_28, X.1, x_psize hn X, e3, x_isUnbeaten hn X hk, nI_1, bI_0]
      cases hb : unS S k <;> simp)
    (by
      intro f
      have e3 : (nI S.np ≤ nI S.np) = True := eq_true (nI_le (Nat.le_refl _) (by omega))
      simp only [F_X0_peace_L2, chk_true, bnd_some, ob_some, oc_some, oc_none, hl_eq, jn_eq, ix_0, ix_1, if_true, if_false, inb0_2, inb1_2, not_true_eq_false, not_false_eq_true, ite_true, ite_false, true_or, or_true, or_self, zero_eq_one_I, one_eq_zero_I, xs_k0, xs_k1, xs_n1, xs_k2, xs_k3, xs_k4, xs_k5, xs_k6, xs_k7, xs_k8, xs_k9, xs_k10, xs_k11, xs_n11, xs_k12, xs_n12, xs_k13, xs_n13, xs_k14, xs_n14, xs_k15, xs_n15, xs_k16, xs_n16, xs_k17, xs_n17, xs_k18, xs_n18, xs_k27, xs_n27, xs_k28, xs_n28, xs_r0_0, xs_r0_1, xs_r2_8, xs_r2_9, xs_r0_2, xs_r0_3, xs_r0_4, xs_r0_8, xs_r0_9, xs_r0_10, xs_r0_18, xs_r0_19, xs_r0_20, xs_r0_21, xs_r0_22, xs_r0_25, xs_r0_26, xs_r0_27, xs_r0_28, X.1, x_psize hn X, e3]) n (by omega)
  refine key.trans ?_
  unfold peaceS
  cases findS (unS S) S.np 0 <;> rfl
theorem m_peace {n : Nat} {K : Nat → Nat} {m : Nat} {h : AH} {S : St} (hn : 20000 < n) (M : MA m h S) : F_X3_peace n K m h = some (peaceS S, h) := by
  have h20 := mnp hn M
  have key := loopG (fun f i => F_X3_peace_L2 n K m f i h) S.np (unS S) (fun k => some (nI k, h)) (some (-1, h))
    (by
      intro f k hk
      have e3 : (nI S.np ≤ nI k) = False := eq_false (nI_ge hk (by omega))
      simp only [F_X3_peace_L2, chk_true, bnd_some, ob_some, oc_some, oc_none, hl_eq, jn_eq, ix_0, ix_1, if_true, if_false, inb0_2, inb1_2, not_true_eq_false, not_false_eq_true, ite_true, ite_false, true_or, or_true, or_self, zero_eq_one_I, one_eq_zero_I, ms_k0, ms_k1, ms_n1, ms_k2, ms_n2, ms_k3, ms_n3, ms_k4, ms_n4, ms_k5, ms_n5, ms_k6, ms_n6, ms_k7, ms_n7, ms_k8, ms_n8, ms_k9, ms_n9, ms_k10, ms_n10, ms_k11, ms_n11, ms_k12, ms_n12, ms_k13, ms_n13, ms_k14, ms_n14, ms_k15, ms_n15, ms_k16, ms_n16, ms_k17, ms_n17, ms_k18, ms_n18, ms_k19, ms_n19, ms_k20, ms_n20, ms_k21, ms_n21, ms_k22, ms_n22, ms_k23, ms_n23, ms_k24, ms_n24, ms_k25, ms_n25, ms_k26, ms_n26, ms_k27, ms_n27, ms_k28, ms_n28, ms_k29, ms_n29, ms_k30, ms_n30, ms_k31, ms_n31, ms_k32, ms_n32, ms_k33, ms_n33, ms_k34, ms_n34, ms_k35, ms_n35, ms_k36, ms_n36, ms_k37, ms_n37, ms_k38, ms_n38, ms_k39, ms_n39, ms_k40, ms_n40, ms_k41, ms_n41, ms_k50, ms_n50, ms_k51, ms_n51, ms_k52, ms_n52, ms_k53, ms_n53, ms_r0_0, ms_r0_6, ms_r2_0, ms_r2_1, ms_r0_7, ms_r5_0, ms_r5_1, ms_r0_8, ms_r8_0, ms_r8_1, ms_r0_9, ms_r11_0, ms_r11_1, ms_r0_10, ms_r14_0, ms_r14_1, ms_r0_11, ms_r17_0, ms_r17_1, ms_r0_12, ms_r20_0, ms_r20_1, ms_r0_13, ms_r23_0, ms_r23_1, ms_r0_14, ms_r0_15, ms_r0_16, ms_r0_17, ms_r0_18, ms_r0_23, ms_r0_24, ms_r0_25, ms_r0_26, ms_r0_30, ms_r0_31, ms_r0_32, ms_r0_35, ms_r0_36, ms_r0_39, ms_r0_40, ms_r0_41, ms_r0_42, ms_r0_43, ms_r0_47, M.1, m_placesA hn M, e3, m_isUnbeaten hn M hk, nI_1, bI_0]
      cases hb : unS S k <;> simp)
    (by
      intro f
      have e3 : (nI S.np ≤ nI S.np) = True := eq_true (nI_le (Nat.le_refl _) (by omega))
      simp only [F_X3_peace_L2, chk_true, bnd_some, ob_some, oc_some, oc_none, hl_eq, jn_eq, ix_0, ix_1, if_true, if_false, inb0_2, inb1_2, not_true_eq_false, not_false_eq_true, ite_true, ite_false, true_or, or_true, or_self, zero_eq_one_I, one_eq_zero_I, ms_k0, ms_k1, ms_n1, ms_k2, ms_n2, ms_k3, ms_n3, ms_k4, ms_n4, ms_k5, ms_n5, ms_k6, ms_n6, ms_k7, ms_n7, ms_k8, ms_n8, ms_k9, ms_n9, ms_k10, ms_n10, ms_k11, ms_n11, ms_k12, ms_n12, ms_k13, ms_n13, ms_k14, ms_n14, ms_k15, ms_n15, ms_k16, ms_n16, ms_k17, ms_n17, ms_k18, ms_n18, ms_k19, ms_n19, ms_k20, ms_n20, ms_k21, ms_n21, ms_k22, ms_n22, ms_k23, ms_n23, ms_k24, ms_n24, ms_k25, ms_n25, ms_k26, ms_n26, ms_k27, ms_n27, ms_k28, ms_n28, ms_k29, ms_n29, ms_k30, ms_n30, ms_k31, ms_n31, ms_k32, ms_n32, ms_k33, ms_n33, ms_k34, ms_n34, ms_k35, ms_n35, ms_k36, ms_n36, ms_k37, ms_n37, ms_k38, ms_n38, ms_k39, ms_n39, ms_k40, ms_n40, ms_k41, ms_n41, ms_k50, ms_n50, ms_k51, ms_n51, ms_k52, ms_n52, ms_k53, ms_n53, ms_r0_0, ms_r0_6, ms_r2_0, ms_r2_1, ms_r0_7, ms_r5_0, ms_r5_1, ms_r0_8, ms_r8_0, ms_r8_1, ms_r0_9, ms_r11_0, ms_r11_1, ms_r0_10, ms_r14_0, ms_r14_1, ms_r0_11, ms_r17_0, ms_r17_1, ms_r0_12, ms_r20_0, ms_r20_1, ms_r0_13, ms_r23_0, ms_r23_1, ms_r0_14, ms_r0_15, ms_r0_16, ms_r0_17, ms_r0_18, ms_r0_23, ms_r0_24, ms_r0_25, ms_r0_26, ms_r0_30, ms_r0_31, ms_r0_32, ms_r0_35, ms_r0_36, ms_r0_39, ms_r0_40, ms_r0_41, ms_r0_42, ms_r0_43, ms_r0_47, M.1, m_placesA hn M, e3]) n (by omega)
  refine key.trans ?_
  unfold peaceS
  cases findS (unS S) S.np 0 <;> rfl
def pairS (S : St) : Int32 := foldS (fun i a => foldS (fun j a => a + if abS S i j then 1 else 0) a S.np) 0 S.np
theorem x_pairMany {n : Nat} {K : Nat → Nat} {x : Nat} {h : AH} {ev ep b : Nat} {Ev Ep : Nat → Nat} {S : St} (hn : 20000 < n) (X : XA K x h ev Ev ep Ep b S) (irr : ∀ i, abS S i i = false) : F_X0_pairMany n K x h = some (pairS S, h) := by
  have h20 := xnp hn X
  have inner : ∀ i, i < S.np → ∀ a k, F_X0_pairMany_L17 n K (nI i) x n 0 a h k = k (foldS (fun j a => a + if abS S i j then 1 else 0) a S.np) h := by
    intro i hi a k
    exact loopF (fun f j (s : Int32) => F_X0_pairMany_L17 n K (nI i) x f j s h k) S.np (fun j a => a + if abS S i j then 1 else 0) (fun s => k s h) a
      (by
        intro f j s hj
        have e3 : (nI S.np ≤ nI j) = False := eq_false (nI_ge hj (by omega))
        have e4 : (nI i = nI j) = (i = j) := propext (nI_eq (by omega) (by omega))
        simp only [F_X0_pairMany_L17, chk_true, bnd_some, ob_some, oc_some, oc_none, hl_eq, jn_eq, ix_0, ix_1, if_true, if_false, inb0_2, inb1_2, not_true_eq_false, not_false_eq_true, ite_true, ite_false, true_or, or_true, or_self, zero_eq_one_I, one_eq_zero_I, xs_k0, xs_k1, xs_n1, xs_k2, xs_k3, xs_k4, xs_k5, xs_k6, xs_k7, xs_k8, xs_k9, xs_k10, xs_k11, xs_n11, xs_k12, xs_n12, xs_k13, xs_n13, xs_k14, xs_n14, xs_k15, xs_n15, xs_k16, xs_n16, xs_k17, xs_n17, xs_k18, xs_n18, xs_k27, xs_n27, xs_k28, xs_n28, xs_r0_0, xs_r0_1, xs_r2_8, xs_r2_9, xs_r0_2, xs_r0_3, xs_r0_4, xs_r0_8, xs_r0_9, xs_r0_10, xs_r0_18, xs_r0_19, xs_r0_20, xs_r0_21, xs_r0_22, xs_r0_25, xs_r0_26, xs_r0_27, xs_r0_28, X.1, x_psize hn X, e3, e4, x_pget hn X hi, x_pget hn X hj, x_pkind hn X hi, x_pkind hn X hj, x_above hn X hi hj, nI_1, bI_0]
        by_cases c : i = j
        · subst c; simp [irr]
        · cases hb : abS S i j <;> simp [c])
      (by
        intro f s
        have e3 : (nI S.np ≤ nI S.np) = True := eq_true (nI_le (Nat.le_refl _) (by omega))
        simp only [F_X0_pairMany_L17, chk_true, bnd_some, ob_some, oc_some, oc_none, hl_eq, jn_eq, ix_0, ix_1, if_true, if_false, inb0_2, inb1_2, not_true_eq_false, not_false_eq_true, ite_true, ite_false, true_or, or_true, or_self, zero_eq_one_I, one_eq_zero_I, xs_k0, xs_k1, xs_n1, xs_k2, xs_k3, xs_k4, xs_k5, xs_k6, xs_k7, xs_k8, xs_k9, xs_k10, xs_k11, xs_n11, xs_k12, xs_n12, xs_k13, xs_n13, xs_k14, xs_n14, xs_k15, xs_n15, xs_k16, xs_n16, xs_k17, xs_n17, xs_k18, xs_n18, xs_k27, xs_n27, xs_k28, xs_n28, xs_r0_0, xs_r0_1, xs_r2_8, xs_r2_9, xs_r0_2, xs_r0_3, xs_r0_4, xs_r0_8, xs_r0_9, xs_r0_10, xs_r0_18, xs_r0_19, xs_r0_20, xs_r0_21, xs_r0_22, xs_r0_25, xs_r0_26, xs_r0_27, xs_r0_28, X.1, x_psize hn X, e3]) n (by omega)
  exact loopF (fun f i (s : Int32) => F_X0_pairMany_L4 n K x f i s h) S.np (fun i a => foldS (fun j a => a + if abS S i j then 1 else 0) a S.np) (fun s => some (s, h)) 0
    (by
      intro f k s hk
      have e3 : (nI S.np ≤ nI k) = False := eq_false (nI_ge hk (by omega))
      simp only [F_X0_pairMany_L4, chk_true, bnd_some, ob_some, oc_some, oc_none, hl_eq, jn_eq, ix_0, ix_1, if_true, if_false, inb0_2, inb1_2, not_true_eq_false, not_false_eq_true, ite_true, ite_false, true_or, or_true, or_self, zero_eq_one_I, one_eq_zero_I, xs_k0, xs_k1, xs_n1, xs_k2, xs_k3, xs_k4, xs_k5, xs_k6, xs_k7, xs_k8, xs_k9, xs_k10, xs_k11, xs_n11, xs_k12, xs_n12, xs_k13, xs_n13, xs_k14, xs_n14, xs_k15, xs_n15, xs_k16, xs_n16, xs_k17, xs_n17, xs_k18, xs_n18, xs_k27, xs_n27, xs_k28, xs_n28, xs_r0_0, xs_r0_1, xs_r2_8, xs_r2_9, xs_r0_2, xs_r0_3, xs_r0_4, xs_r0_8, xs_r0_9, xs_r0_10, xs_r0_18, xs_r0_19, xs_r0_20, xs_r0_21, xs_r0_22, xs_r0_25, xs_r0_26, xs_r0_27, xs_r0_28, X.1, x_psize hn X, e3, inner k hk, nI_1])
    (by
      intro f s
      have e3 : (nI S.np ≤ nI S.np) = True := eq_true (nI_le (Nat.le_refl _) (by omega))
      simp only [F_X0_pairMany_L4, chk_true, bnd_some, ob_some, oc_some, oc_none, hl_eq, jn_eq, ix_0, ix_1, if_true, if_false, inb0_2, inb1_2, not_true_eq_false, not_false_eq_true, ite_true, ite_false, true_or, or_true, or_self, zero_eq_one_I, one_eq_zero_I, xs_k0, xs_k1, xs_n1, xs_k2, xs_k3, xs_k4, xs_k5, xs_k6, xs_k7, xs_k8, xs_k9, xs_k10, xs_k11, xs_n11, xs_k12, xs_n12, xs_k13, xs_n13, xs_k14, xs_n14, xs_k15, xs_n15, xs_k16, xs_n16, xs_k17, xs_n17, xs_k18, xs_n18, xs_k27, xs_n27, xs_k28, xs_n28, xs_r0_0, xs_r0_1, xs_r2_8, xs_r2_9, xs_r0_2, xs_r0_3, xs_r0_4, xs_r0_8, xs_r0_9, xs_r0_10, xs_r0_18, xs_r0_19, xs_r0_20, xs_r0_21, xs_r0_22, xs_r0_25, xs_r0_26, xs_r0_27, xs_r0_28, X.1, x_psize hn X, e3]) n (by omega)
theorem m_pairs {n : Nat} {K : Nat → Nat} {m : Nat} {h : AH} {S : St} (hn : 20000 < n) (M : MA m h S) : F_X3_pairs n K m h = some (pairS S, h) := by
  have h20 := mnp hn M
  have inner : ∀ i, i < S.np → ∀ a k, F_X3_pairs_L14 n K (nI i) m n 0 a h k = k (foldS (fun j a => a + if abS S i j then 1 else 0) a S.np) h := by
    intro i hi a k
    exact loopF (fun f j (s : Int32) => F_X3_pairs_L14 n K (nI i) m f j s h k) S.np (fun j a => a + if abS S i j then 1 else 0) (fun s => k s h) a
      (by
        intro f j s hj
        have e3 : (nI S.np ≤ nI j) = False := eq_false (nI_ge hj (by omega))
        simp only [F_X3_pairs_L14, chk_true, bnd_some, ob_some, oc_some, oc_none, hl_eq, jn_eq, ix_0, ix_1, if_true, if_false, inb0_2, inb1_2, not_true_eq_false, not_false_eq_true, ite_true, ite_false, true_or, or_true, or_self, zero_eq_one_I, one_eq_zero_I, ms_k0, ms_k1, ms_n1, ms_k2, ms_n2, ms_k3, ms_n3, ms_k4, ms_n4, ms_k5, ms_n5, ms_k6, ms_n6, ms_k7, ms_n7, ms_k8, ms_n8, ms_k9, ms_n9, ms_k10, ms_n10, ms_k11, ms_n11, ms_k12, ms_n12, ms_k13, ms_n13, ms_k14, ms_n14, ms_k15, ms_n15, ms_k16, ms_n16, ms_k17, ms_n17, ms_k18, ms_n18, ms_k19, ms_n19, ms_k20, ms_n20, ms_k21, ms_n21, ms_k22, ms_n22, ms_k23, ms_n23, ms_k24, ms_n24, ms_k25, ms_n25, ms_k26, ms_n26, ms_k27, ms_n27, ms_k28, ms_n28, ms_k29, ms_n29, ms_k30, ms_n30, ms_k31, ms_n31, ms_k32, ms_n32, ms_k33, ms_n33, ms_k34, ms_n34, ms_k35, ms_n35, ms_k36, ms_n36, ms_k37, ms_n37, ms_k38, ms_n38, ms_k39, ms_n39, ms_k40, ms_n40, ms_k41, ms_n41, ms_k50, ms_n50, ms_k51, ms_n51, ms_k52, ms_n52, ms_k53, ms_n53, ms_r0_0, ms_r0_6, ms_r2_0, ms_r2_1, ms_r0_7, ms_r5_0, ms_r5_1, ms_r0_8, ms_r8_0, ms_r8_1, ms_r0_9, ms_r11_0, ms_r11_1, ms_r0_10, ms_r14_0, ms_r14_1, ms_r0_11, ms_r17_0, ms_r17_1, ms_r0_12, ms_r20_0, ms_r20_1, ms_r0_13, ms_r23_0, ms_r23_1, ms_r0_14, ms_r0_15, ms_r0_16, ms_r0_17, ms_r0_18, ms_r0_23, ms_r0_24, ms_r0_25, ms_r0_26, ms_r0_30, ms_r0_31, ms_r0_32, ms_r0_35, ms_r0_36, ms_r0_39, ms_r0_40, ms_r0_41, ms_r0_42, ms_r0_43, ms_r0_47, M.1, m_placesA hn M, e3, m_beatsOf hn M hi hj, nI_1, bI_0]
        cases hb : abS S i j <;> simp)
      (by
        intro f s
        have e3 : (nI S.np ≤ nI S.np) = True := eq_true (nI_le (Nat.le_refl _) (by omega))
        simp only [F_X3_pairs_L14, chk_true, bnd_some, ob_some, oc_some, oc_none, hl_eq, jn_eq, ix_0, ix_1, if_true, if_false, inb0_2, inb1_2, not_true_eq_false, not_false_eq_true, ite_true, ite_false, true_or, or_true, or_self, zero_eq_one_I, one_eq_zero_I, ms_k0, ms_k1, ms_n1, ms_k2, ms_n2, ms_k3, ms_n3, ms_k4, ms_n4, ms_k5, ms_n5, ms_k6, ms_n6, ms_k7, ms_n7, ms_k8, ms_n8, ms_k9, ms_n9, ms_k10, ms_n10, ms_k11, ms_n11, ms_k12, ms_n12, ms_k13, ms_n13, ms_k14, ms_n14, ms_k15, ms_n15, ms_k16, ms_n16, ms_k17, ms_n17, ms_k18, ms_n18, ms_k19, ms_n19, ms_k20, ms_n20, ms_k21, ms_n21, ms_k22, ms_n22, ms_k23, ms_n23, ms_k24, ms_n24, ms_k25, ms_n25, ms_k26, ms_n26, ms_k27, ms_n27, ms_k28, ms_n28, ms_k29, ms_n29, ms_k30, ms_n30, ms_k31, ms_n31, ms_k32, ms_n32, ms_k33, ms_n33, ms_k34, ms_n34, ms_k35, ms_n35, ms_k36, ms_n36, ms_k37, ms_n37, ms_k38, ms_n38, ms_k39, ms_n39, ms_k40, ms_n40, ms_k41, ms_n41, ms_k50, ms_n50, ms_k51, ms_n51, ms_k52, ms_n52, ms_k53, ms_n53, ms_r0_0, ms_r0_6, ms_r2_0, ms_r2_1, ms_r0_7, ms_r5_0, ms_r5_1, ms_r0_8, ms_r8_0, ms_r8_1, ms_r0_9, ms_r11_0, ms_r11_1, ms_r0_10, ms_r14_0, ms_r14_1, ms_r0_11, ms_r17_0, ms_r17_1, ms_r0_12, ms_r20_0, ms_r20_1, ms_r0_13, ms_r23_0, ms_r23_1, ms_r0_14, ms_r0_15, ms_r0_16, ms_r0_17, ms_r0_18, ms_r0_23, ms_r0_24, ms_r0_25, ms_r0_26, ms_r0_30, ms_r0_31, ms_r0_32, ms_r0_35, ms_r0_36, ms_r0_39, ms_r0_40, ms_r0_41, ms_r0_42, ms_r0_43, ms_r0_47, M.1, m_placesA hn M, e3]) n (by omega)
  exact loopF (fun f i (s : Int32) => F_X3_pairs_L4 n K m f i s h) S.np (fun i a => foldS (fun j a => a + if abS S i j then 1 else 0) a S.np) (fun s => some (s, h)) 0
    (by
      intro f k s hk
      have e3 : (nI S.np ≤ nI k) = False := eq_false (nI_ge hk (by omega))
      simp only [F_X3_pairs_L4, chk_true, bnd_some, ob_some, oc_some, oc_none, hl_eq, jn_eq, ix_0, ix_1, if_true, if_false, inb0_2, inb1_2, not_true_eq_false, not_false_eq_true, ite_true, ite_false, true_or, or_true, or_self, zero_eq_one_I, one_eq_zero_I, ms_k0, ms_k1, ms_n1, ms_k2, ms_n2, ms_k3, ms_n3, ms_k4, ms_n4, ms_k5, ms_n5, ms_k6, ms_n6, ms_k7, ms_n7, ms_k8, ms_n8, ms_k9, ms_n9, ms_k10, ms_n10, ms_k11, ms_n11, ms_k12, ms_n12, ms_k13, ms_n13, ms_k14, ms_n14, ms_k15, ms_n15, ms_k16, ms_n16, ms_k17, ms_n17, ms_k18, ms_n18, ms_k19, ms_n19, ms_k20, ms_n20, ms_k21, ms_n21, ms_k22, ms_n22, ms_k23, ms_n23, ms_k24, ms_n24, ms_k25, ms_n25, ms_k26, ms_n26, ms_k27, ms_n27, ms_k28, ms_n28, ms_k29, ms_n29, ms_k30, ms_n30, ms_k31, ms_n31, ms_k32, ms_n32, ms_k33, ms_n33, ms_k34, ms_n34, ms_k35, ms_n35, ms_k36, ms_n36, ms_k37, ms_n37, ms_k38, ms_n38, ms_k39, ms_n39, ms_k40, ms_n40, ms_k41, ms_n41, ms_k50, ms_n50, ms_k51, ms_n51, ms_k52, ms_n52, ms_k53, ms_n53, ms_r0_0, ms_r0_6, ms_r2_0, ms_r2_1, ms_r0_7, ms_r5_0, ms_r5_1, ms_r0_8, ms_r8_0, ms_r8_1, ms_r0_9, ms_r11_0, ms_r11_1, ms_r0_10, ms_r14_0, ms_r14_1, ms_r0_11, ms_r17_0, ms_r17_1, ms_r0_12, ms_r20_0, ms_r20_1, ms_r0_13, ms_r23_0, ms_r23_1, ms_r0_14, ms_r0_15, ms_r0_16, ms_r0_17, ms_r0_18, ms_r0_23, ms_r0_24, ms_r0_25, ms_r0_26, ms_r0_30, ms_r0_31, ms_r0_32, ms_r0_35, ms_r0_36, ms_r0_39, ms_r0_40, ms_r0_41, ms_r0_42, ms_r0_43, ms_r0_47, M.1, m_placesA hn M, e3, inner k hk, nI_1])
    (by
      intro f s
      have e3 : (nI S.np ≤ nI S.np) = True := eq_true (nI_le (Nat.le_refl _) (by omega))
      simp only [F_X3_pairs_L4, chk_true, bnd_some, ob_some, oc_some, oc_none, hl_eq, jn_eq, ix_0, ix_1, if_true, if_false, inb0_2, inb1_2, not_true_eq_false, not_false_eq_true, ite_true, ite_false, true_or, or_true, or_self, zero_eq_one_I, one_eq_zero_I, ms_k0, ms_k1, ms_n1, ms_k2, ms_n2, ms_k3, ms_n3, ms_k4, ms_n4, ms_k5, ms_n5, ms_k6, ms_n6, ms_k7, ms_n7, ms_k8, ms_n8, ms_k9, ms_n9, ms_k10, ms_n10, ms_k11, ms_n11, ms_k12, ms_n12, ms_k13, ms_n13, ms_k14, ms_n14, ms_k15, ms_n15, ms_k16, ms_n16, ms_k17, ms_n17, ms_k18, ms_n18, ms_k19, ms_n19, ms_k20, ms_n20, ms_k21, ms_n21, ms_k22, ms_n22, ms_k23, ms_n23, ms_k24, ms_n24, ms_k25, ms_n25, ms_k26, ms_n26, ms_k27, ms_n27, ms_k28, ms_n28, ms_k29, ms_n29, ms_k30, ms_n30, ms_k31, ms_n31, ms_k32, ms_n32, ms_k33, ms_n33, ms_k34, ms_n34, ms_k35, ms_n35, ms_k36, ms_n36, ms_k37, ms_n37, ms_k38, ms_n38, ms_k39, ms_n39, ms_k40, ms_n40, ms_k41, ms_n41, ms_k50, ms_n50, ms_k51, ms_n51, ms_k52, ms_n52, ms_k53, ms_n53, ms_r0_0, ms_r0_6, ms_r2_0, ms_r2_1, ms_r0_7, ms_r5_0, ms_r5_1, ms_r0_8, ms_r8_0, ms_r8_1, ms_r0_9, ms_r11_0, ms_r11_1, ms_r0_10, ms_r14_0, ms_r14_1, ms_r0_11, ms_r17_0, ms_r17_1, ms_r0_12, ms_r20_0, ms_r20_1, ms_r0_13, ms_r23_0, ms_r23_1, ms_r0_14, ms_r0_15, ms_r0_16, ms_r0_17, ms_r0_18, ms_r0_23, ms_r0_24, ms_r0_25, ms_r0_26, ms_r0_30, ms_r0_31, ms_r0_32, ms_r0_35, ms_r0_36, ms_r0_39, ms_r0_40, ms_r0_41, ms_r0_42, ms_r0_43, ms_r0_47, M.1, m_placesA hn M, e3]) n (by omega)
def covS (S : St) (p q : Nat) : Bool := abS S p q && (findS (fun r => abS S r p && !abS S r q) S.np 0).isNone
theorem x_covers {n : Nat} {K : Nat → Nat} {x : Nat} {h : AH} {ev ep b : Nat} {Ev Ep : Nat → Nat} {S : St} (hn : 20000 < n) (X : XA K x h ev Ev ep Ep b S) {p q : Nat} (hp : p < S.np) (hq : q < S.np) : F_X0_covers n K x (some (Ep p)) (some (Ep q)) h = some (bI (covS S p q), h) := by
  have h20 := xnp hn X
  have key := loopG (fun f i => F_X0_covers_L13 n K x (some (Ep p)) (some (Ep q)) f i h) S.np (fun r => abS S r p && !abS S r q) (fun _ => some (0, h)) (some (1, h))
    (by
      intro f k hk
      have e3 : (nI S.np ≤ nI k) = False := eq_false (nI_ge hk (by omega))
      simp only [F_X0_covers_L13, chk_true, bnd_some, ob_some, oc_some, oc_none, hl_eq, jn_eq, ix_0, ix_1, if_true, if_false, inb0_2, inb1_2, not_true_eq_false, not_false_eq_true, ite_true, ite_false, true_or, or_true, or_self, zero_eq_one_I, one_eq_zero_I, xs_k0, xs_k1, xs_n1, xs_k2, xs_k3, xs_k4, xs_k5, xs_k6, xs_k7, xs_k8, xs_k9, xs_k10, xs_k11, xs_n11, xs_k12, xs_n12, xs_k13, xs_n13, xs_k14, xs_n14, xs_k15, xs_n15, xs_k16, xs_n16, xs_k17, xs_n17, xs_k18, xs_n18, xs_k27, xs_n27, xs_k28, xs_n28, xs_r0_0, xs_r0_1, xs_r2_8, xs_r2_9, xs_r0_2, xs_r0_3, xs_r0_4, xs_r0_8, xs_r0_9, xs_r0_10, xs_r0_18, xs_r0_19, xs_r0_20, xs_r0_21, xs_r0_22, xs_r0_25, xs_r0_26, xs_r0_27, xs_r0_28, X.1, x_psize hn X, e3, x_pget hn X hk, x_pkind hn X hk, x_above hn X hk hp, x_above hn X hk hq, nI_1, bI_0]
      cases hb : abS S k p <;> cases hc : abS S k q <;> simp)
    (by
      intro f
      have e3 : (nI S.np ≤ nI S.np) = True := eq_true (nI_le (Nat.le_refl _) (by omega))
      simp only [F_X0_covers_L13, chk_true, bnd_some, ob_some, oc_some, oc_none, hl_eq, jn_eq, ix_0, ix_1, if_true, if_false, inb0_2, inb1_2, not_true_eq_false, not_false_eq_true, ite_true, ite_false, true_or, or_true, or_self, zero_eq_one_I, one_eq_zero_I, xs_k0, xs_k1, xs_n1, xs_k2, xs_k3, xs_k4, xs_k5, xs_k6, xs_k7, xs_k8, xs_k9, xs_k10, xs_k11, xs_n11, xs_k12, xs_n12, xs_k13, xs_n13, xs_k14, xs_n14, xs_k15, xs_n15, xs_k16, xs_n16, xs_k17, xs_n17, xs_k18, xs_n18, xs_k27, xs_n27, xs_k28, xs_n28, xs_r0_0, xs_r0_1, xs_r2_8, xs_r2_9, xs_r0_2, xs_r0_3, xs_r0_4, xs_r0_8, xs_r0_9, xs_r0_10, xs_r0_18, xs_r0_19, xs_r0_20, xs_r0_21, xs_r0_22, xs_r0_25, xs_r0_26, xs_r0_27, xs_r0_28, X.1, x_psize hn X, e3]) n (by omega)
  simp only [F_X0_covers, chk_true, bnd_some, ob_some, oc_some, oc_none, hl_eq, jn_eq, ix_0, ix_1, if_true, if_false, inb0_2, inb1_2, not_true_eq_false, not_false_eq_true, ite_true, ite_false, true_or, or_true, or_self, zero_eq_one_I, one_eq_zero_I, xs_k0, xs_k1, xs_n1, xs_k2, xs_k3, xs_k4, xs_k5, xs_k6, xs_k7, xs_k8, xs_k9, xs_k10, xs_k11, xs_n11, xs_k12, xs_n12, xs_k13, xs_n13, xs_k14, xs_n14, xs_k15, xs_n15, xs_k16, xs_n16, xs_k17, xs_n17, xs_k18, xs_n18, xs_k27, xs_n27, xs_k28, xs_n28, xs_r0_0, xs_r0_1, xs_r2_8, xs_r2_9, xs_r0_2, xs_r0_3, xs_r0_4, xs_r0_8, xs_r0_9, xs_r0_10, xs_r0_18, xs_r0_19, xs_r0_20, xs_r0_21, xs_r0_22, xs_r0_25, xs_r0_26, xs_r0_27, xs_r0_28, X.1, x_above hn X hp hq, bI_0, covS]
  cases abS S p q
  · simp [bI]
  · simp only [Bool.true_eq_false, chk_true, bnd_some, ob_some, oc_some, oc_none, hl_eq, jn_eq, ix_0, ix_1, if_true, if_false, inb0_2, inb1_2, not_true_eq_false, not_false_eq_true, ite_true, ite_false, true_or, or_true, or_self, zero_eq_one_I, one_eq_zero_I, Bool.true_and]
    refine key.trans ?_
    cases findS (fun r => abS S r p && !abS S r q) S.np 0 <;> rfl
theorem m_covers {n : Nat} {K : Nat → Nat} {m : Nat} {h : AH} {S : St} (hn : 20000 < n) (M : MA m h S) {p q : Nat} (hp : p < S.np) (hq : q < S.np) : F_X3_covers n K m (nI p) (nI q) h = some (bI (covS S p q), h) := by
  have h20 := mnp hn M
  have key := loopG (fun f i => F_X3_covers_L13 n K m (nI p) (nI q) f i h) S.np (fun r => abS S r p && !abS S r q) (fun _ => some (0, h)) (some (1, h))
    (by
      intro f k hk
      have e3 : (nI S.np ≤ nI k) = False := eq_false (nI_ge hk (by omega))
      simp only [F_X3_covers_L13, chk_true, bnd_some, ob_some, oc_some, oc_none, hl_eq, jn_eq, ix_0, ix_1, if_true, if_false, inb0_2, inb1_2, not_true_eq_false, not_false_eq_true, ite_true, ite_false, true_or, or_true, or_self, zero_eq_one_I, one_eq_zero_I, ms_k0, ms_k1, ms_n1, ms_k2, ms_n2, ms_k3, ms_n3, ms_k4, ms_n4, ms_k5, ms_n5, ms_k6, ms_n6, ms_k7, ms_n7, ms_k8, ms_n8, ms_k9, ms_n9, ms_k10, ms_n10, ms_k11, ms_n11, ms_k12, ms_n12, ms_k13, ms_n13, ms_k14, ms_n14, ms_k15, ms_n15, ms_k16, ms_n16, ms_k17, ms_n17, ms_k18, ms_n18, ms_k19, ms_n19, ms_k20, ms_n20, ms_k21, ms_n21, ms_k22, ms_n22, ms_k23, ms_n23, ms_k24, ms_n24, ms_k25, ms_n25, ms_k26, ms_n26, ms_k27, ms_n27, ms_k28, ms_n28, ms_k29, ms_n29, ms_k30, ms_n30, ms_k31, ms_n31, ms_k32, ms_n32, ms_k33, ms_n33, ms_k34, ms_n34, ms_k35, ms_n35, ms_k36, ms_n36, ms_k37, ms_n37, ms_k38, ms_n38, ms_k39, ms_n39, ms_k40, ms_n40, ms_k41, ms_n41, ms_k50, ms_n50, ms_k51, ms_n51, ms_k52, ms_n52, ms_k53, ms_n53, ms_r0_0, ms_r0_6, ms_r2_0, ms_r2_1, ms_r0_7, ms_r5_0, ms_r5_1, ms_r0_8, ms_r8_0, ms_r8_1, ms_r0_9, ms_r11_0, ms_r11_1, ms_r0_10, ms_r14_0, ms_r14_1, ms_r0_11, ms_r17_0, ms_r17_1, ms_r0_12, ms_r20_0, ms_r20_1, ms_r0_13, ms_r23_0, ms_r23_1, ms_r0_14, ms_r0_15, ms_r0_16, ms_r0_17, ms_r0_18, ms_r0_23, ms_r0_24, ms_r0_25, ms_r0_26, ms_r0_30, ms_r0_31, ms_r0_32, ms_r0_35, ms_r0_36, ms_r0_39, ms_r0_40, ms_r0_41, ms_r0_42, ms_r0_43, ms_r0_47, M.1, m_placesA hn M, e3, m_beatsOf hn M hk hp, m_beatsOf hn M hk hq, nI_1, bI_0]
      cases hb : abS S k p <;> cases hc : abS S k q <;> simp)
    (by
      intro f
      have e3 : (nI S.np ≤ nI S.np) = True := eq_true (nI_le (Nat.le_refl _) (by omega))
      simp only [F_X3_covers_L13, chk_true, bnd_some, ob_some, oc_some, oc_none, hl_eq, jn_eq, ix_0, ix_1, if_true, if_false, inb0_2, inb1_2, not_true_eq_false, not_false_eq_true, ite_true, ite_false, true_or, or_true, or_self, zero_eq_one_I, one_eq_zero_I, ms_k0, ms_k1, ms_n1, ms_k2, ms_n2, ms_k3, ms_n3, ms_k4, ms_n4, ms_k5, ms_n5, ms_k6, ms_n6, ms_k7, ms_n7, ms_k8, ms_n8, ms_k9, ms_n9, ms_k10, ms_n10, ms_k11, ms_n11, ms_k12, ms_n12, ms_k13, ms_n13, ms_k14, ms_n14, ms_k15, ms_n15, ms_k16, ms_n16, ms_k17, ms_n17, ms_k18, ms_n18, ms_k19, ms_n19, ms_k20, ms_n20, ms_k21, ms_n21, ms_k22, ms_n22, ms_k23, ms_n23, ms_k24, ms_n24, ms_k25, ms_n25, ms_k26, ms_n26, ms_k27, ms_n27, ms_k28, ms_n28, ms_k29, ms_n29, ms_k30, ms_n30, ms_k31, ms_n31, ms_k32, ms_n32, ms_k33, ms_n33, ms_k34, ms_n34, ms_k35, ms_n35, ms_k36, ms_n36, ms_k37, ms_n37, ms_k38, ms_n38, ms_k39, ms_n39, ms_k40, ms_n40, ms_k41, ms_n41, ms_k50, ms_n50, ms_k51, ms_n51, ms_k52, ms_n52, ms_k53, ms_n53, ms_r0_0, ms_r0_6, ms_r2_0, ms_r2_1, ms_r0_7, ms_r5_0, ms_r5_1, ms_r0_8, ms_r8_0, ms_r8_1, ms_r0_9, ms_r11_0, ms_r11_1, ms_r0_10, ms_r14_0, ms_r14_1, ms_r0_11, ms_r17_0, ms_r17_1, ms_r0_12, ms_r20_0, ms_r20_1, ms_r0_13, ms_r23_0, ms_r23_1, ms_r0_14, ms_r0_15, ms_r0_16, ms_r0_17, ms_r0_18, ms_r0_23, ms_r0_24, ms_r0_25, ms_r0_26, ms_r0_30, ms_r0_31, ms_r0_32, ms_r0_35, ms_r0_36, ms_r0_39, ms_r0_40, ms_r0_41, ms_r0_42, ms_r0_43, ms_r0_47, M.1, m_placesA hn M, e3]) n (by omega)
  simp only [F_X3_covers, chk_true, bnd_some, ob_some, oc_some, oc_none, hl_eq, jn_eq, ix_0, ix_1, if_true, if_false, inb0_2, inb1_2, not_true_eq_false, not_false_eq_true, ite_true, ite_false, true_or, or_true, or_self, zero_eq_one_I, one_eq_zero_I, ms_k0, ms_k1, ms_n1, ms_k2, ms_n2, ms_k3, ms_n3, ms_k4, ms_n4, ms_k5, ms_n5, ms_k6, ms_n6, ms_k7, ms_n7, ms_k8, ms_n8, ms_k9, ms_n9, ms_k10, ms_n10, ms_k11, ms_n11, ms_k12, ms_n12, ms_k13, ms_n13, ms_k14, ms_n14, ms_k15, ms_n15, ms_k16, ms_n16, ms_k17, ms_n17, ms_k18, ms_n18, ms_k19, ms_n19, ms_k20, ms_n20, ms_k21, ms_n21, ms_k22, ms_n22, ms_k23, ms_n23, ms_k24, ms_n24, ms_k25, ms_n25, ms_k26, ms_n26, ms_k27, ms_n27, ms_k28, ms_n28, ms_k29, ms_n29, ms_k30, ms_n30, ms_k31, ms_n31, ms_k32, ms_n32, ms_k33, ms_n33, ms_k34, ms_n34, ms_k35, ms_n35, ms_k36, ms_n36, ms_k37, ms_n37, ms_k38, ms_n38, ms_k39, ms_n39, ms_k40, ms_n40, ms_k41, ms_n41, ms_k50, ms_n50, ms_k51, ms_n51, ms_k52, ms_n52, ms_k53, ms_n53, ms_r0_0, ms_r0_6, ms_r2_0, ms_r2_1, ms_r0_7, ms_r5_0, ms_r5_1, ms_r0_8, ms_r8_0, ms_r8_1, ms_r0_9, ms_r11_0, ms_r11_1, ms_r0_10, ms_r14_0, ms_r14_1, ms_r0_11, ms_r17_0, ms_r17_1, ms_r0_12, ms_r20_0, ms_r20_1, ms_r0_13, ms_r23_0, ms_r23_1, ms_r0_14, ms_r0_15, ms_r0_16, ms_r0_17, ms_r0_18, ms_r0_23, ms_r0_24, ms_r0_25, ms_r0_26, ms_r0_30, ms_r0_31, ms_r0_32, ms_r0_35, ms_r0_36, ms_r0_39, ms_r0_40, ms_r0_41, ms_r0_42, ms_r0_43, ms_r0_47, M.1, m_beatsOf hn M hp hq, bI_0, covS]
  cases abS S p q
  · simp [bI]
  · simp only [Bool.true_eq_false, chk_true, bnd_some, ob_some, oc_some, oc_none, hl_eq, jn_eq, ix_0, ix_1, if_true, if_false, inb0_2, inb1_2, not_true_eq_false, not_false_eq_true, ite_true, ite_false, true_or, or_true, or_self, zero_eq_one_I, one_eq_zero_I, Bool.true_and]
    refine key.trans ?_
    cases findS (fun r => abS S r p && !abS S r q) S.np 0 <;> rfl
def openS (S : St) (q : Nat) : Bool := (findS (fun p => covS S p q) S.np 0).isNone
theorem x_isOpen {n : Nat} {K : Nat → Nat} {x : Nat} {h : AH} {ev ep b : Nat} {Ev Ep : Nat → Nat} {S : St} (hn : 20000 < n) (X : XA K x h ev Ev ep Ep b S) {q : Nat} (hq : q < S.np) : F_X0_isOpen n K x (nI q) h = some (bI (openS S q), h) := by
  have h20 := xnp hn X
  have key := loopG (fun f i => F_X0_isOpen_L2 n K x (nI q) f i h) S.np (fun p => covS S p q) (fun _ => some (0, h)) (some (1, h))
    (by
      intro f k hk
      have e3 : (nI S.np ≤ nI k) = False := eq_false (nI_ge hk (by omega))
      simp only [F_X0_isOpen_L2, chk_true, bnd_some, ob_some, oc_some, oc_none, hl_eq, jn_eq, ix_0, ix_1, if_true, if_false, inb0_2, inb1_2, not_true_eq_false, not_false_eq_true, ite_true, ite_false, true_or, or_true, or_self, zero_eq_one_I, one_eq_zero_I, xs_k0, xs_k1, xs_n1, xs_k2, xs_k3, xs_k4, xs_k5, xs_k6, xs_k7, xs_k8, xs_k9, xs_k10, xs_k11, xs_n11, xs_k12, xs_n12, xs_k13, xs_n13, xs_k14, xs_n14, xs_k15, xs_n15, xs_k16, xs_n16, xs_k17, xs_n17, xs_k18, xs_n18, xs_k27, xs_n27, xs_k28, xs_n28, xs_r0_0, xs_r0_1, xs_r2_8, xs_r2_9, xs_r0_2, xs_r0_3, xs_r0_4, xs_r0_8, xs_r0_9, xs_r0_10, xs_r0_18, xs_r0_19, xs_r0_20, xs_r0_21, xs_r0_22, xs_r0_25, xs_r0_26, xs_r0_27, xs_r0_28, X.1, x_psize hn X, e3, x_pget hn X hk, x_pget hn X hq, x_pkind hn X hk, x_pkind hn X hq, x_covers hn X hk hq, nI_1, bI_0]
      cases hb : covS S k q <;> simp)
    (by
      intro f
      have e3 : (nI S.np ≤ nI S.np) = True := eq_true (nI_le (Nat.le_refl _) (by omega))
      simp only [F_X0_isOpen_L2, chk_true, bnd_some, ob_some, oc_some, oc_none, hl_eq, jn_eq, ix_0, ix_1, if_true, if_false, inb0_2, inb1_2, not_true_eq_false, not_false_eq_true, ite_true, ite_false, true_or, or_true, or_self, zero_eq_one_I, one_eq_zero_I, xs_k0, xs_k1, xs_n1, xs_k2, xs_k3, xs_k4, xs_k5, xs_k6, xs_k7, xs_k8, xs_k9, xs_k10, xs_k11, xs_n11, xs_k12, xs_n12, xs_k13, xs_n13, xs_k14, xs_n14, xs_k15, xs_n15, xs_k16, xs_n16, xs_k17, xs_n17, xs_k18, xs_n18, xs_k27, xs_n27, xs_k28, xs_n28, xs_r0_0, xs_r0_1, xs_r2_8, xs_r2_9, xs_r0_2, xs_r0_3, xs_r0_4, xs_r0_8, xs_r0_9, xs_r0_10, xs_r0_18, xs_r0_19, xs_r0_20, xs_r0_21, xs_r0_22, xs_r0_25, xs_r0_26, xs_r0_27, xs_r0_28, X.1, x_psize hn X, e3]) n (by omega)
  refine key.trans ?_
  unfold openS
  cases findS (fun p => covS S p q) S.np 0 <;> rfl
theorem m_isOpen {n : Nat} {K : Nat → Nat} {m : Nat} {h : AH} {S : St} (hn : 20000 < n) (M : MA m h S) (irr : ∀ i, abS S i i = false) {q : Nat} (hq : q < S.np) : F_X3_isOpen n K m (nI q) h = some (bI (openS S q), h) := by
  have h20 := mnp hn M
  have key := loopG (fun f i => F_X3_isOpen_L2 n K m (nI q) f i h) S.np (fun p => covS S p q) (fun _ => some (0, h)) (some (1, h))
    (by
      intro f k hk
      have e3 : (nI S.np ≤ nI k) = False := eq_false (nI_ge hk (by omega))
      have e4 : (nI k = nI q) = (k = q) := propext (nI_eq (by omega) (by omega))
      simp only [F_X3_isOpen_L2, chk_true, bnd_some, ob_some, oc_some, oc_none, hl_eq, jn_eq, ix_0, ix_1, if_true, if_false, inb0_2, inb1_2, not_true_eq_false, not_false_eq_true, ite_true, ite_false, true_or, or_true, or_self, zero_eq_one_I, one_eq_zero_I, ms_k0, ms_k1, ms_n1, ms_k2, ms_n2, ms_k3, ms_n3, ms_k4, ms_n4, ms_k5, ms_n5, ms_k6, ms_n6, ms_k7, ms_n7, ms_k8, ms_n8, ms_k9, ms_n9, ms_k10, ms_n10, ms_k11, ms_n11, ms_k12, ms_n12, ms_k13, ms_n13, ms_k14, ms_n14, ms_k15, ms_n15, ms_k16, ms_n16, ms_k17, ms_n17, ms_k18, ms_n18, ms_k19, ms_n19, ms_k20, ms_n20, ms_k21, ms_n21, ms_k22, ms_n22, ms_k23, ms_n23, ms_k24, ms_n24, ms_k25, ms_n25, ms_k26, ms_n26, ms_k27, ms_n27, ms_k28, ms_n28, ms_k29, ms_n29, ms_k30, ms_n30, ms_k31, ms_n31, ms_k32, ms_n32, ms_k33, ms_n33, ms_k34, ms_n34, ms_k35, ms_n35, ms_k36, ms_n36, ms_k37, ms_n37, ms_k38, ms_n38, ms_k39, ms_n39, ms_k40, ms_n40, ms_k41, ms_n41, ms_k50, ms_n50, ms_k51, ms_n51, ms_k52, ms_n52, ms_k53, ms_n53, ms_r0_0, ms_r0_6, ms_r2_0, ms_r2_1, ms_r0_7, ms_r5_0, ms_r5_1, ms_r0_8, ms_r8_0, ms_r8_1, ms_r0_9, ms_r11_0, ms_r11_1, ms_r0_10, ms_r14_0, ms_r14_1, ms_r0_11, ms_r17_0, ms_r17_1, ms_r0_12, ms_r20_0, ms_r20_1, ms_r0_13, ms_r23_0, ms_r23_1, ms_r0_14, ms_r0_15, ms_r0_16, ms_r0_17, ms_r0_18, ms_r0_23, ms_r0_24, ms_r0_25, ms_r0_26, ms_r0_30, ms_r0_31, ms_r0_32, ms_r0_35, ms_r0_36, ms_r0_39, ms_r0_40, ms_r0_41, ms_r0_42, ms_r0_43, ms_r0_47, M.1, m_placesA hn M, e3, e4, m_covers hn M hk hq, nI_1, bI_0]
      by_cases c : k = q
      · subst c; simp [covS, irr]
      · cases hb : covS S k q <;> simp [c])
    (by
      intro f
      have e3 : (nI S.np ≤ nI S.np) = True := eq_true (nI_le (Nat.le_refl _) (by omega))
      simp only [F_X3_isOpen_L2, chk_true, bnd_some, ob_some, oc_some, oc_none, hl_eq, jn_eq, ix_0, ix_1, if_true, if_false, inb0_2, inb1_2, not_true_eq_false, not_false_eq_true, ite_true, ite_false, true_or, or_true, or_self, zero_eq_one_I, one_eq_zero_I, ms_k0, ms_k1, ms_n1, ms_k2, ms_n2, ms_k3, ms_n3, ms_k4, ms_n4, ms_k5, ms_n5, ms_k6, ms_n6, ms_k7, ms_n7, ms_k8, ms_n8, ms_k9, ms_n9, ms_k10, ms_n10, ms_k11, ms_n11, ms_k12, ms_n12, ms_k13, ms_n13, ms_k14, ms_n14, ms_k15, ms_n15, ms_k16, ms_n16, ms_k17, ms_n17, ms_k18, ms_n18, ms_k19, ms_n19, ms_k20, ms_n20, ms_k21, ms_n21, ms_k22, ms_n22, ms_k23, ms_n23, ms_k24, ms_n24, ms_k25, ms_n25, ms_k26, ms_n26, ms_k27, ms_n27, ms_k28, ms_n28, ms_k29, ms_n29, ms_k30, ms_n30, ms_k31, ms_n31, ms_k32, ms_n32, ms_k33, ms_n33, ms_k34, ms_n34, ms_k35, ms_n35, ms_k36, ms_n36, ms_k37, ms_n37, ms_k38, ms_n38, ms_k39, ms_n39, ms_k40, ms_n40, ms_k41, ms_n41, ms_k50, ms_n50, ms_k51, ms_n51, ms_k52, ms_n52, ms_k53, ms_n53, ms_r0_0, ms_r0_6, ms_r2_0, ms_r2_1, ms_r0_7, ms_r5_0, ms_r5_1, ms_r0_8, ms_r8_0, ms_r8_1, ms_r0_9, ms_r11_0, ms_r11_1, ms_r0_10, ms_r14_0, ms_r14_1, ms_r0_11, ms_r17_0, ms_r17_1, ms_r0_12, ms_r20_0, ms_r20_1, ms_r0_13, ms_r23_0, ms_r23_1, ms_r0_14, ms_r0_15, ms_r0_16, ms_r0_17, ms_r0_18, ms_r0_23, ms_r0_24, ms_r0_25, ms_r0_26, ms_r0_30, ms_r0_31, ms_r0_32, ms_r0_35, ms_r0_36, ms_r0_39, ms_r0_40, ms_r0_41, ms_r0_42, ms_r0_43, ms_r0_47, M.1, m_placesA hn M, e3]) n (by omega)
  refine key.trans ?_
  unfold openS
  cases findS (fun p => covS S p q) S.np 0 <;> rfl
