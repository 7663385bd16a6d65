/-! PURE PART SD: join() of the sheet -/
set_option maxRecDepth 100000
def jF (S : St) (p : Nat) (c : Nat → Bool) : St := ((S.1.1, fun v j => if c v = true then (if j = 0 then S.P p 0 else if j = 1 then S.P p 1 else S.1.2 v j) else S.1.2 v j), S.2)
theorem jF_put (S : St) (p : Nat) (c : Nat → Bool) (k : Nat) (d : Bool) : (jF S p c).put k (if d = true then S.P p 0 else S.V k 0) (if d = true then S.P p 1 else S.V k 1) = jF S p (up1 c k d) := by
  unfold St.put jF
  refine Prod.ext (Prod.ext rfl ?_) rfl
  funext v j
  show (if v = k then (if j = 0 then (if d = true then S.P p 0 else S.V k 0) else if j = 1 then (if d = true then S.P p 1 else S.V k 1) else (if c v = true then (if j = 0 then S.P p 0 else if j = 1 then S.P p 1 else S.1.2 v j) else S.1.2 v j)) else (if c v = true then (if j = 0 then S.P p 0 else if j = 1 then S.P p 1 else S.1.2 v j) else S.1.2 v j)) = if up1 c k d v = true then (if j = 0 then S.P p 0 else if j = 1 then S.P p 1 else S.1.2 v j) else S.1.2 v j
  unfold up1
  by_cases vk : v = k
  · subst vk
    rw [if_pos rfl, if_pos rfl]
    by_cases j0 : j = 0
    · subst j0
      cases d <;> rfl
    · by_cases j1 : j = 1
      · subst j1
        cases d <;> rfl
      · simp [j0, j1]
  · rw [if_neg vk, if_neg vk]
theorem jF_none (S : St) (p : Nat) : jF S p (fun _ => false) = S := rfl
def unJ (S : St) (p b : Nat) : Bool := unS (jF S p b.testBit) p
/-- the least of those that do, by bits, then by number -/
def isB (S : St) (p m : Nat) (o : Option Nat) : Prop := match o with
  | none => ∀ b, b < m → unJ S p b = false
  | some q => q < m ∧ unJ S p q = true ∧ ∀ b, b < m → unJ S p b = true → popN q ≤ popN b ∧ (popN b = popN q → q ≤ b)
def oI (o : Option Nat) : Int32 := selS o nI (-1)
theorem isB_0 (S : St) (p : Nat) : isB S p 0 none := fun b hb => absurd hb (Nat.not_lt_zero b)
theorem isB_yes {S : St} {p m : Nat} {o : Option Nat} (h : isB S p m o) (hm : unJ S p m = true) (hc : ∀ q, o = some q → popN m < popN q) : isB S p (m + 1) (some m) := by
  refine ⟨by omega, hm, fun b hb hu => ?_⟩
  rcases Nat.lt_or_ge b m with z | z
  · cases o with
    | none => rw [h b z] at hu; cases hu
    | some q =>
      have h1 := (h.2.2 b z hu).1
      have h2 := hc q rfl
      exact ⟨by omega, fun y => by omega⟩
  · rw [show b = m by omega]; exact ⟨Nat.le_refl _, fun _ => Nat.le_refl _⟩
theorem isB_no {S : St} {p m : Nat} {o : Option Nat} (h : isB S p m o) (hm : unJ S p m = false ∨ ∃ q, o = some q ∧ popN q ≤ popN m) : isB S p (m + 1) o := by
  cases o with
  | none =>
    intro b hb
    rcases Nat.lt_or_ge b m with z | z
    · exact h b z
    · rw [show b = m by omega]
      rcases hm with y | ⟨q, y, _⟩
      · exact y
      · cases y
  | some q =>
    obtain ⟨h1, h2, h3⟩ := h
    refine ⟨by omega, h2, fun b hb hu => ?_⟩
    rcases Nat.lt_or_ge b m with z | z
    · exact h3 b z hu
    · have e : b = m := by omega
      subst e
      rcases hm with y | ⟨q', y, y2⟩
      · rw [y] at hu; cases hu
      · cases y; exact ⟨y2, fun _ => by omega⟩
def joinS (S : St) (v : Int32) : Int32 := if inS v 0 (nI S.np - 1) = true then selS (findS (fun many => (findS (fun b => decide (popN b = many) && unJ S (ix v) b) (2 ^ min S.nv 9) 0).isSome) (min S.nv 9 + 1) 0) (fun many => selS (findS (fun b => decide (popN b = many) && unJ S (ix v) b) (2 ^ min S.nv 9) 0) nI (-1)) (-1) else -1
theorem join_eq {S : St} {p : Nat} {o : Option Nat} (h : isB S p (2 ^ min S.nv 9) o) : selS (findS (fun many => (findS (fun b => decide (popN b = many) && unJ S p b) (2 ^ min S.nv 9) 0).isSome) (min S.nv 9 + 1) 0) (fun many => selS (findS (fun b => decide (popN b = many) && unJ S p b) (2 ^ min S.nv 9) 0) nI (-1)) (-1) = oI o := by
  cases o with
  | none =>
    have e : findS (fun many => (findS (fun b => decide (popN b = many) && unJ S p b) (2 ^ min S.nv 9) 0).isSome) (min S.nv 9 + 1) 0 = none := by
      refine findS_no (fun i _ _ => ?_)
      show (findS (fun b => decide (popN b = i) && unJ S p b) (2 ^ min S.nv 9) 0).isSome = false
      rw [findS_no (fun b _ hb => by rw [h b (by omega)]; exact Bool.and_false _)]
      rfl
    rw [e]; rfl
  | some q =>
    obtain ⟨h1, h2, h3⟩ := h
    have hp := pow_le (n := min S.nv 9) (by omega)
    have e2 : findS (fun b => decide (popN b = popN q) && unJ S p b) (2 ^ min S.nv 9) 0 = some q := by
      refine findS_is (by omega) (by omega) (by rw [h2]; simp) (fun b _ hb => ?_)
      cases hu : unJ S p b
      · exact Bool.and_false _
      · have := (h3 b (by omega) hu).2
        rw [Bool.and_true]
        exact decide_eq_false (fun z => by have := this z; omega)
    have e : findS (fun many => (findS (fun b => decide (popN b = many) && unJ S p b) (2 ^ min S.nv 9) 0).isSome) (min S.nv 9 + 1) 0 = some (popN q) := by
      refine findS_is (by omega) ?_ ?_ (fun i _ hi => ?_)
      · have := pop_le q (by omega) (min S.nv 9) (by omega) h1
        omega
      · show (findS (fun b => decide (popN b = popN q) && unJ S p b) (2 ^ min S.nv 9) 0).isSome = true
        rw [e2]; rfl
      · show (findS (fun b => decide (popN b = i) && unJ S p b) (2 ^ min S.nv 9) 0).isSome = false
        rw [findS_no (fun b _ hb => ?_)]
        · rfl
        · cases hu : unJ S p b
          · exact Bool.and_false _
          · have := (h3 b (by omega) hu).1
            rw [Bool.and_true]
            exact decide_eq_false (fun z => by omega)
    rw [e]
    show selS (findS (fun b => decide (popN b = popN q) && unJ S p b) (2 ^ min S.nv 9) 0) nI (-1) = nI q
    rw [e2]; rfl
/-- what holds while voters stand elsewhere -/
def XJ (K : Nat → Nat) (x : Nat) (h s : AH) (ev : Nat) (Ev : Nat → Nat) (ep : Nat) (Ep : Nat → Nat) (bb : Nat) (S : St) (p N : Nat) (c : Nat → Bool) : Prop :=
  XA K x s ev Ev ep Ep bb (jF S p c) ∧ (s.kind h.n = 32 ∧ s.len h.n = N ∧ s.kind (h.n + 1) = 32 ∧ s.len (h.n + 1) = N) ∧ (∀ k, k < N → s.I h.n k = S.V k 0 ∧ s.I (h.n + 1) k = S.V k 1) ∧ Fr 2 18 (fun a j => ∃ v, v < S.nv ∧ a = Ev v ∧ (j = 3 ∨ j = 4)) h s ∧ ∀ a j, h.kind a ≠ 0 → s.L a j = h.L a j ∧ s.R a j = h.R a j
theorem XJ_step {K : Nat → Nat} {x : Nat} {h s : AH} {ev : Nat} {Ev : Nat → Nat} {ep : Nat} {Ep : Nat → Nat} {bb : Nat} {S : St} {p N : Nat} {c : Nat → Bool} (inj : ∀ v w, v < S.nv → w < S.nv → Ev v = Ev w → v = w) (J : XJ K x h s ev Ev ep Ep bb S p N c) {k : Nat} (hk : k < S.nv) (d : Bool) : XJ K x h ((s.setI (Ev k) 3 (if d = true then S.P p 0 else S.V k 0)).setI (Ev k) 4 (if d = true then S.P p 1 else S.V k 1)) ev Ev ep Ep bb S p N (up1 c k d) := by
  obtain ⟨X, ⟨a1, a2, a3, a4⟩, j3, j4, j5⟩ := J
  have gk := (X.2.1.2.2 k hk).1
  have n1 : h.n ≠ Ev k := by intro z; rw [z] at a1; omega
  have n2 : h.n + 1 ≠ Ev k := by intro z; rw [z] at a3; omega
  refine ⟨?_, ⟨a1, a2, a3, a4⟩, fun q hq => ?_, ?_, j5⟩
  · rw [← jF_put]
    exact XA_put X inj hk _ _
  · rw [AH.I_setI, if_neg (fun z => n1 z.1), AH.I_setI, if_neg (fun z => n1 z.1), AH.I_setI, if_neg (fun z => n2 z.1), AH.I_setI, if_neg (fun z => n2 z.1)]
    exact j3 q hq
  · exact Fr_trans (W := fun a j => ∃ v, v < S.nv ∧ a = Ev v ∧ (j = 3 ∨ j = 4)) (Fr_trans (W := fun a j => ∃ v, v < S.nv ∧ a = Ev v ∧ (j = 3 ∨ j = 4)) j4 (Fr_setI (W := fun a j => ∃ v, v < S.nv ∧ a = Ev v ∧ (j = 3 ∨ j = 4)) s (Ev k) 3 _ (fun _ => ⟨k, hk, rfl, Or.inl rfl⟩)) (fun _ _ _ z => z) (fun _ _ _ z => z)) (Fr_setI (W := fun a j => ∃ v, v < S.nv ∧ a = Ev v ∧ (j = 3 ∨ j = 4)) _ (Ev k) 4 _ (fun _ => ⟨k, hk, rfl, Or.inr rfl⟩)) (fun _ _ _ z => z) (fun _ _ _ z => z)
theorem x_jn129 {n : Nat} {K : Nat → Nat} {x : Nat} {h s : AH} {ev : Nat} {Ev : Nat → Nat} {ep : Nat} {Ep : Nat → Nat} {bb : Nat} {S : St} {p N : Nat} {c : Nat → Bool} (hn : 20000 < n) (inj : ∀ v w, v < S.nv → w < S.nv → Ev v = Ev w → v = w) (hp : p < S.np) (hN : N = min S.nv 9) {b : Nat} (hb : b < 2 ^ N) (J : XJ K x h s ev Ev ep Ep bb S p N c) (hc : ∀ v, N ≤ v → c v = false) (y1 y2 : Int32) (k : AH → Option (Int32 × AH)) :
    ∃ s', F_X0_join_L129 n K (nI b) y1 (h.n + 1) h.n (nI N) (Ep p) x y2 n 0 s k = k s' ∧ XJ K x h s' ev Ev ep Ep bb S p N b.testBit := by
  have hp9 := pow_le (n := N) (by omega)
  refine loopU (fun f i (s : AH) => F_X0_join_L129 n K (nI b) y1 (h.n + 1) h.n (nI N) (Ep p) x y2 f i s k) N (fun i s => XJ K x h s ev Ev ep Ep bb S p N (fun v => if v < i then b.testBit v else c v)) (fun o => ∃ s', o = k s' ∧ XJ K x h s' ev Ev ep Ep bb S p N b.testBit) ?_ ?_ N 0 s n (by omega) (by omega) ?_
  · intro f i g hi J
    right
    have hi' : i < S.nv := by omega
    have J2 := XJ_step inj J hi' (b.testBit i)
    have ec : up1 (fun v => if v < i then b.testBit v else c v) i (b.testBit i) = fun v => if v < i + 1 then b.testBit v else c v := by
      funext v
      unfold up1
      by_cases z : v = i
      · rw [if_pos z, if_pos (by omega), z]
      · rw [if_neg z]
        show (if v < i then b.testBit v else c v) = _
        by_cases z2 : v < i
        · rw [if_pos z2, if_pos (by omega)]
        · rw [if_neg z2, if_neg (by omega)]
    rw [ec] at J2
    refine ⟨_, J2, ?_⟩
    obtain ⟨X, ⟨a1, a2, a3, a4⟩, j3, j4⟩ := J
    have X' : XA K x g ev Ev ep Ep bb (jF S p fun v => if v < i then b.testBit v else c v) := X
    have gk := eq_true (X.2.1.2.2 i hi').1
    have gk0 := (X.2.1.2.2 i hi').1
    have gp := X.2.2.1.2.2 p hp
    have e3 : (nI N ≤ nI i) = False := eq_false (nI_ge hi (by omega))
    have e1 : ix (nI i) = i := ix_nI (by omega)
    have e2 : inb (nI i) N = True := eq_true ((inb_nI (by omega)).2 hi)
    have vg := x_vget (n := n) hn X (i := i) hi'
    have g2 : ∀ a, F_J2_get n K (x + 5) (nI i) (g.setI (Ev i) 3 a) = some (some (Ev i), g.setI (Ev i) 3 a) := by
      intro a
      refine l_get (Ls_of (h' := g.setI (Ev i) 3 a) X.2.1.1 rfl rfl rfl ?_) hi'
      have k5 := X.2.1.1.1
      rw [AH.I_setI, if_neg]
      intro z
      rw [z.1] at k5; omega
    have bt := bit_all b (by omega) i (by omega)
    obtain ⟨v1, v2⟩ := j3 i hi
    have n2 : h.n + 1 ≠ Ev i := by intro z; rw [z] at a3; omega
    have np : Ep p ≠ Ev i := by intro z; rw [z] at gp; omega
    have p0 : g.I (Ep p) 0 = S.P p 0 := gp.2.1
    have p1 : g.I (Ep p) 1 = S.P p 1 := gp.2.2
    have w2 : ∀ a, (g.setI (Ev i) 3 a).I (h.n + 1) i = S.V i 1 := fun a => by rw [AH.I_setI, if_neg (fun z => n2 z.1)]; exact v2
    have w1 : ∀ a, (g.setI (Ev i) 3 a).I (Ep p) 1 = S.P p 1 := fun a => by rw [AH.I_setI, if_neg (fun z => np z.1)]; exact p1
    cases hbt : b.testBit i
    · rw [hbt] at bt
      have z0 : ((0 : Int32) = 1) = False := eq_false (by decide)
      have z1 : ((nI b >>> (nI i &&& 31)) &&& (1 : Int32)) = 0 := bt
      simp only [F_X0_join_L129, chk_true, bnd_some, ob_some, oc_some, oc_none, hl_eq, jn_eq, ix_0, ix_1, if_true, if_false, inb0_2, inb1_2, not_true_eq_false, not_false_eq_true, ite_true, ite_false, true_or, or_true, or_self, zero_eq_one_I, one_eq_zero_I, AH.n_setI, AH.n_setL, AH.n_setR, AH.sl_setI, AH.sl_setL, AH.sl_setR, AH.kind_setI, AH.kind_setL, AH.kind_setR, AH.len_setI, AH.len_setL, AH.len_setR, AH.I_setL, AH.I_setR, AH.L_setI, AH.L_setR, AH.R_setI, AH.R_setL, xs_k0, xs_k1, xs_n1, xs_k2, xs_k3, xs_k4, xs_k5, xs_k6, xs_k7, xs_k8, xs_k9, xs_k10, xs_k11, xs_n11, xs_k12, xs_n12, xs_k13, xs_n13, xs_k14, xs_n14, xs_k15, xs_n15, xs_k16, xs_n16, xs_k17, xs_n17, xs_k18, xs_n18, xs_k27, xs_n27, xs_k28, xs_n28, xs_r0_0, xs_r0_1, xs_r2_8, xs_r2_9, xs_r0_2, xs_r0_3, xs_r0_4, xs_r0_8, xs_r0_9, xs_r0_10, xs_r0_18, xs_r0_19, xs_r0_20, xs_r0_21, xs_r0_22, xs_r0_25, xs_r0_26, xs_r0_27, xs_r0_28, X.1, e3, z1, z0, vg, gk, a1, a2, a3, a4, e1, e2, g2, v1, w2, nI_1, Bool.false_eq_true]
    · rw [hbt] at bt
      have z1 : ((nI b >>> (nI i &&& 31)) &&& (1 : Int32)) = 1 := bt
      simp only [F_X0_join_L129, chk_true, bnd_some, ob_some, oc_some, oc_none, hl_eq, jn_eq, ix_0, ix_1, if_true, if_false, inb0_2, inb1_2, not_true_eq_false, not_false_eq_true, ite_true, ite_false, true_or, or_true, or_self, zero_eq_one_I, one_eq_zero_I, AH.n_setI, AH.n_setL, AH.n_setR, AH.sl_setI, AH.sl_setL, AH.sl_setR, AH.kind_setI, AH.kind_setL, AH.kind_setR, AH.len_setI, AH.len_setL, AH.len_setR, AH.I_setL, AH.I_setR, AH.L_setI, AH.L_setR, AH.R_setI, AH.R_setL, xs_k0, xs_k1, xs_n1, xs_k2, xs_k3, xs_k4, xs_k5, xs_k6, xs_k7, xs_k8, xs_k9, xs_k10, xs_k11, xs_n11, xs_k12, xs_n12, xs_k13, xs_n13, xs_k14, xs_n14, xs_k15, xs_n15, xs_k16, xs_n16, xs_k17, xs_n17, xs_k18, xs_n18, xs_k27, xs_n27, xs_k28, xs_n28, xs_r0_0, xs_r0_1, xs_r2_8, xs_r2_9, xs_r0_2, xs_r0_3, xs_r0_4, xs_r0_8, xs_r0_9, xs_r0_10, xs_r0_18, xs_r0_19, xs_r0_20, xs_r0_21, xs_r0_22, xs_r0_25, xs_r0_26, xs_r0_27, xs_r0_28, X.1, e3, z1, vg, gk, gp.1, g2, p0, w1, nI_1]
  · intro f g J
    have e3 : (nI N ≤ nI N) = True := eq_true (nI_le (Nat.le_refl _) (by omega))
    refine ⟨g, by simp only [F_X0_join_L129, e3, if_true], ?_⟩
    have ec : (fun v => if v < N then b.testBit v else c v) = b.testBit := by
      funext v
      by_cases z : v < N
      · rw [if_pos z]
      · rw [if_neg z, hc v (by omega)]
        exact (Nat.testBit_lt_two_pow (Nat.lt_of_lt_of_le hb (Nat.pow_le_pow_right (by omega) (by omega)))).symm
    rw [ec] at J
    exact J
  · have ec : (fun v => if v < 0 then b.testBit v else c v) = c := funext fun v => if_neg (by omega)
    rw [ec]; exact J
theorem oI_m1 {o : Option Nat} (h : ∀ q, o = some q → q < 1000000) : (oI o = -1) = (o = none) := by
  cases o with
  | none => exact propext ⟨fun _ => rfl, fun _ => rfl⟩
  | some q => exact propext ⟨fun z => absurd z (nI_n1 (h q rfl)), fun z => by cases z⟩
theorem x_jn96 {n : Nat} {K : Nat → Nat} {x : Nat} {h s : AH} {ev : Nat} {Ev : Nat → Nat} {ep : Nat} {Ep : Nat → Nat} {bb : Nat} {S : St} {p N : Nat} (hn : 20000 < n) (inj : ∀ v w, v < S.nv → w < S.nv → Ev v = Ev w → v = w) (hp : p < S.np) (hN : N = min S.nv 9) (J : XJ K x h s ev Ev ep Ep bb S p N (fun _ => false)) (k : Int32 → AH → Option (Int32 × AH)) :
    ∃ o s' c, F_X0_join_L96 n K (h.n + 1) h.n (nI N) (Ep p) x (nI p) n 0 (-1) s k = k (oI o) s' ∧ isB S p (2 ^ N) o ∧ XJ K x h s' ev Ev ep Ep bb S p N c ∧ ∀ v, N ≤ v → c v = false := by
  have hp9 := pow_le (n := N) (by omega)
  have sh := shl_all N (by omega)
  refine loopU (fun f i (q : Option Nat × AH) => F_X0_join_L96 n K (h.n + 1) h.n (nI N) (Ep p) x (nI p) f i (oI q.1) q.2 k) (2 ^ N) (fun b q => isB S p b q.1 ∧ ∃ c, XJ K x h q.2 ev Ev ep Ep bb S p N c ∧ ∀ v, N ≤ v → c v = false) (fun o => ∃ o' s' c, o = k (oI o') s' ∧ isB S p (2 ^ N) o' ∧ XJ K x h s' ev Ev ep Ep bb S p N c ∧ ∀ v, N ≤ v → c v = false) ?_ ?_ (2 ^ N) 0 (none, s) n (by omega) (by omega) ⟨isB_0 S p, _, J, fun _ _ => rfl⟩
  · rintro f b ⟨o, g⟩ hb ⟨ib, c, J, hc⟩
    right
    have ib' : isB S p b o := ib
    have J' : XJ K x h g ev Ev ep Ep bb S p N c := J
    have e3 : (nI (2 ^ N) ≤ nI b) = False := eq_false (nI_ge hb (by omega))
    have ob : ∀ q, o = some q → q < b := fun q hq => by subst hq; exact ib'.1
    have m1 := oI_m1 (o := o) (fun q hq => by have := ob q hq; omega)
    obtain ⟨s1, q1, q2⟩ := x_jn129 (K := K) hn inj hp hN hb J' hc (oI o) (nI p) (fun h107 =>
        chk (h107.kind x = 1) <|
        bnd (F_X0_isUnbeaten n K x (nI p) h107) fun r108 h109 =>
        if r108 = 0 then (
          F_X0_join_L96 n K (h.n + 1) h.n (nI N) (Ep p) x (nI p) f (nI b + (1 : Int32)) (oI o) h109 k
        ) else (
          F_X0_join_L96 n K (h.n + 1) h.n (nI N) (Ep p) x (nI p) f (nI b + (1 : Int32)) (nI b) h109 k
        ))
    have X1 := q2.1
    have un := x_isUnbeaten (n := n) (K := K) hn X1 (p := p) hp
    have tb : ∀ v, N ≤ v → b.testBit v = false := fun v hv => Nat.testBit_lt_two_pow (Nat.lt_of_lt_of_le hb (Nat.pow_le_pow_right (by omega) hv))
    have k1 := xs_k0 X1.1
    have run : ∀ (J : AH → Option (Int32 × AH)), J = (fun h58 => F_X0_join_L129 n K (nI b) (oI o) (h.n + 1) h.n (nI N) (Ep p) x (nI p) n 0 h58 fun h107 =>
        chk (h107.kind x = 1) <|
        bnd (F_X0_isUnbeaten n K x (nI p) h107) fun r108 h109 =>
        if r108 = 0 then (
          F_X0_join_L96 n K (h.n + 1) h.n (nI N) (Ep p) x (nI p) f (nI b + (1 : Int32)) (oI o) h109 k
        ) else (
          F_X0_join_L96 n K (h.n + 1) h.n (nI N) (Ep p) x (nI p) f (nI b + (1 : Int32)) (nI b) h109 k
        )) → J g = F_X0_join_L96 n K (h.n + 1) h.n (nI N) (Ep p) x (nI p) f (nI (b + 1)) (oI (if unJ S p b = true then some b else o)) s1 k := by
      intro Jf hJ
      rw [hJ]
      show F_X0_join_L129 n K (nI b) (oI o) (h.n + 1) h.n (nI N) (Ep p) x (nI p) n 0 g _ = _
      rw [q1]
      show (chk (s1.kind x = 1) <| bnd (F_X0_isUnbeaten n K x (nI p) s1) _) = _
      rw [chk_pos k1, un, bnd_some, nI_1]
      show (if bI (unJ S p b) = 0 then _ else _) = _
      cases unJ S p b
      · rfl
      · rfl
    cases o with
    | none =>
      refine ⟨(if unJ S p b = true then some b else none, s1), ⟨?_, _, q2, tb⟩, ?_⟩
      · cases hu : unJ S p b
        · exact isB_no ib' (Or.inl hu)
        · exact isB_yes ib' hu (fun q hq => by cases hq)
      · show F_X0_join_L96 n K (h.n + 1) h.n (nI N) (Ep p) x (nI p) (f + 1) (nI b) (oI none) g k = _
        rw [F_X0_join_L96, sh]
        have z : (oI none = -1) = True := eq_true rfl
        simp only [chk_true, bnd_some, ob_some, oc_some, oc_none, hl_eq, jn_eq, ix_0, ix_1, if_true, if_false, inb0_2, inb1_2, not_true_eq_false, not_false_eq_true, ite_true, ite_false, true_or, or_true, or_self, zero_eq_one_I, one_eq_zero_I, e3, z]
        exact run _ rfl
    | some q =>
      have hq := ob q rfl
      have z : (oI (some q) = -1) = False := eq_false (nI_n1 (by omega))
      have bc1 := bc_pop b (by omega)
      have bc2 : bcI (oI (some q)) = nI (popN q) := bc_pop q (by omega)
      have pl1 := pop_le b (by omega) 9 (by omega) (by omega)
      have pl2 := pop_le q (by omega) 9 (by omega) (by omega)
      by_cases cl : popN b < popN q
      · refine ⟨(if unJ S p b = true then some b else some q, s1), ⟨?_, _, q2, tb⟩, ?_⟩
        · cases hu : unJ S p b
          · exact isB_no ib' (Or.inl hu)
          · exact isB_yes ib' hu (fun q' hq' => by cases hq'; exact cl)
        · show F_X0_join_L96 n K (h.n + 1) h.n (nI N) (Ep p) x (nI p) (f + 1) (nI b) (oI (some q)) g k = _
          rw [F_X0_join_L96, sh]
          have e5 : (nI (popN b) < nI (popN q)) = True := eq_true (nI_lt cl (by omega))
          simp only [chk_true, bnd_some, ob_some, oc_some, oc_none, hl_eq, jn_eq, ix_0, ix_1, if_true, if_false, inb0_2, inb1_2, not_true_eq_false, not_false_eq_true, ite_true, ite_false, true_or, or_true, or_self, zero_eq_one_I, one_eq_zero_I, e3, z, bc_eq, bc1, bc2, e5]
          exact run _ rfl
      · refine ⟨(some q, g), ⟨isB_no ib' (Or.inr ⟨q, rfl, by omega⟩), c, J', hc⟩, ?_⟩
        show F_X0_join_L96 n K (h.n + 1) h.n (nI N) (Ep p) x (nI p) (f + 1) (nI b) (oI (some q)) g k = F_X0_join_L96 n K (h.n + 1) h.n (nI N) (Ep p) x (nI p) f (nI (b + 1)) (oI (some q)) g k
        rw [F_X0_join_L96, sh]
        have e5 : (nI (popN b) < nI (popN q)) = False := eq_false (nI_nlt (by omega) (by omega))
        simp only [chk_true, bnd_some, ob_some, oc_some, oc_none, hl_eq, jn_eq, ix_0, ix_1, if_true, if_false, inb0_2, inb1_2, not_true_eq_false, not_false_eq_true, ite_true, ite_false, true_or, or_true, or_self, zero_eq_one_I, one_eq_zero_I, e3, z, bc_eq, bc1, bc2, e5, nI_1]
  · rintro f ⟨o, g⟩ ⟨ib, c, J, hc⟩
    refine ⟨o, g, c, ?_, ib, J, hc⟩
    show F_X0_join_L96 n K (h.n + 1) h.n (nI N) (Ep p) x (nI p) (f + 1) (nI (2 ^ N)) (oI o) g k = _
    have e3 : (nI (2 ^ N) ≤ nI (2 ^ N)) = True := eq_true (nI_le (Nat.le_refl _) (by omega))
    rw [F_X0_join_L96, sh]
    simp only [e3, if_true]
