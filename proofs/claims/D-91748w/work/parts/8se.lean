/-! PURE PART SE: join() of the sheet, whole -/
set_option maxRecDepth 100000
theorem x_jn244 {n : Nat} {K : Nat → Nat} {x : Nat} {h s : AH} {ev : Nat} {Ev : Nat → Nat} {ep : Nat} {Ep : Nat → Nat} {bb : Nat} {S : St} {p N : Nat} {c : Nat → Bool} (hn : 20000 < n) (inj : ∀ v w, v < S.nv → w < S.nv → Ev v = Ev w → v = w) (hN : N = min S.nv 9) (J : XJ K x h s ev Ev ep Ep bb S p N c) (hc : ∀ v, N ≤ v → c v = false) (r : Int32) :
    ∃ s', F_X0_join_L244 n K r (h.n + 1) h.n (nI N) x n 0 s = some (r, s') ∧ XJ K x h s' ev Ev ep Ep bb S p N (fun _ => false) := by
  refine loopU (fun f i (s : AH) => F_X0_join_L244 n K r (h.n + 1) h.n (nI N) x f i s) N (fun i s => XJ K x h s ev Ev ep Ep bb S p N (fun v => if v < i then false else c v)) (fun o => ∃ s', o = some (r, s') ∧ XJ K x h s' ev Ev ep Ep bb S p N (fun _ => false)) ?_ ?_ N 0 s n (by omega) (by omega) ?_
  · intro f i g hi J
    right
    have hi' : i < S.nv := by omega
    have J2 := XJ_step inj J hi' false
    have ec : up1 (fun v => if v < i then false else c v) i false = fun v => if v < i + 1 then false else c v := by
      funext v
      unfold up1
      by_cases z : v = i
      · rw [if_pos z, if_pos (by omega)]
      · rw [if_neg z]
        show (if v < i then false else c v) = _
        by_cases z2 : v < i
        · rw [if_pos z2, if_pos (by omega)]
        · rw [if_neg z2, if_neg (by omega)]
    rw [ec] at J2
    refine ⟨_, J2, ?_⟩
    obtain ⟨X, ⟨a1, a2, a3, a4⟩, j3, j4⟩ := J
    have gk := eq_true (X.2.1.2.2 i hi').1
    have gk0 := (X.2.1.2.2 i hi').1
    have e3 : (nI N ≤ nI i) = False := eq_false (nI_ge hi (by omega))
    have e1 : ix (nI i) = i := ix_nI (by omega)
    have e2 : inb (nI i) N = True := eq_true ((inb_nI (by omega)).2 hi)
    have vg := x_vget (n := n) hn X (i := i) hi'
    have g2 : ∀ a, F_J2_get n K (x + 5) (nI i) (g.setI (Ev i) 3 a) = some (some (Ev i), g.setI (Ev i) 3 a) := by
      intro a
      refine l_get (Ls_of (h' := g.setI (Ev i) 3 a) X.2.1.1 rfl rfl rfl ?_) hi'
      have k5 := X.2.1.1.1
      rw [AH.I_setI, if_neg]
      intro z
      rw [z.1] at k5; omega
    obtain ⟨v1, v2⟩ := j3 i hi
    have n2 : h.n + 1 ≠ Ev i := by intro z; rw [z] at a3; omega
    have w2 : ∀ a, (g.setI (Ev i) 3 a).I (h.n + 1) i = S.V i 1 := fun a => by rw [AH.I_setI, if_neg (fun z => n2 z.1)]; exact v2
    simp only [F_X0_join_L244, chk_true, bnd_some, ob_some, oc_some, oc_none, hl_eq, jn_eq, ix_0, ix_1, if_true, if_false, inb0_2, inb1_2, not_true_eq_false, not_false_eq_true, ite_true, ite_false, true_or, or_true, or_self, zero_eq_one_I, one_eq_zero_I, AH.n_setI, AH.n_setL, AH.n_setR, AH.sl_setI, AH.sl_setL, AH.sl_setR, AH.kind_setI, AH.kind_setL, AH.kind_setR, AH.len_setI, AH.len_setL, AH.len_setR, AH.I_setL, AH.I_setR, AH.L_setI, AH.L_setR, AH.R_setI, AH.R_setL, xs_k0, xs_k1, xs_n1, xs_k2, xs_k3, xs_k4, xs_k5, xs_k6, xs_k7, xs_k8, xs_k9, xs_k10, xs_k11, xs_n11, xs_k12, xs_n12, xs_k13, xs_n13, xs_k14, xs_n14, xs_k15, xs_n15, xs_k16, xs_n16, xs_k17, xs_n17, xs_k18, xs_n18, xs_k27, xs_n27, xs_k28, xs_n28, xs_r0_0, xs_r0_1, xs_r2_8, xs_r2_9, xs_r0_2, xs_r0_3, xs_r0_4, xs_r0_8, xs_r0_9, xs_r0_10, xs_r0_18, xs_r0_19, xs_r0_20, xs_r0_21, xs_r0_22, xs_r0_25, xs_r0_26, xs_r0_27, xs_r0_28, X.1, e3, vg, gk, a1, a2, a3, a4, e1, e2, g2, v1, w2, nI_1, Bool.false_eq_true]
  · intro f g J
    have e3 : (nI N ≤ nI N) = True := eq_true (nI_le (Nat.le_refl _) (by omega))
    refine ⟨g, by simp only [F_X0_join_L244, e3, if_true], ?_⟩
    have ec : (fun v => if v < N then false else c v) = fun _ => false := by
      funext v
      by_cases z : v < N
      · rw [if_pos z]
      · rw [if_neg z, hc v (by omega)]
    rw [ec] at J
    exact J
  · have ec : (fun v => if v < 0 then false else c v) = c := funext fun v => if_neg (by omega)
    rw [ec]; exact J
theorem x_jn38 {n : Nat} {K : Nat → Nat} {x : Nat} {h : AH} {ev : Nat} {Ev : Nat → Nat} {ep : Nat} {Ep : Nat → Nat} {bb : Nat} {S : St} {p N : Nat} (hn : 20000 < n) (wf : Wf h) (MS : MSh (x + 29) h) (X : XA K x h ev Ev ep Ep bb S) (hN : N = min S.nv 9) (y1 : Nat) (y2 : Int32) (k : AH → Option (Int32 × AH)) :
    ∃ s', F_X0_join_L38 n K (h.n + 1) h.n (nI N) y1 x y2 n 0 ((h.new 32 N N).new 32 N N) k = k s' ∧ XJ K x h s' ev Ev ep Ep bb S p N (fun _ => false) := by
  have h0 := wf h.n (Nat.le_refl _)
  have F1 : Fr 1 N (fun _ _ => False) h (h.new 32 N N) := Fr_new wf 32 N N
  have wf1 := Fr_wf F1 wf
  have h1 : h.kind (h.n + 1) = 0 := wf _ (by omega)
  have F2 := Fr_trans (W := fun _ _ => False) F1 (Fr_new (W := fun _ _ => False) wf1 32 N N) (fun _ _ _ z => z) (fun _ _ _ z => z)
  have X2 : XA K x ((h.new 32 N N).new 32 N N) ev Ev ep Ep bb S := XA_fr X F2 MS (fun _ _ _ z => z.elim)
  have n1 : (h.new 32 N N).n = h.n + 1 := rfl
  refine loopU (fun f i (s : AH) => F_X0_join_L38 n K (h.n + 1) h.n (nI N) y1 x y2 f i s k) N (fun i s => XA K x s ev Ev ep Ep bb S ∧ (s.kind h.n = 32 ∧ s.len h.n = N ∧ s.kind (h.n + 1) = 32 ∧ s.len (h.n + 1) = N) ∧ (∀ k, k < i → s.I h.n k = S.V k 0 ∧ s.I (h.n + 1) k = S.V k 1) ∧ Fr 2 18 (fun _ _ => False) h s) (fun o => ∃ s', o = k s' ∧ XJ K x h s' ev Ev ep Ep bb S p N (fun _ => false)) ?_ ?_ N 0 _ n (by omega) (by omega) ⟨X2, ⟨?_, ?_, ?_, ?_⟩, fun k hk => absurd hk (Nat.not_lt_zero k), Fr_mono F2 (by omega) (by omega) (fun _ _ _ z => z)⟩
  · rintro f i g hi ⟨XG, ⟨a1, a2, a3, a4⟩, j3, j4⟩
    right
    have hi' : i < S.nv := by omega
    have gk := eq_true (XG.2.1.2.2 i hi').1
    have gk0 := (XG.2.1.2.2 i hi').1
    have e3 : (nI N ≤ nI i) = False := eq_false (nI_ge hi (by omega))
    have e1 : ix (nI i) = i := ix_nI (by omega)
    have e2 : inb (nI i) N = True := eq_true ((inb_nI (by omega)).2 hi)
    have vg := x_vget (n := n) hn XG (i := i) hi'
    have k5 := XG.2.1.1.1
    have g2 : ∀ a, F_J2_get n K (x + 5) (nI i) (g.setI h.n i a) = some (some (Ev i), g.setI h.n i a) := by
      intro a
      refine l_get (Ls_of (h' := g.setI h.n i a) XG.2.1.1 rfl rfl rfl ?_) hi'
      rw [AH.I_setI, if_neg]
      intro z
      rw [z.1] at k5; omega
    have n2 : Ev i ≠ h.n := by intro z; rw [z] at gk0; omega
    have v0 : g.I (Ev i) 3 = S.V i 0 := (XG.2.1.2.2 i hi').2.2.1
    have v1 : g.I (Ev i) 4 = S.V i 1 := (XG.2.1.2.2 i hi').2.2.2.1
    have w1 : ∀ a, (g.setI h.n i a).I (Ev i) 4 = S.V i 1 := fun a => by rw [AH.I_setI, if_neg (fun z => n2 z.1)]; exact v1
    have XS : ∀ (g : AH) (d j : Nat) (a : Int32), g.kind d = 32 → XA K x g ev Ev ep Ep bb S → XA K x (g.setI d j a) ev Ev ep Ep bb S := by
      intro g d j a hd XG
      have k0 := xs_k0 XG.1
      refine XA_of XG rfl rfl rfl (fun q h1 h2 _ => ?_) ?_
      · funext j'
        rw [AH.I_setI, if_neg]
        intro z
        rw [z.1] at h1 h2; omega
      · rw [AH.I_setI, if_neg]
        intro z
        rw [← z.1] at hd; omega
    refine ⟨(g.setI h.n i (S.V i 0)).setI (h.n + 1) i (S.V i 1), ⟨XS _ _ _ _ a3 (XS _ _ _ _ a1 XG), ⟨a1, a2, a3, a4⟩, fun q hq => ?_, ?_⟩, ?_⟩
    · rw [AH.I_setI, if_neg (by omega), AH.I_setI, AH.I_setI]
      by_cases z : q = i
      · rw [if_pos ⟨rfl, z⟩, if_pos ⟨rfl, z⟩, z]
        exact ⟨rfl, rfl⟩
      · rw [if_neg (fun y => z y.2), if_neg (fun y => z y.2), AH.I_setI, if_neg (by omega)]
        exact j3 q (by omega)
    · have Fa := Fr_trans (W := fun _ _ => False) j4 (Fr_setI (W := fun a _ => a = h.n) g h.n i (S.V i 0) (fun _ => rfl)) (fun _ _ _ z => z) (fun a _ ha z => ha (by rw [show a = h.n from z]; exact h0))
      exact Fr_trans (W := fun _ _ => False) Fa (Fr_setI (W := fun a _ => a = h.n + 1) _ (h.n + 1) i (S.V i 1) (fun _ => rfl)) (fun _ _ _ z => z) (fun a _ ha z => ha (by rw [show a = h.n + 1 from z]; exact h1))
    · simp only [F_X0_join_L38, chk_true, bnd_some, ob_some, oc_some, oc_none, hl_eq, jn_eq, ix_0, ix_1, if_true, if_false, inb0_2, inb1_2, not_true_eq_false, not_false_eq_true, ite_true, ite_false, true_or, or_true, or_self, zero_eq_one_I, one_eq_zero_I, AH.n_setI, AH.n_setL, AH.n_setR, AH.sl_setI, AH.sl_setL, AH.sl_setR, AH.kind_setI, AH.kind_setL, AH.kind_setR, AH.len_setI, AH.len_setL, AH.len_setR, AH.I_setL, AH.I_setR, AH.L_setI, AH.L_setR, AH.R_setI, AH.R_setL, xs_k0, xs_k1, xs_n1, xs_k2, xs_k3, xs_k4, xs_k5, xs_k6, xs_k7, xs_k8, xs_k9, xs_k10, xs_k11, xs_n11, xs_k12, xs_n12, xs_k13, xs_n13, xs_k14, xs_n14, xs_k15, xs_n15, xs_k16, xs_n16, xs_k17, xs_n17, xs_k18, xs_n18, xs_k27, xs_n27, xs_k28, xs_n28, xs_r0_0, xs_r0_1, xs_r2_8, xs_r2_9, xs_r0_2, xs_r0_3, xs_r0_4, xs_r0_8, xs_r0_9, xs_r0_10, xs_r0_18, xs_r0_19, xs_r0_20, xs_r0_21, xs_r0_22, xs_r0_25, xs_r0_26, xs_r0_27, xs_r0_28, XG.1, e3, vg, gk, a1, a2, a3, a4, e1, e2, v0, g2, w1, nI_1]
  · rintro f g ⟨XG, j2, j3, j4⟩
    have e3 : (nI N ≤ nI N) = True := eq_true (nI_le (Nat.le_refl _) (by omega))
    refine ⟨g, by simp only [F_X0_join_L38, e3, if_true], XG, j2, j3, Fr_mono j4 (by omega) (by omega) (fun _ _ _ z => z.elim), fun a j ha => ?_⟩
    obtain ⟨_, _, f3⟩ := j4.2.2.2.2.2 a ha
    exact (f3 j (fun z => z)).2
  · rw [AH.kind_new, n1, if_neg (by omega), AH.kind_new, if_pos rfl]
  · rw [AH.len_new, n1, if_neg (by omega), AH.len_new, if_pos rfl]
  · rw [AH.kind_new, n1, if_pos rfl]
  · rw [AH.len_new, n1, if_pos rfl]
theorem ox_join {n : Nat} {K : Nat → Nat} {x : Nat} {h : AH} {Z : Zt} (hn : 20000 < n) (bz : Bz Z) (I : InvX K x h Z) (v : Int32) : XOk K x 2 18 Z (joinS Z.S v) (F_X0_join n K x v h) h := by
  have I0 := I
  obtain ⟨e, c, E, b, wf, MS, _, _, X, _, _, _, inj, _⟩ := I0
  have H := X.1
  unfold joinS
  cases hv : inS v 0 (nI Z.S.np - 1)
  · rw [if_neg (by decide)]
    refine ⟨h, ?_, I, Fr_mono (Fr_refl h) (by omega) (by omega) (fun _ _ _ z => z)⟩
    simp only [F_X0_join, chk_true, bnd_some, ob_some, oc_some, oc_none, hl_eq, jn_eq, ix_0, ix_1, if_true, if_false, inb0_2, inb1_2, not_true_eq_false, not_false_eq_true, ite_true, ite_false, true_or, or_true, or_self, zero_eq_one_I, one_eq_zero_I, xs_k0, xs_k1, xs_n1, xs_k2, xs_k3, xs_k4, xs_k5, xs_k6, xs_k7, xs_k8, xs_k9, xs_k10, xs_k11, xs_n11, xs_k12, xs_n12, xs_k13, xs_n13, xs_k14, xs_n14, xs_k15, xs_n15, xs_k16, xs_n16, xs_k17, xs_n17, xs_k18, xs_n18, xs_k27, xs_n27, xs_k28, xs_n28, xs_r0_0, xs_r0_1, xs_r2_8, xs_r2_9, xs_r0_2, xs_r0_3, xs_r0_4, xs_r0_8, xs_r0_9, xs_r0_10, xs_r0_18, xs_r0_19, xs_r0_20, xs_r0_21, xs_r0_22, xs_r0_25, xs_r0_26, xs_r0_27, xs_r0_28, H, x_placeAtN H X.2.2.1 hv]
  · rw [if_pos rfl]
    have h20 := xnp hn X
    have h15 := xnv hn X
    obtain ⟨p, hp, rfl⟩ := (inS_nI (by omega)).1 hv
    have pa := x_placeAt (n := n) H X.2.2.1 hp
    have e1 : ix (nI p) = p := ix_nI (by omega)
    obtain ⟨N, hN⟩ : ∃ N, N = min Z.S.nv 9 := ⟨_, rfl⟩
    have m9 := min9 h15
    rw [← hN] at m9
    have eN : ix (nI N) = N := ix_nI (by omega)
    have cN : (0 ≤ (nI N).toInt ∧ (nI N).toInt ≤ 60000000) = True := eq_true (by rw [nI_toInt (by omega)]; omega)
    obtain ⟨s1, q1, J1⟩ := x_jn38 (K := K) (p := p) hn wf MS X hN (E 3 p) (nI p) (fun h47 => F_X0_join_L96 n K (h.n + 1) h.n (nI N) (E 3 p) x (nI p) n 0 (-1) h47 fun x119 h120 => F_X0_join_L244 n K x119 (h.n + 1) h.n (nI N) x n 0 h120)
    obtain ⟨o, s2, c2, q2, ib, J2, hc2⟩ := x_jn96 (K := K) hn inj hp hN J1 (fun x119 h120 => F_X0_join_L244 n K x119 (h.n + 1) h.n (nI N) x n 0 h120)
    obtain ⟨s3, q3, J3⟩ := x_jn244 (K := K) hn inj hN J2 hc2 (oI o)
    rw [hN] at ib
    rw [e1, join_eq ib]
    have run : F_X0_join n K x (nI p) h = some (oI o, s3) := by
      rw [← q3, ← q2, ← q1]
      simp only [F_X0_join, chk_true, bnd_some, ob_some, oc_some, oc_none, hl_eq, jn_eq, ix_0, ix_1, if_true, if_false, inb0_2, inb1_2, not_true_eq_false, not_false_eq_true, ite_true, ite_false, true_or, or_true, or_self, zero_eq_one_I, one_eq_zero_I, xs_k0, xs_k1, xs_n1, xs_k2, xs_k3, xs_k4, xs_k5, xs_k6, xs_k7, xs_k8, xs_k9, xs_k10, xs_k11, xs_n11, xs_k12, xs_n12, xs_k13, xs_n13, xs_k14, xs_n14, xs_k15, xs_n15, xs_k16, xs_n16, xs_k17, xs_n17, xs_k18, xs_n18, xs_k27, xs_n27, xs_k28, xs_n28, xs_r0_0, xs_r0_1, xs_r2_8, xs_r2_9, xs_r0_2, xs_r0_3, xs_r0_4, xs_r0_8, xs_r0_9, xs_r0_10, xs_r0_18, xs_r0_19, xs_r0_20, xs_r0_21, xs_r0_22, xs_r0_25, xs_r0_26, xs_r0_27, xs_r0_28, H, pa, x_vsize hn X, m9, eN, cN, AH.n_new]
    obtain ⟨XF, _, _, F, hLR⟩ := J3
    have XF' : XA K x s3 (e 2) (E 2) (e 3) (E 3) b Z.S := XF
    have F' : Fr 2 18 (fun _ _ => False) h s3 := by
      refine ⟨F.1, F.2.1, F.2.2.1, F.2.2.2.1, F.2.2.2.2.1, fun a ha => ?_⟩
      obtain ⟨f1, f2, f3⟩ := F.2.2.2.2.2 a ha
      refine ⟨f1, f2, fun j _ => ⟨?_, (hLR a j ha).1, (hLR a j ha).2⟩⟩
      by_cases w : ∃ v, v < Z.S.nv ∧ a = E 2 v ∧ (j = 3 ∨ j = 4)
      · obtain ⟨v, hv, rfl, hj⟩ := w
        have g1 := X.2.1.2.2 v hv
        have g2 := XF'.2.1.2.2 v hv
        rcases hj with rfl | rfl
        · rw [g1.2.2.1, g2.2.2.1]
        · rw [g1.2.2.2.1, g2.2.2.2.1]
      · exact (f3 j w).1
    exact ⟨s3, run, InvX_fr I F' (fun _ _ _ z => z.elim), Fr_mono F' (Nat.le_refl _) (Nat.le_refl _) (fun _ _ _ z => z.elim)⟩
