/-! PURE PART QG: a voter put elsewhere; make -/
set_option maxRecDepth 100000
def St.put (S : St) (v : Nat) (a b : Int32) : St := ((S.1.1, fun w j => if w = v then (if j = 0 then a else if j = 1 then b else S.1.2 w j) else S.1.2 w j), S.2)
theorem put_V (S : St) (v : Nat) (a b : Int32) (w j : Nat) : (S.put v a b).V w j = if w = v then (if j = 0 then a else if j = 1 then b else S.V w j) else S.V w j := rfl
theorem put_V2 (S : St) (v : Nat) (a b : Int32) (w : Nat) {j : Nat} (h0 : j ≠ 0) (h1 : j ≠ 1) : (S.put v a b).V w j = S.V w j := by
  rw [put_V]; simp [h0, h1]
theorem tot_put (S : St) (v : Nat) (a b : Int32) : ∀ k, totS (S.put v a b).V k = totS S.V k := by
  intro k
  induction k with
  | zero => rfl
  | succ k ih => rw [totS, totS, ih, put_V2 _ _ _ _ _ (by omega) (by omega)]
theorem set2_ne {h : AH} {e c : Nat} (hc : c ≠ e) (a b : Int32) (j : Nat) : ((h.setI e 3 a).setI e 4 b).I c j = h.I c j := by
  rw [AH.I_setI, if_neg (fun z => hc z.1), AH.I_setI, if_neg (fun z => hc z.1)]
theorem XA_put {K : Nat → Nat} {x : Nat} {h : AH} {ev ep bb : Nat} {Ev Ep : Nat → Nat} {S : St} (X : XA K x h ev Ev ep Ep bb S) (inj : ∀ v w, v < S.nv → w < S.nv → Ev v = Ev w → v = w) {v : Nat} (hv : v < S.nv) (a b : Int32) : XA K x ((h.setI (Ev v) 3 a).setI (Ev v) 4 b) ev Ev ep Ep bb (S.put v a b) := by
  obtain ⟨H, HV, HP, HB⟩ := X
  have kv := (HV.2.2 v hv).1
  have ne : ∀ c, (h.kind c < 7 ∨ 10 < h.kind c) → ∀ j, ((h.setI (Ev v) 3 a).setI (Ev v) 4 b).I c j = h.I c j := by
    intro c hc j
    refine set2_ne ?_ a b j
    intro e; subst e; omega
  refine ⟨H, ⟨?_, HV.2.1, ?_⟩, ⟨?_, HP.2.1, ?_⟩, ?_⟩
  · exact Ls_of HV.1 rfl rfl rfl (ne _ (by rw [HV.1.1]; omega) 2)
  · intro w hw
    obtain ⟨g1, g2, g3, g4, g5, g6, g7⟩ := HV.2.2 w hw
    refine ⟨g1, ?_⟩
    by_cases c : w = v
    · subst c
      refine ⟨?_, ?_, ?_, ?_, ?_, ?_⟩
      · rw [put_V2 _ _ _ _ _ (by omega) (by omega)]; exact g2
      · rw [put_V, AH.I_setI, AH.I_setI]; simp
      · rw [put_V, AH.I_setI]; simp
      · rw [put_V2 _ _ _ _ _ (by omega) (by omega), AH.I_setI, AH.I_setI]; simpa using g5
      · rw [put_V2 _ _ _ _ _ (by omega) (by omega), AH.I_setI, AH.I_setI]; simpa using g6
      · rw [put_V2 _ _ _ _ _ (by omega) (by omega), AH.I_setI, AH.I_setI]; simpa using g7
    · have hne : Ev w ≠ Ev v := fun z => c (inj w v hw hv z)
      simp only [put_V, if_neg c, set2_ne hne]
      exact ⟨g2, g3, g4, g5, g6, g7⟩
  · exact Ls_of HP.1 rfl rfl rfl (ne _ (by rw [HP.1.1]; omega) 2)
  · intro p hp
    obtain ⟨g1, g2, g3⟩ := HP.2.2 p hp
    refine ⟨g1, ?_, ?_⟩
    · rw [ne _ (by rw [g1]; omega)]; exact g2
    · rw [ne _ (by rw [g1]; omega)]; exact g3
  · obtain ⟨b1, b2, b3, b4, b5, b6⟩ := HB
    refine ⟨b1, b2, ?_, ?_, ?_, ?_⟩
    · rw [ne _ (by rw [b2]; omega)]; exact b3
    · rw [ne _ (by rw [b2]; omega)]; exact b4
    · rw [ne _ (by rw [b2]; omega)]; exact b5
    · rw [ne _ (by rw [xs_k0 H]; omega), b6]; exact (tot_put S v a b _).symm
theorem put_back {h : AH} {e : Nat} {x0 y0 : Int32} (h3 : h.I e 3 = x0) (h4 : h.I e 4 = y0) (a b : Int32) : ((((h.setI e 3 a).setI e 4 b).setI e 3 x0).setI e 4 y0) = h := by
  refine AH.ext rfl rfl rfl ?_ (fun _ _ => rfl) (fun _ _ => rfl)
  intro c j
  rw [AH.I_setI, AH.I_setI, AH.I_setI, AH.I_setI]
  by_cases c1 : c = e
  · subst c1
    by_cases c2 : j = 4
    · subst c2; simp [h4]
    · by_cases c3 : j = 3
      · subst c3; simp [h3]
      · simp [c2, c3]
  · simp [c1]
theorem setM_ne {m : Nat} {h : AH} {c : Nat} (h1 : c ≠ m + 3) (h2 : c ≠ m + 6) (v : Nat) (a b : Int32) : ((h.setI (m + 3) v a).setI (m + 6) v b).I c = h.I c := by
  funext j
  rw [AH.I_setI, if_neg (fun z => h2 z.1), AH.I_setI, if_neg (fun z => h1 z.1)]
theorem MA_put {m : Nat} {h : AH} {S : St} (M : MA m h S) (v : Nat) (a b : Int32) : MA m ((h.setI (m + 3) v a).setI (m + 6) v b) (S.put v a b) := by
  obtain ⟨H, HV, HP, HB⟩ := M
  refine ⟨H, ⟨?_, HV.2.1, ?_⟩, ?_, ?_⟩
  · rw [setM_ne (by omega) (by omega)]; exact HV.1
  · intro w hw
    obtain ⟨g1, g2, g3, g4, g5, g6⟩ := HV.2.2 w hw
    rw [setM_ne (c := m + 9) (by omega) (by omega), setM_ne (c := m + 12) (by omega) (by omega), setM_ne (c := m + 15) (by omega) (by omega), setM_ne (c := m + 18) (by omega) (by omega)]
    refine ⟨?_, ?_, ?_, ?_, ?_, ?_⟩
    · rw [put_V, AH.I_setI, AH.I_setI]
      by_cases c : w = v <;> simp [c, g1]
    · rw [put_V, AH.I_setI, AH.I_setI]
      by_cases c : w = v <;> simp [c, g2]
    · rw [put_V2 _ _ _ _ _ (by omega) (by omega)]; exact g3
    · rw [put_V2 _ _ _ _ _ (by omega) (by omega)]; exact g4
    · rw [put_V2 _ _ _ _ _ (by omega) (by omega)]; exact g5
    · rw [put_V2 _ _ _ _ _ (by omega) (by omega)]; exact g6
  · unfold MP
    rw [setM_ne (c := m + 27) (by omega) (by omega), setM_ne (c := m + 21) (by omega) (by omega), setM_ne (c := m + 24) (by omega) (by omega)]
    exact HP
  · unfold MB
    rw [setM_ne (c := m + 28) (by omega) (by omega), setM_ne (c := m + 29) (by omega) (by omega), setM_ne (c := m + 30) (by omega) (by omega)]
    exact HB
theorem put_backM {m : Nat} {h : AH} {v : Nat} {x0 y0 : Int32} (h3 : h.I (m + 3) v = x0) (h4 : h.I (m + 6) v = y0) (a b : Int32) : ((((h.setI (m + 3) v a).setI (m + 6) v b).setI (m + 3) v x0).setI (m + 6) v y0) = h := by
  refine AH.ext rfl rfl rfl ?_ (fun _ _ => rfl) (fun _ _ => rfl)
  intro c j
  rw [AH.I_setI, AH.I_setI, AH.I_setI, AH.I_setI]
  by_cases c1 : c = m + 3
  · subst c1
    by_cases c2 : j = v
    · subst c2; simp [h3]
    · simp [c2]
  · by_cases c3 : c = m + 6
    · subst c3
      by_cases c2 : j = v
      · subst c2; simp [h4]
      · simp [c2]
    · simp [c1, c3]
abbrev M3 : Type := Int32 × Int32 × Int32
def mkC (S : St) (v p : Nat) : Int32 := S.V v 2 * ((S.P p 0 - S.V v 0) * (S.P p 0 - S.V v 0) + (S.P p 1 - S.V v 1) * (S.P p 1 - S.V v 1))
def mkG (S : St) (v p : Nat) (s : M3) : M3 := if s.2.2 = -1 ∨ mkC S v p < s.1 then (if peaceS (S.put v (S.P p 0) (S.P p 1)) = -1 then s else (mkC S v p, nI p, nI v)) else s
def mkF (S : St) : M3 := foldS (fun v s => foldS (mkG S v) s S.np) (0, -1, -1) S.nv
def mkS (S : St) (w : Int32) : Int32 := if inS w 0 2 = true then (if (mkF S).2.2 = -1 then -1 else if w = 0 then (mkF S).2.2 else if w = 1 then (mkF S).2.1 else (mkF S).1) else -1
theorem x_make {n : Nat} {K : Nat → Nat} {x : Nat} {h : AH} {ev ep b : Nat} {Ev Ep : Nat → Nat} {S : St} (hn : 20000 < n) (X : XA K x h ev Ev ep Ep b S) (inj : ∀ v w, v < S.nv → w < S.nv → Ev v = Ev w → v = w) (w : Int32) : F_X0_make n K x w h = some (mkS S w, h) := by
  have h20 := xnp hn X
  have h15 := xnv hn X
  have inner : ∀ v, v < S.nv → ∀ (s : M3) kk, F_X0_make_L64 n K (S.V v 1) (S.V v 0) (Ev v) (nI v) x w n 0 s.1 s.2.1 s.2.2 h kk = kk (foldS (mkG S v) s S.np).1 (foldS (mkG S v) s S.np).2.1 (foldS (mkG S v) s S.np).2.2 h := by
    intro v hv s kk
    obtain ⟨gk, f3, f0, f1, f2, f4, f5⟩ := X.2.1.2.2 v hv
    exact loopF (fun f p (s : M3) => F_X0_make_L64 n K (S.V v 1) (S.V v 0) (Ev v) (nI v) x w f p s.1 s.2.1 s.2.2 h kk) S.np (mkG S v) (fun s => kk s.1 s.2.1 s.2.2 h) s
      (by
        intro f p s hp
        obtain ⟨p1, p2, p3⟩ := X.2.2.1.2.2 p hp
        have e3 : (nI S.np ≤ nI p) = False := eq_false (nI_ge hp (by omega))
        have X' := XA_put X inj hv (S.P p 0) (S.P p 1)
        have g71 : F_J2_get n K (x + 6) (nI p) (h.setI (Ev v) 3 (S.P p 0)) = some (some (Ep p), h.setI (Ev v) 3 (S.P p 0)) := by
          refine l_get (Ls_of (h' := h.setI (Ev v) 3 (S.P p 0)) X.2.2.1.1 rfl rfl rfl ?_) hp
          rw [AH.I_setI, if_neg]
          intro z
          have := X.2.2.1.1.1
          rw [z.1] at this; omega
        have i71 : (h.setI (Ev v) 3 (S.P p 0)).I (Ep p) 1 = S.P p 1 := by
          rw [AH.I_setI, if_neg (fun z => by rw [z.1] at p1; omega)]; exact p3
        have hb := put_back f0 f1 (S.P p 0) (S.P p 1)
        have ec : S.V v 2 * ((S.P p 0 - S.V v 0) * (S.P p 0 - S.V v 0) + (S.P p 1 - S.V v 1) * (S.P p 1 - S.V v 1)) = mkC S v p := rfl
        simp only [F_X0_make_L64, F_X5_far, chk_true, bnd_some, ob_some, oc_some, oc_none, hl_eq, jn_eq, ix_0, ix_1, if_true, if_false, inb0_2, inb1_2, not_true_eq_false, not_false_eq_true, ite_true, ite_false, true_or, or_true, or_self, zero_eq_one_I, one_eq_zero_I, AH.n_setI, AH.n_setL, AH.n_setR, AH.sl_setI, AH.sl_setL, AH.sl_setR, AH.kind_setI, AH.kind_setL, AH.kind_setR, AH.len_setI, AH.len_setL, AH.len_setR, AH.I_setL, AH.I_setR, AH.L_setI, AH.L_setR, AH.R_setI, AH.R_setL, xs_k0, xs_k1, xs_n1, xs_k2, xs_k3, xs_k4, xs_k5, xs_k6, xs_k7, xs_k8, xs_k9, xs_k10, xs_k11, xs_n11, xs_k12, xs_n12, xs_k13, xs_n13, xs_k14, xs_n14, xs_k15, xs_n15, xs_k16, xs_n16, xs_k17, xs_n17, xs_k18, xs_n18, xs_k27, xs_n27, xs_k28, xs_n28, xs_r0_0, xs_r0_1, xs_r2_8, xs_r2_9, xs_r0_2, xs_r0_3, xs_r0_4, xs_r0_8, xs_r0_9, xs_r0_10, xs_r0_18, xs_r0_19, xs_r0_20, xs_r0_21, xs_r0_22, xs_r0_25, xs_r0_26, xs_r0_27, xs_r0_28, X.1, x_psize hn X, x_pget hn X hp, e3, gk, and_self, p1, p2, p3, f0, f1, f2, g71, i71, x_peace hn X', hb, ec, nI_1, mkG]
        by_cases c1 : s.2.2 = -1
        · by_cases c2 : peaceS (S.put v (S.P p 0) (S.P p 1)) = -1 <;> simp [c1, c2]
        · by_cases c3 : mkC S v p < s.1
          · by_cases c2 : peaceS (S.put v (S.P p 0) (S.P p 1)) = -1 <;> simp [c1, c2, c3]
          · simp [c1, c3])
      (by
        intro f s
        have e3 : (nI S.np ≤ nI S.np) = True := eq_true (nI_le (Nat.le_refl _) (by omega))
        simp only [F_X0_make_L64, chk_true, bnd_some, ob_some, oc_some, oc_none, hl_eq, jn_eq, ix_0, ix_1, if_true, if_false, inb0_2, inb1_2, not_true_eq_false, not_false_eq_true, ite_true, ite_false, true_or, or_true, or_self, zero_eq_one_I, one_eq_zero_I, xs_k0, xs_k1, xs_n1, xs_k2, xs_k3, xs_k4, xs_k5, xs_k6, xs_k7, xs_k8, xs_k9, xs_k10, xs_k11, xs_n11, xs_k12, xs_n12, xs_k13, xs_n13, xs_k14, xs_n14, xs_k15, xs_n15, xs_k16, xs_n16, xs_k17, xs_n17, xs_k18, xs_n18, xs_k27, xs_n27, xs_k28, xs_n28, xs_r0_0, xs_r0_1, xs_r2_8, xs_r2_9, xs_r0_2, xs_r0_3, xs_r0_4, xs_r0_8, xs_r0_9, xs_r0_10, xs_r0_18, xs_r0_19, xs_r0_20, xs_r0_21, xs_r0_22, xs_r0_25, xs_r0_26, xs_r0_27, xs_r0_28, X.1, x_psize hn X, e3]) n (by omega)
  have outer := loopF (fun f v (s : M3) => F_X0_make_L21 n K x w f v s.1 s.2.1 s.2.2 h) S.nv (fun v s => foldS (mkG S v) s S.np) (fun s => some (if s.2.2 = -1 then -1 else if w = 0 then s.2.2 else if w = 1 then s.2.1 else s.1, h)) (0, -1, -1)
    (by
      intro f v s hv
      obtain ⟨gk, f3, f0, f1, f2, f4, f5⟩ := X.2.1.2.2 v hv
      have e3 : (nI S.nv ≤ nI v) = False := eq_false (nI_ge hv (by omega))
      simp only [F_X0_make_L21, chk_true, bnd_some, ob_some, oc_some, oc_none, hl_eq, jn_eq, ix_0, ix_1, if_true, if_false, inb0_2, inb1_2, not_true_eq_false, not_false_eq_true, ite_true, ite_false, true_or, or_true, or_self, zero_eq_one_I, one_eq_zero_I, xs_k0, xs_k1, xs_n1, xs_k2, xs_k3, xs_k4, xs_k5, xs_k6, xs_k7, xs_k8, xs_k9, xs_k10, xs_k11, xs_n11, xs_k12, xs_n12, xs_k13, xs_n13, xs_k14, xs_n14, xs_k15, xs_n15, xs_k16, xs_n16, xs_k17, xs_n17, xs_k18, xs_n18, xs_k27, xs_n27, xs_k28, xs_n28, xs_r0_0, xs_r0_1, xs_r2_8, xs_r2_9, xs_r0_2, xs_r0_3, xs_r0_4, xs_r0_8, xs_r0_9, xs_r0_10, xs_r0_18, xs_r0_19, xs_r0_20, xs_r0_21, xs_r0_22, xs_r0_25, xs_r0_26, xs_r0_27, xs_r0_28, X.1, x_vsize hn X, x_vget hn X hv, e3, gk, and_self, f0, f1, inner v hv, nI_1])
    (by
      intro f s
      have e3 : (nI S.nv ≤ nI S.nv) = True := eq_true (nI_le (Nat.le_refl _) (by omega))
      simp only [F_X0_make_L21, chk_true, bnd_some, ob_some, oc_some, oc_none, hl_eq, jn_eq, ix_0, ix_1, if_true, if_false, inb0_2, inb1_2, not_true_eq_false, not_false_eq_true, ite_true, ite_false, true_or, or_true, or_self, zero_eq_one_I, one_eq_zero_I, xs_k0, xs_k1, xs_n1, xs_k2, xs_k3, xs_k4, xs_k5, xs_k6, xs_k7, xs_k8, xs_k9, xs_k10, xs_k11, xs_n11, xs_k12, xs_n12, xs_k13, xs_n13, xs_k14, xs_n14, xs_k15, xs_n15, xs_k16, xs_n16, xs_k17, xs_n17, xs_k18, xs_n18, xs_k27, xs_n27, xs_k28, xs_n28, xs_r0_0, xs_r0_1, xs_r2_8, xs_r2_9, xs_r0_2, xs_r0_3, xs_r0_4, xs_r0_8, xs_r0_9, xs_r0_10, xs_r0_18, xs_r0_19, xs_r0_20, xs_r0_21, xs_r0_22, xs_r0_25, xs_r0_26, xs_r0_27, xs_r0_28, X.1, x_vsize hn X, e3]
      by_cases c1 : s.2.2 = -1
      · simp [c1]
      · by_cases c2 : w = 0
        · simp [c1, c2]
        · by_cases c3 : w = 1 <;> simp [c1, c2, c3]) n (by omega)
  simp only [F_X0_make, mkS, x_in, chk_true, bnd_some, ob_some, oc_some, oc_none, hl_eq, jn_eq, ix_0, ix_1, if_true, if_false, inb0_2, inb1_2, not_true_eq_false, not_false_eq_true, ite_true, ite_false, true_or, or_true, or_self, zero_eq_one_I, one_eq_zero_I, bI_0]
  cases inS w 0 2
  · simp
  · simp only [Bool.true_eq_false, chk_true, bnd_some, ob_some, oc_some, oc_none, hl_eq, jn_eq, ix_0, ix_1, if_true, if_false, inb0_2, inb1_2, not_true_eq_false, not_false_eq_true, ite_true, ite_false, true_or, or_true, or_self, zero_eq_one_I, one_eq_zero_I]
    exact outer
theorem m_make {n : Nat} {K : Nat → Nat} {m : Nat} {h : AH} {S : St} (hn : 20000 < n) (M : MA m h S) (w : Int32) : F_X3_make n K m w h = some (mkS S w, h) := by
  have h20 := mnp hn M
  have h15 := mnv hn M
  have inner : ∀ v, v < S.nv → ∀ (s : M3) kk, F_X3_make_L58 n K (S.V v 1) (S.V v 0) (nI v) m w n 0 s.1 s.2.1 s.2.2 h kk = kk (foldS (mkG S v) s S.np).1 (foldS (mkG S v) s S.np).2.1 (foldS (mkG S v) s S.np).2.2 h := by
    intro v hv s kk
    obtain ⟨g0, g1, g2, g3, g4, g5⟩ := M.2.1.2.2 v hv
    have e4 : ix (nI v) = v := ix_nI (by omega)
    have e5 : inb (nI v) 15 = True := eq_true ((inb_nI (by omega)).2 (by omega))
    exact loopF (fun f p (s : M3) => F_X3_make_L58 n K (S.V v 1) (S.V v 0) (nI v) m w f p s.1 s.2.1 s.2.2 h kk) S.np (mkG S v) (fun s => kk s.1 s.2.1 s.2.2 h) s
      (by
        intro f p s hp
        obtain ⟨p2, p3⟩ := M.2.2.1.2.2 p hp
        have e3 : (nI S.np ≤ nI p) = False := eq_false (nI_ge hp (by omega))
        have e1 : ix (nI p) = p := ix_nI (by omega)
        have e2 : inb (nI p) 20 = True := eq_true ((inb_nI (by omega)).2 (by omega))
        have M' := MA_put M v (S.P p 0) (S.P p 1)
        have i71 : (h.setI (m + 3) v (S.P p 0)).I (m + 24) p = S.P p 1 := by
          rw [AH.I_setI, if_neg (by omega)]; exact p3
        have hb := put_backM g0 g1 (S.P p 0) (S.P p 1)
        have ec : ((S.P p 0 - S.V v 0) * (S.P p 0 - S.V v 0) + (S.P p 1 - S.V v 1) * (S.P p 1 - S.V v 1)) * S.V v 2 = mkC S v p := Int32.mul_comm _ _
        simp only [F_X3_make_L58, chk_true, bnd_some, ob_some, oc_some, oc_none, hl_eq, jn_eq, ix_0, ix_1, if_true, if_false, inb0_2, inb1_2, not_true_eq_false, not_false_eq_true, ite_true, ite_false, true_or, or_true, or_self, zero_eq_one_I, one_eq_zero_I, AH.n_setI, AH.n_setL, AH.n_setR, AH.sl_setI, AH.sl_setL, AH.sl_setR, AH.kind_setI, AH.kind_setL, AH.kind_setR, AH.len_setI, AH.len_setL, AH.len_setR, AH.I_setL, AH.I_setR, AH.L_setI, AH.L_setR, AH.R_setI, AH.R_setL, ms_k0, ms_k1, ms_n1, ms_k2, ms_n2, ms_k3, ms_n3, ms_k4, ms_n4, ms_k5, ms_n5, ms_k6, ms_n6, ms_k7, ms_n7, ms_k8, ms_n8, ms_k9, ms_n9, ms_k10, ms_n10, ms_k11, ms_n11, ms_k12, ms_n12, ms_k13, ms_n13, ms_k14, ms_n14, ms_k15, ms_n15, ms_k16, ms_n16, ms_k17, ms_n17, ms_k18, ms_n18, ms_k19, ms_n19, ms_k20, ms_n20, ms_k21, ms_n21, ms_k22, ms_n22, ms_k23, ms_n23, ms_k24, ms_n24, ms_k25, ms_n25, ms_k26, ms_n26, ms_k27, ms_n27, ms_k28, ms_n28, ms_k29, ms_n29, ms_k30, ms_n30, ms_k31, ms_n31, ms_k32, ms_n32, ms_k33, ms_n33, ms_k34, ms_n34, ms_k35, ms_n35, ms_k36, ms_n36, ms_k37, ms_n37, ms_k38, ms_n38, ms_k39, ms_n39, ms_k40, ms_n40, ms_k41, ms_n41, ms_k50, ms_n50, ms_k51, ms_n51, ms_k52, ms_n52, ms_k53, ms_n53, ms_r0_0, ms_r0_6, ms_r2_0, ms_r2_1, ms_r0_7, ms_r5_0, ms_r5_1, ms_r0_8, ms_r8_0, ms_r8_1, ms_r0_9, ms_r11_0, ms_r11_1, ms_r0_10, ms_r14_0, ms_r14_1, ms_r0_11, ms_r17_0, ms_r17_1, ms_r0_12, ms_r20_0, ms_r20_1, ms_r0_13, ms_r23_0, ms_r23_1, ms_r0_14, ms_r0_15, ms_r0_16, ms_r0_17, ms_r0_18, ms_r0_23, ms_r0_24, ms_r0_25, ms_r0_26, ms_r0_30, ms_r0_31, ms_r0_32, ms_r0_35, ms_r0_36, ms_r0_39, ms_r0_40, ms_r0_41, ms_r0_42, ms_r0_43, ms_r0_47, M.1, m_placesA hn M, e3, e1, e2, e4, e5, p2, p3, g2, i71, m_peace hn M', hb, ec, nI_1, mkG]
        by_cases c1 : s.2.2 = -1
        · by_cases c2 : peaceS (S.put v (S.P p 0) (S.P p 1)) = -1 <;> simp [c1, c2]
        · by_cases c3 : mkC S v p < s.1
          · by_cases c2 : peaceS (S.put v (S.P p 0) (S.P p 1)) = -1 <;> simp [c1, c2, c3]
          · simp [c1, c3])
      (by
        intro f s
        have e3 : (nI S.np ≤ nI S.np) = True := eq_true (nI_le (Nat.le_refl _) (by omega))
        simp only [F_X3_make_L58, chk_true, bnd_some, ob_some, oc_some, oc_none, hl_eq, jn_eq, ix_0, ix_1, if_true, if_false, inb0_2, inb1_2, not_true_eq_false, not_false_eq_true, ite_true, ite_false, true_or, or_true, or_self, zero_eq_one_I, one_eq_zero_I, ms_k0, ms_k1, ms_n1, ms_k2, ms_n2, ms_k3, ms_n3, ms_k4, ms_n4, ms_k5, ms_n5, ms_k6, ms_n6, ms_k7, ms_n7, ms_k8, ms_n8, ms_k9, ms_n9, ms_k10, ms_n10, ms_k11, ms_n11, ms_k12, ms_n12, ms_k13, ms_n13, ms_k14, ms_n14, ms_k15, ms_n15, ms_k16, ms_n16, ms_k17, ms_n17, ms_k18, ms_n18, ms_k19, ms_n19, ms_k20, ms_n20, ms_k21, ms_n21, ms_k22, ms_n22, ms_k23, ms_n23, ms_k24, ms_n24, ms_k25, ms_n25, ms_k26, ms_n26, ms_k27, ms_n27, ms_k28, ms_n28, ms_k29, ms_n29, ms_k30, ms_n30, ms_k31, ms_n31, ms_k32, ms_n32, ms_k33, ms_n33, ms_k34, ms_n34, ms_k35, ms_n35, ms_k36, ms_n36, ms_k37, ms_n37, ms_k38, ms_n38, ms_k39, ms_n39, ms_k40, ms_n40, ms_k41, ms_n41, ms_k50, ms_n50, ms_k51, ms_n51, ms_k52, ms_n52, ms_k53, ms_n53, ms_r0_0, ms_r0_6, ms_r2_0, ms_r2_1, ms_r0_7, ms_r5_0, ms_r5_1, ms_r0_8, ms_r8_0, ms_r8_1, ms_r0_9, ms_r11_0, ms_r11_1, ms_r0_10, ms_r14_0, ms_r14_1, ms_r0_11, ms_r17_0, ms_r17_1, ms_r0_12, ms_r20_0, ms_r20_1, ms_r0_13, ms_r23_0, ms_r23_1, ms_r0_14, ms_r0_15, ms_r0_16, ms_r0_17, ms_r0_18, ms_r0_23, ms_r0_24, ms_r0_25, ms_r0_26, ms_r0_30, ms_r0_31, ms_r0_32, ms_r0_35, ms_r0_36, ms_r0_39, ms_r0_40, ms_r0_41, ms_r0_42, ms_r0_43, ms_r0_47, M.1, m_placesA hn M, e3]) n (by omega)
  have outer := loopF (fun f v (s : M3) => F_X3_make_L24 n K m w f v s.1 s.2.1 s.2.2 h) S.nv (fun v s => foldS (mkG S v) s S.np) (fun s => some (if s.2.2 = -1 then -1 else if w = 0 then s.2.2 else if w = 1 then s.2.1 else s.1, h)) (0, -1, -1)
    (by
      intro f v s hv
      obtain ⟨g0, g1, g2, g3, g4, g5⟩ := M.2.1.2.2 v hv
      have e4 : ix (nI v) = v := ix_nI (by omega)
      have e5 : inb (nI v) 15 = True := eq_true ((inb_nI (by omega)).2 (by omega))
      have e3 : (nI S.nv ≤ nI v) = False := eq_false (nI_ge hv (by omega))
      simp only [F_X3_make_L24, chk_true, bnd_some, ob_some, oc_some, oc_none, hl_eq, jn_eq, ix_0, ix_1, if_true, if_false, inb0_2, inb1_2, not_true_eq_false, not_false_eq_true, ite_true, ite_false, true_or, or_true, or_self, zero_eq_one_I, one_eq_zero_I, ms_k0, ms_k1, ms_n1, ms_k2, ms_n2, ms_k3, ms_n3, ms_k4, ms_n4, ms_k5, ms_n5, ms_k6, ms_n6, ms_k7, ms_n7, ms_k8, ms_n8, ms_k9, ms_n9, ms_k10, ms_n10, ms_k11, ms_n11, ms_k12, ms_n12, ms_k13, ms_n13, ms_k14, ms_n14, ms_k15, ms_n15, ms_k16, ms_n16, ms_k17, ms_n17, ms_k18, ms_n18, ms_k19, ms_n19, ms_k20, ms_n20, ms_k21, ms_n21, ms_k22, ms_n22, ms_k23, ms_n23, ms_k24, ms_n24, ms_k25, ms_n25, ms_k26, ms_n26, ms_k27, ms_n27, ms_k28, ms_n28, ms_k29, ms_n29, ms_k30, ms_n30, ms_k31, ms_n31, ms_k32, ms_n32, ms_k33, ms_n33, ms_k34, ms_n34, ms_k35, ms_n35, ms_k36, ms_n36, ms_k37, ms_n37, ms_k38, ms_n38, ms_k39, ms_n39, ms_k40, ms_n40, ms_k41, ms_n41, ms_k50, ms_n50, ms_k51, ms_n51, ms_k52, ms_n52, ms_k53, ms_n53, ms_r0_0, ms_r0_6, ms_r2_0, ms_r2_1, ms_r0_7, ms_r5_0, ms_r5_1, ms_r0_8, ms_r8_0, ms_r8_1, ms_r0_9, ms_r11_0, ms_r11_1, ms_r0_10, ms_r14_0, ms_r14_1, ms_r0_11, ms_r17_0, ms_r17_1, ms_r0_12, ms_r20_0, ms_r20_1, ms_r0_13, ms_r23_0, ms_r23_1, ms_r0_14, ms_r0_15, ms_r0_16, ms_r0_17, ms_r0_18, ms_r0_23, ms_r0_24, ms_r0_25, ms_r0_26, ms_r0_30, ms_r0_31, ms_r0_32, ms_r0_35, ms_r0_36, ms_r0_39, ms_r0_40, ms_r0_41, ms_r0_42, ms_r0_43, ms_r0_47, M.1, m_votersA hn M, e3, e4, e5, g0, g1, inner v hv, nI_1])
    (by
      intro f s
      have e3 : (nI S.nv ≤ nI S.nv) = True := eq_true (nI_le (Nat.le_refl _) (by omega))
      simp only [F_X3_make_L24, chk_true, bnd_some, ob_some, oc_some, oc_none, hl_eq, jn_eq, ix_0, ix_1, if_true, if_false, inb0_2, inb1_2, not_true_eq_false, not_false_eq_true, ite_true, ite_false, true_or, or_true, or_self, zero_eq_one_I, one_eq_zero_I, ms_k0, ms_k1, ms_n1, ms_k2, ms_n2, ms_k3, ms_n3, ms_k4, ms_n4, ms_k5, ms_n5, ms_k6, ms_n6, ms_k7, ms_n7, ms_k8, ms_n8, ms_k9, ms_n9, ms_k10, ms_n10, ms_k11, ms_n11, ms_k12, ms_n12, ms_k13, ms_n13, ms_k14, ms_n14, ms_k15, ms_n15, ms_k16, ms_n16, ms_k17, ms_n17, ms_k18, ms_n18, ms_k19, ms_n19, ms_k20, ms_n20, ms_k21, ms_n21, ms_k22, ms_n22, ms_k23, ms_n23, ms_k24, ms_n24, ms_k25, ms_n25, ms_k26, ms_n26, ms_k27, ms_n27, ms_k28, ms_n28, ms_k29, ms_n29, ms_k30, ms_n30, ms_k31, ms_n31, ms_k32, ms_n32, ms_k33, ms_n33, ms_k34, ms_n34, ms_k35, ms_n35, ms_k36, ms_n36, ms_k37, ms_n37, ms_k38, ms_n38, ms_k39, ms_n39, ms_k40, ms_n40, ms_k41, ms_n41, ms_k50, ms_n50, ms_k51, ms_n51, ms_k52, ms_n52, ms_k53, ms_n53, ms_r0_0, ms_r0_6, ms_r2_0, ms_r2_1, ms_r0_7, ms_r5_0, ms_r5_1, ms_r0_8, ms_r8_0, ms_r8_1, ms_r0_9, ms_r11_0, ms_r11_1, ms_r0_10, ms_r14_0, ms_r14_1, ms_r0_11, ms_r17_0, ms_r17_1, ms_r0_12, ms_r20_0, ms_r20_1, ms_r0_13, ms_r23_0, ms_r23_1, ms_r0_14, ms_r0_15, ms_r0_16, ms_r0_17, ms_r0_18, ms_r0_23, ms_r0_24, ms_r0_25, ms_r0_26, ms_r0_30, ms_r0_31, ms_r0_32, ms_r0_35, ms_r0_36, ms_r0_39, ms_r0_40, ms_r0_41, ms_r0_42, ms_r0_43, ms_r0_47, M.1, m_votersA hn M, e3]
      by_cases c1 : s.2.2 = -1
      · simp [c1]
      · by_cases c2 : w = 0
        · simp [c1, c2]
        · by_cases c3 : w = 1 <;> simp [c1, c2, c3]) n (by omega)
  simp only [F_X3_make, mkS, m_inC w 2 (C := 2) (by decide), chk_true, bnd_some, ob_some, oc_some, oc_none, hl_eq, jn_eq, ix_0, ix_1, if_true, if_false, inb0_2, inb1_2, not_true_eq_false, not_false_eq_true, ite_true, ite_false, true_or, or_true, or_self, zero_eq_one_I, one_eq_zero_I, bI_0]
  cases inS w 0 2
  · simp
  · simp only [Bool.true_eq_false, chk_true, bnd_some, ob_some, oc_some, oc_none, hl_eq, jn_eq, ix_0, ix_1, if_true, if_false, inb0_2, inb1_2, not_true_eq_false, not_false_eq_true, ite_true, ite_false, true_or, or_true, or_self, zero_eq_one_I, one_eq_zero_I]
    exact outer
