/-! PURE PART QD: pieces, the sheet's and the model's -/
set_option maxRecDepth 100000
def Fil (pc : Int32) (po po' : Nat → Int32) : Prop := ∀ j, po' j = po j ∨ (po j = -2 ∧ po' j = pc)
theorem fil_trans {pc : Int32} {a b c : Nat → Int32} (h1 : Fil pc a b) (h2 : Fil pc b c) : Fil pc a c := by
  intro j
  rcases h1 j with e1 | ⟨e1, e2⟩
  · rcases h2 j with e3 | ⟨e3, e4⟩
    · left; rw [e3, e1]
    · right; exact ⟨by rw [← e1]; exact e3, e4⟩
  · rcases h2 j with e3 | ⟨_, e4⟩
    · right; exact ⟨e1, by rw [e3]; exact e2⟩
    · right; exact ⟨e1, e4⟩
theorem fil_spr (pc a b : Int32) (t : TT) : Fil pc t.1 (sprS pc a b t).1 := by
  unfold sprS
  by_cases c : ptS a b = true ∧ t.1 (ptI a b) = -2
  · rw [if_pos c]
    intro j
    by_cases c2 : j = ptI a b
    · right; subst c2; exact ⟨c.2, if_pos rfl⟩
    · left; exact if_neg c2
  · rw [if_neg c]; intro j; left; rfl
theorem fil_fl (pc : Int32) : ∀ r k (t : TT), Fil pc t.1 (flS pc r k t).1 := by
  intro r
  induction r with
  | zero => intro k t j; left; rfl
  | succ r ih =>
    intro k t
    rw [flS]
    by_cases c : t.2.2 ≤ k
    · rw [if_pos c]; intro j; left; rfl
    · rw [if_neg c]
      refine fil_trans ?_ (ih (k + 1) _)
      unfold spr4
      exact fil_trans (fil_spr _ _ _ _) (fil_trans (fil_spr _ _ _ _) (fil_trans (fil_spr _ _ _ _) (fil_spr _ _ _ _)))
theorem ok_fl {pc : Int32} (hp : pc ≠ -2) : ∀ r k (t : TT), okT pc t → okT pc (flS pc r k t) := by
  intro r
  induction r with
  | zero => intro k t h; exact h
  | succ r ih =>
    intro k t h
    rw [flS]
    by_cases c : t.2.2 ≤ k
    · rw [if_pos c]; exact h
    · rw [if_neg c]
      refine ih (k + 1) _ ?_
      unfold spr4
      exact ok_spr hp (ok_spr hp (ok_spr hp (ok_spr hp h)))
theorem nI_m2 {k : Nat} (h : k < 1000000) : nI k ≠ -2 := by
  intro e
  have := nI_pos (n := k) (by omega)
  rw [e] at this
  exact this (by decide)
theorem nI_n1 {k : Nat} (h : k < 1000000) : nI k ≠ -1 := by
  intro e
  have := nI_pos (n := k) (by omega)
  rw [e] at this
  exact this (by decide)
def okU (p : Nat) (u : UU) : Prop := u.2.2.2.2 ≤ p ∧ (∀ j, j < p → u.1 j ≠ -2) ∧ (∀ j, j < 10000 → u.1 j = -1 ∨ u.1 j = -2 ∨ ∃ k, k < u.2.2.2.2 ∧ u.1 j = nI k) ∧ (∀ k, k < u.2.2.2.2 → ∃ f, f < 10000 ∧ u.2.2.1 k = nI f ∧ u.1 f = nI k ∧ (∀ j, j < f → u.1 j ≠ nI k) ∧ u.2.2.2.1 k = nI (cntS u.1 (nI k) 10000))
theorem cnt_zero {po : Nat → Int32} {v : Int32} : ∀ {N : Nat}, (∀ j, j < N → po j ≠ v) → cntS po v N = 0 := by
  intro N
  induction N with
  | zero => intro _; rfl
  | succ N ih => intro h; rw [cntS, ih (fun j hj => h j (by omega)), if_neg (h N (by omega))]
theorem ok_fill0 {p : Nat} {u : UU} (hp : p < 10000) (ok : okU p u) (h2 : u.1 p = -2) : okT (nI u.2.2.2.2) (up1 u.1 p (nI u.2.2.2.2), up1 u.2.1 0 (nI p), 1) := by
  obtain ⟨o1, o2, o3, o4⟩ := ok
  have z : cntS u.1 (nI u.2.2.2.2) 10000 = 0 := by
    refine cnt_zero ?_
    intro j hj e
    rcases o3 j hj with h | h | ⟨k, hk, h⟩
    · rw [h] at e; exact nI_n1 (k := u.2.2.2.2) (by omega) e.symm
    · rw [h] at e; exact nI_m2 (k := u.2.2.2.2) (by omega) e.symm
    · rw [h] at e
      have := (nI_eq (by omega) (by omega)).1 e
      omega
  show cntS (up1 u.1 p (nI u.2.2.2.2)) (nI u.2.2.2.2) 10000 = 1
  rw [cnt_up (by rw [h2]; exact fun e => nI_m2 (k := u.2.2.2.2) (by omega) e.symm) hp, z]
theorem ok_ptStep {p : Nat} {u : UU} (hp : p < 10000) (ok : okU p u) : okU (p + 1) (ptStep p u) := by
  unfold ptStep
  by_cases h2 : u.1 p = -2
  · rw [if_pos h2]
    have k0 := ok_fill0 hp ok h2
    obtain ⟨o1, o2, o3, o4⟩ := ok
    have hc : nI u.2.2.2.2 ≠ -2 := nI_m2 (by omega)
    have F1 : Fil (nI u.2.2.2.2) u.1 (up1 u.1 p (nI u.2.2.2.2)) := by
      intro j
      by_cases c : j = p
      · subst c; right; exact ⟨h2, if_pos rfl⟩
      · left; exact if_neg c
    have F2 := fil_fl (nI u.2.2.2.2) 10001 0 (up1 u.1 p (nI u.2.2.2.2), up1 u.2.1 0 (nI p), 1)
    have F3 := fil_trans F1 F2
    have k1 := ok_fl hc 10001 0 _ k0
    have ep : (fill0 u.2.2.2.2 p u.1 u.2.1).1 p = nI u.2.2.2.2 := by
      rcases F2 p with e | ⟨_, e⟩
      · exact e.trans (if_pos rfl)
      · exact e
    refine ⟨by show u.2.2.2.2 + 1 ≤ p + 1; omega, ?_, ?_, ?_⟩
    · intro j hj
      show (fill0 u.2.2.2.2 p u.1 u.2.1).1 j ≠ -2
      by_cases c : j = p
      · subst c; rw [ep]; exact hc
      · rcases F3 j with e | ⟨_, e⟩
        · intro e2
          exact o2 j (by omega) (e.symm.trans e2)
        · intro e2
          exact hc (e.symm.trans e2)
    · intro j hj
      show (fill0 u.2.2.2.2 p u.1 u.2.1).1 j = -1 ∨ (fill0 u.2.2.2.2 p u.1 u.2.1).1 j = -2 ∨ ∃ k, k < u.2.2.2.2 + 1 ∧ (fill0 u.2.2.2.2 p u.1 u.2.1).1 j = nI k
      rcases F3 j with e | ⟨_, e⟩
      · rcases o3 j hj with h | h | ⟨k, hk, h⟩
        · exact Or.inl (e.trans h)
        · exact Or.inr (Or.inl (e.trans h))
        · exact Or.inr (Or.inr ⟨k, by omega, e.trans h⟩)
      · exact Or.inr (Or.inr ⟨u.2.2.2.2, by omega, e⟩)
    · intro k hk
      have hk' : k < u.2.2.2.2 + 1 := hk
      show ∃ f, f < 10000 ∧ up1 u.2.2.1 u.2.2.2.2 (nI p) k = nI f ∧ (fill0 u.2.2.2.2 p u.1 u.2.1).1 f = nI k ∧ (∀ j, j < f → (fill0 u.2.2.2.2 p u.1 u.2.1).1 j ≠ nI k) ∧ up1 u.2.2.2.1 u.2.2.2.2 (nI (fill0 u.2.2.2.2 p u.1 u.2.1).2.2) k = nI (cntS (fill0 u.2.2.2.2 p u.1 u.2.1).1 (nI k) 10000)
      by_cases c : k = u.2.2.2.2
      · subst c
        refine ⟨p, hp, if_pos rfl, ep, ?_, ?_⟩
        · intro j hj e2
          rcases F3 j with e | ⟨e, _⟩
          · rw [show (fill0 u.2.2.2.2 p u.1 u.2.1).1 j = u.1 j from e] at e2
            rcases o3 j (by omega) with h | h | ⟨k, hk, h⟩
            · rw [h] at e2; exact nI_n1 (k := u.2.2.2.2) (by omega) e2.symm
            · exact o2 j hj h
            · rw [h] at e2
              have := (nI_eq (by omega) (by omega)).1 e2
              omega
          · exact o2 j hj e
        · have : cntS (fill0 u.2.2.2.2 p u.1 u.2.1).1 (nI u.2.2.2.2) 10000 = (fill0 u.2.2.2.2 p u.1 u.2.1).2.2 := k1
          rw [this]
          exact if_pos rfl
      · obtain ⟨f, f1, f2, f3, f4, f5⟩ := o4 k (by omega)
        have same : ∀ j, (fill0 u.2.2.2.2 p u.1 u.2.1).1 j = nI k ↔ u.1 j = nI k := by
          intro j
          rcases F3 j with e | ⟨e1, e2⟩
          · rw [show (fill0 u.2.2.2.2 p u.1 u.2.1).1 j = u.1 j from e]
          · rw [show (fill0 u.2.2.2.2 p u.1 u.2.1).1 j = nI u.2.2.2.2 from e2, e1]
            constructor
            · intro e
              have := (nI_eq (by omega) (by omega)).1 e
              omega
            · intro e
              exact absurd e.symm (nI_m2 (by omega))
        refine ⟨f, f1, ?_, (same f).2 f3, ?_, ?_⟩
        · exact (if_neg c).trans f2
        · intro j hj e; exact f4 j hj ((same j).1 e)
        · refine (if_neg c).trans ?_
          rw [f5, cnt_congr (fun j _ => (same j).symm)]
  · rw [if_neg h2]
    obtain ⟨o1, o2, o3, o4⟩ := ok
    refine ⟨by omega, ?_, o3, o4⟩
    intro j hj
    by_cases c : j = p
    · subst c; exact h2
    · exact o2 j (by omega)
/-! what does not hang on old heaps -/
def eqT (t t' : TT) : Prop := t.1 = t'.1 ∧ t.2.2 = t'.2.2 ∧ ∀ j, j < t.2.2 → t.2.1 j = t'.2.1 j
theorem eq_spr {pc a b : Int32} {t t' : TT} (h : eqT t t') : eqT (sprS pc a b t) (sprS pc a b t') := by
  obtain ⟨h1, h2, h3⟩ := h
  unfold sprS
  rw [← h1, ← h2]
  by_cases c : ptS a b = true ∧ t.1 (ptI a b) = -2
  · rw [if_pos c, if_pos c]
    refine ⟨rfl, rfl, ?_⟩
    intro j hj
    show up1 t.2.1 t.2.2 _ j = up1 t'.2.1 t.2.2 _ j
    unfold up1
    by_cases c2 : j = t.2.2
    · rw [if_pos c2, if_pos c2]
    · rw [if_neg c2, if_neg c2]
      have hj' : j < t.2.2 + 1 := hj
      exact h3 j (by omega)
  · rw [if_neg c, if_neg c]; exact ⟨h1, h2, h3⟩
theorem eq_fl {pc : Int32} : ∀ r k (t t' : TT), eqT t t' → eqT (flS pc r k t) (flS pc r k t') := by
  intro r
  induction r with
  | zero => intro k t t' h; exact h
  | succ r ih =>
    intro k t t' h
    rw [flS, flS, ← h.2.1]
    by_cases c : t.2.2 ≤ k
    · rw [if_pos c, if_pos c]; exact h
    · rw [if_neg c, if_neg c, ← h.2.2 k (by omega)]
      refine ih (k + 1) _ _ ?_
      unfold spr4
      exact eq_spr (eq_spr (eq_spr (eq_spr h)))
def eqU (u u' : UU) : Prop := u.1 = u'.1 ∧ u.2.2.2.2 = u'.2.2.2.2
theorem eq_fill0 {c p : Nat} {po pi pi' : Nat → Int32} : eqT (fill0 c p po pi) (fill0 c p po pi') := by
  unfold fill0
  generalize 10001 = N
  refine eq_fl N 0 _ _ ⟨rfl, rfl, fun j hj => ?_⟩
  have hj' : j < 1 := hj
  have : j = 0 := by omega
  subst this
  show up1 pi 0 (nI p) 0 = up1 pi' 0 (nI p) 0
  unfold up1; rw [if_pos rfl, if_pos rfl]
theorem ptStep_eq {p : Nat} {u : UU} {A : TT} (e : fill0 u.2.2.2.2 p u.1 u.2.1 = A) : ptStep p u = if u.1 p = -2 then (A.1, A.2.1, up1 u.2.2.1 u.2.2.2.2 (nI p), up1 u.2.2.2.1 u.2.2.2.2 (nI A.2.2), u.2.2.2.2 + 1) else u := by
  unfold ptStep
  rw [e]
theorem eq_ptStep {p : Nat} {u u' : UU} (h : eqU u u') : eqU (ptStep p u) (ptStep p u') := by
  obtain ⟨po, pi, pf, ps, c⟩ := u
  obtain ⟨po', pi', pf', ps', c'⟩ := u'
  obtain ⟨h1, h2⟩ := h
  have h1' : po = po' := h1
  have h2' : c = c' := h2
  subst h1' h2'
  have ee : eqT (fill0 c p po pi) (fill0 c p po pi') := eq_fill0
  obtain ⟨A, hA⟩ : ∃ A, fill0 c p po pi = A := ⟨_, rfl⟩
  obtain ⟨B, hB⟩ : ∃ B, fill0 c p po pi' = B := ⟨_, rfl⟩
  rw [hA, hB] at ee
  rw [ptStep_eq (u := (po, pi, pf, ps, c)) hA, ptStep_eq (u := (po, pi', pf', ps', c)) hB]
  by_cases c2 : po p = -2
  · rw [if_pos c2, if_pos c2]; exact ⟨ee.1, rfl⟩
  · rw [if_neg c2, if_neg c2]; exact ⟨rfl, rfl⟩
theorem eq_fold {u u' : UU} (h : eqU u u') : ∀ N, eqU (foldS ptStep u N) (foldS ptStep u' N) := by
  intro N
  induction N with
  | zero => exact h
  | succ N ih => exact eq_ptStep ih
/-! the two searches -/
def beS (S : St) (qx qy : Int32) (k : Nat) : Bool := btS S (pxS (nI k)) (pyS (nI k)) qx qy
def po0 (S : St) (qx qy : Int32) (j : Nat) : Int32 := if beS S qx qy j then -2 else -1
def wonM (S : St) (qx qy : Int32) : Nat → Int32
  | 0 => 0
  | k + 1 => wonM S qx qy k + if beS S qx qy k then 1 else 0
def stG (S : St) (qx qy : Int32) (k : Nat) (s : (Nat → Int32) × Int32) : (Nat → Int32) × Int32 := (up1 s.1 k (po0 S qx qy k), s.2 + if beS S qx qy k then 1 else 0)
theorem stG_1 (S : St) (qx qy : Int32) (f : Nat → Int32) (w : Int32) : ∀ N j, (foldS (stG S qx qy) (f, w) N).1 j = if j < N then po0 S qx qy j else f j := by
  intro N
  induction N with
  | zero => intro j; rfl
  | succ N ih =>
    intro j
    show up1 (foldS (stG S qx qy) (f, w) N).1 N (po0 S qx qy N) j = _
    unfold up1
    by_cases c : j = N
    · subst c; simp
    · rw [if_neg c, ih]
      by_cases c2 : j < N
      · rw [if_pos c2, if_pos (by omega)]
      · rw [if_neg c2, if_neg (by omega)]
theorem stG_2 (S : St) (qx qy : Int32) (f : Nat → Int32) : ∀ N, (foldS (stG S qx qy) (f, 0) N).2 = wonM S qx qy N := by
  intro N
  induction N with
  | zero => rfl
  | succ N ih => rw [wonM, ← ih]; rfl
theorem pcX_congr {h : AH} {x : Nat} {po po' pi pf ps : Nat → Int32} {pm wm : Int32} (e : ∀ j, j < 10000 → po j = po' j) : h.pcX x po pi pf ps pm wm = h.pcX x po' pi pf ps pm wm := by
  refine AH.ext rfl rfl rfl ?_ (fun _ _ => rfl) (fun _ _ => rfl)
  intro b k
  rw [pcX_I, pcX_I]
  by_cases c2 : k < 10000
  · rw [e k c2]
  · simp [c2]
theorem pcM_congr {h : AH} {m : Nat} {po po' pi : Nat → Int32} {pm wm : Int32} (e : ∀ j, j < 10000 → po j = po' j) : h.pcM m po pi pm wm = h.pcM m po' pi pm wm := by
  refine AH.ext rfl rfl rfl ?_ (fun _ _ => rfl) (fun _ _ => rfl)
  intro b k
  rw [pcM_I, pcM_I]
  by_cases c2 : k < 10000
  · rw [e k c2]
  · simp [c2]
def u0S (S : St) (qx qy : Int32) (pi pf ps : Nat → Int32) : UU := (po0 S qx qy, pi, pf, ps, 0)
theorem ok_u0 (S : St) (qx qy : Int32) (pi pf ps : Nat → Int32) : okU 0 (u0S S qx qy pi pf ps) := by
  refine ⟨Nat.le_refl _, fun j hj => by omega, fun j _ => ?_, fun k hk => absurd hk (Nat.not_lt_zero k)⟩
  show po0 S qx qy j = -1 ∨ po0 S qx qy j = -2 ∨ _
  unfold po0
  split
  · exact Or.inr (Or.inl rfl)
  · exact Or.inl rfl
theorem ok_fold (S : St) (qx qy : Int32) (pi pf ps : Nat → Int32) : ∀ N, N ≤ 10000 → okU N (foldS ptStep (u0S S qx qy pi pf ps) N) := by
  intro N
  induction N with
  | zero => intro _; exact ok_u0 S qx qy pi pf ps
  | succ N ih => intro h; exact ok_ptStep (by omega) (ih (by omega))
theorem x_fills {n : Nat} {K : Nat → Nat} {x : Nat} {h : AH} {ev ep b : Nat} {Ev Ep : Nat → Nat} {S : St} (hn : 20000 < n) (X : XA K x h ev Ev ep Ep b S) {u : UU} {p : Nat} (hp : p < 10000) (ok : okU p u) (h2 : u.1 p = -2) (wm : Int32) : F_X0_fills n K x (nI p) (h.pcX x u.1 u.2.1 u.2.2.1 u.2.2.2.1 (nI u.2.2.2.2) wm) = some ((), h.pcX x (ptStep p u).1 (ptStep p u).2.1 (ptStep p u).2.2.1 (ptStep p u).2.2.2.1 (nI (ptStep p u).2.2.2.2) wm) := by
  have hc : u.2.2.2.2 < 10000 := by have := ok.1; omega
  have e1 : ix (nI p) = p := ix_nI (by omega)
  have e2 : inb (nI p) 10000 = True := eq_true ((inb_nI (by omega)).2 hp)
  have e3 : ix (nI u.2.2.2.2) = u.2.2.2.2 := ix_nI (by omega)
  have e4 : inb (nI u.2.2.2.2) 10000 = True := eq_true ((inb_nI (by omega)).2 hc)
  have e5 : inb (0 : Int32) 10000 = True := eq_true ((inb_nI (k := 0) (by omega)).2 (by omega))
  have key := x_fillsL hn X hc (up1 u.2.2.1 u.2.2.2.2 (nI p)) u.2.2.2.1 wm 10001 0 (up1 u.1 p (nI u.2.2.2.2), up1 u.2.1 0 (nI p), 1) n (by omega) (by omega) (ok_fill0 hp ok h2)
  simp only [F_X0_fills, chk_true, bnd_some, ob_some, oc_some, oc_none, hl_eq, jn_eq, ix_0, ix_1, if_true, if_false, inb0_2, inb1_2, not_true_eq_false, not_false_eq_true, ite_true, ite_false, true_or, or_true, or_self, zero_eq_one_I, one_eq_zero_I, pcX_kind, pcX_len, pcX_R, xs_k0, xs_k1, xs_n1, xs_k2, xs_k3, xs_k4, xs_k5, xs_k6, xs_k7, xs_k8, xs_k9, xs_k10, xs_k11, xs_n11, xs_k12, xs_n12, xs_k13, xs_n13, xs_k14, xs_n14, xs_k15, xs_n15, xs_k16, xs_n16, xs_k17, xs_n17, xs_k18, xs_n18, xs_k27, xs_n27, xs_k28, xs_n28, xs_r0_0, xs_r0_1, xs_r2_8, xs_r2_9, xs_r0_2, xs_r0_3, xs_r0_4, xs_r0_8, xs_r0_9, xs_r0_10, xs_r0_18, xs_r0_19, xs_r0_20, xs_r0_21, xs_r0_22, xs_r0_25, xs_r0_26, xs_r0_27, xs_r0_28, X.1, e1, e2, e3, e4, e5, pcX_spi (show 0 < 10000 by omega), pcX_pm, pcX_spo hp, pcX_spf hc]
  rw [show ptStep p u = _ from if_pos h2]
  exact key
theorem x_findPieces {n : Nat} {K : Nat → Nat} {x : Nat} {h : AH} {ev ep b : Nat} {Ev Ep : Nat → Nat} {S : St} (hn : 20000 < n) (X : XA K x h ev Ev ep Ep b S) (qx qy : Int32) : F_X0_findPieces n K x qx qy h = some ((), h.pcX x (foldS ptStep (u0S S qx qy (h.I (x + 14)) (h.I (x + 15)) (h.I (x + 16))) 10000).1 (foldS ptStep (u0S S qx qy (h.I (x + 14)) (h.I (x + 15)) (h.I (x + 16))) 10000).2.1 (foldS ptStep (u0S S qx qy (h.I (x + 14)) (h.I (x + 15)) (h.I (x + 16))) 10000).2.2.1 (foldS ptStep (u0S S qx qy (h.I (x + 14)) (h.I (x + 15)) (h.I (x + 16))) 10000).2.2.2.1 (nI (foldS ptStep (u0S S qx qy (h.I (x + 14)) (h.I (x + 15)) (h.I (x + 16))) 10000).2.2.2.2) (wonM S qx qy 10000)) := by
  have key1 := fun kk => loopF (fun f i (s : (Nat → Int32) × Int32) => F_X0_findPieces_L12 n K x qx qy f i (h.pcX x s.1 (h.I (x + 14)) (h.I (x + 15)) (h.I (x + 16)) 0 s.2) kk) 10000 (stG S qx qy) (fun s => kk (h.pcX x s.1 (h.I (x + 14)) (h.I (x + 15)) (h.I (x + 16)) 0 s.2)) (h.I (x + 13), 0)
    (by
      intro f k s hk
      have X' := XA_pc X s.1 (h.I (x + 14)) (h.I (x + 15)) (h.I (x + 16)) 0 s.2
      have e1 : ix (nI k) = k := ix_nI (by omega)
      have e2 : inb (nI k) 10000 = True := eq_true ((inb_nI (by omega)).2 hk)
      have e3 : ((10000 : Int32) ≤ nI k) = False := eq_false (by rw [e10000]; exact nI_ge hk (by omega))
      simp only [F_X0_findPieces_L12, chk_true, bnd_some, ob_some, oc_some, oc_none, hl_eq, jn_eq, ix_0, ix_1, if_true, if_false, inb0_2, inb1_2, not_true_eq_false, not_false_eq_true, ite_true, ite_false, true_or, or_true, or_self, zero_eq_one_I, one_eq_zero_I, pcX_kind, pcX_len, pcX_R, xs_k0, xs_k1, xs_n1, xs_k2, xs_k3, xs_k4, xs_k5, xs_k6, xs_k7, xs_k8, xs_k9, xs_k10, xs_k11, xs_n11, xs_k12, xs_n12, xs_k13, xs_n13, xs_k14, xs_n14, xs_k15, xs_n15, xs_k16, xs_n16, xs_k17, xs_n17, xs_k18, xs_n18, xs_k27, xs_n27, xs_k28, xs_n28, xs_r0_0, xs_r0_1, xs_r2_8, xs_r2_9, xs_r0_2, xs_r0_3, xs_r0_4, xs_r0_8, xs_r0_9, xs_r0_10, xs_r0_18, xs_r0_19, xs_r0_20, xs_r0_21, xs_r0_22, xs_r0_25, xs_r0_26, xs_r0_27, xs_r0_28, X.1, e1, e2, e3, x_isBeatenA hn X', bI_0, pcX_spo hk, pcX_wm, pcX_swm, nI_1, stG, po0, beS, pxS, pyS]
      rcases Bool.eq_false_or_eq_true (btS S (nI k / 100) (nI k - nI k / 100 * 100) qx qy) with c1 | c1 <;> simp [c1])
    (by
      intro f s
      have e3 : ((10000 : Int32) ≤ nI 10000) = True := eq_true (by rw [e10000]; exact nI_le (Nat.le_refl _) (by omega))
      simp only [F_X0_findPieces_L12, chk_true, bnd_some, ob_some, oc_some, oc_none, hl_eq, jn_eq, ix_0, ix_1, if_true, if_false, inb0_2, inb1_2, not_true_eq_false, not_false_eq_true, ite_true, ite_false, true_or, or_true, or_self, zero_eq_one_I, one_eq_zero_I, e3]) n (by omega)
  have key2 := loopU (fun f i (u : UU) => F_X0_findPieces_L79 n K x f i (h.pcX x u.1 u.2.1 u.2.2.1 u.2.2.2.1 (nI u.2.2.2.2) (wonM S qx qy 10000))) 10000 (fun p u => u = foldS ptStep (u0S S qx qy (h.I (x + 14)) (h.I (x + 15)) (h.I (x + 16))) p) (fun o => o = some ((), h.pcX x (foldS ptStep (u0S S qx qy (h.I (x + 14)) (h.I (x + 15)) (h.I (x + 16))) 10000).1 (foldS ptStep (u0S S qx qy (h.I (x + 14)) (h.I (x + 15)) (h.I (x + 16))) 10000).2.1 (foldS ptStep (u0S S qx qy (h.I (x + 14)) (h.I (x + 15)) (h.I (x + 16))) 10000).2.2.1 (foldS ptStep (u0S S qx qy (h.I (x + 14)) (h.I (x + 15)) (h.I (x + 16))) 10000).2.2.2.1 (nI (foldS ptStep (u0S S qx qy (h.I (x + 14)) (h.I (x + 15)) (h.I (x + 16))) 10000).2.2.2.2) (wonM S qx qy 10000)))
    (by
      intro f p u hp hu
      right
      refine ⟨_, rfl, ?_⟩
      have ok := ok_fold S qx qy (h.I (x + 14)) (h.I (x + 15)) (h.I (x + 16)) p (by omega)
      rw [← hu] at ok
      have ef : foldS ptStep (u0S S qx qy (h.I (x + 14)) (h.I (x + 15)) (h.I (x + 16))) (p + 1) = ptStep p u := by rw [foldS, ← hu]
      rw [ef]
      have e1 : ix (nI p) = p := ix_nI (by omega)
      have e2 : inb (nI p) 10000 = True := eq_true ((inb_nI (by omega)).2 hp)
      have e3 : ((10000 : Int32) ≤ nI p) = False := eq_false (by rw [e10000]; exact nI_ge hp (by omega))
      by_cases c : u.1 p = -2
      · simp only [F_X0_findPieces_L79, chk_true, bnd_some, ob_some, oc_some, oc_none, hl_eq, jn_eq, ix_0, ix_1, if_true, if_false, inb0_2, inb1_2, not_true_eq_false, not_false_eq_true, ite_true, ite_false, true_or, or_true, or_self, zero_eq_one_I, one_eq_zero_I, pcX_kind, pcX_len, pcX_R, xs_k0, xs_k1, xs_n1, xs_k2, xs_k3, xs_k4, xs_k5, xs_k6, xs_k7, xs_k8, xs_k9, xs_k10, xs_k11, xs_n11, xs_k12, xs_n12, xs_k13, xs_n13, xs_k14, xs_n14, xs_k15, xs_n15, xs_k16, xs_n16, xs_k17, xs_n17, xs_k18, xs_n18, xs_k27, xs_n27, xs_k28, xs_n28, xs_r0_0, xs_r0_1, xs_r2_8, xs_r2_9, xs_r0_2, xs_r0_3, xs_r0_4, xs_r0_8, xs_r0_9, xs_r0_10, xs_r0_18, xs_r0_19, xs_r0_20, xs_r0_21, xs_r0_22, xs_r0_25, xs_r0_26, xs_r0_27, xs_r0_28, X.1, e1, e2, e3, pcX_po hp, c, x_fills hn X hp ok c, nI_1]
      · have : ptStep p u = u := if_neg c
        rw [this]
        simp only [F_X0_findPieces_L79, chk_true, bnd_some, ob_some, oc_some, oc_none, hl_eq, jn_eq, ix_0, ix_1, if_true, if_false, inb0_2, inb1_2, not_true_eq_false, not_false_eq_true, ite_true, ite_false, true_or, or_true, or_self, zero_eq_one_I, one_eq_zero_I, pcX_kind, pcX_len, pcX_R, xs_k0, xs_k1, xs_n1, xs_k2, xs_k3, xs_k4, xs_k5, xs_k6, xs_k7, xs_k8, xs_k9, xs_k10, xs_k11, xs_n11, xs_k12, xs_n12, xs_k13, xs_n13, xs_k14, xs_n14, xs_k15, xs_n15, xs_k16, xs_n16, xs_k17, xs_n17, xs_k18, xs_n18, xs_k27, xs_n27, xs_k28, xs_n28, xs_r0_0, xs_r0_1, xs_r2_8, xs_r2_9, xs_r0_2, xs_r0_3, xs_r0_4, xs_r0_8, xs_r0_9, xs_r0_10, xs_r0_18, xs_r0_19, xs_r0_20, xs_r0_21, xs_r0_22, xs_r0_25, xs_r0_26, xs_r0_27, xs_r0_28, X.1, e1, e2, e3, pcX_po hp, c, nI_1])
    (by
      intro f u hu
      rw [hu]
      have e3 : ((10000 : Int32) ≤ nI 10000) = True := eq_true (by rw [e10000]; exact nI_le (Nat.le_refl _) (by omega))
      simp only [F_X0_findPieces_L79, chk_true, bnd_some, ob_some, oc_some, oc_none, hl_eq, jn_eq, ix_0, ix_1, if_true, if_false, inb0_2, inb1_2, not_true_eq_false, not_false_eq_true, ite_true, ite_false, true_or, or_true, or_self, zero_eq_one_I, one_eq_zero_I, e3])
  have key3 := key2 10000 0 (u0S S qx qy (h.I (x + 14)) (h.I (x + 15)) (h.I (x + 16))) n (by omega) (by omega) rfl
  have es : (h.setI x 24 0).setI x 23 0 = h.pcX x (h.I (x + 13)) (h.I (x + 14)) (h.I (x + 15)) (h.I (x + 16)) 0 0 := by
    have := pcX_spm (h.setI x 24 0) x (h.I (x + 13)) (h.I (x + 14)) (h.I (x + 15)) (h.I (x + 16)) (h.I x 23) (h.I x 24) 0
    have e2 := congrArg (fun g : AH => (g.setI x 24 0).setI x 23 0) (pcX_self h x)
    simp only [pcX_swm, pcX_spm] at e2
    exact e2.symm
  simp only [F_X0_findPieces, chk_true, bnd_some, ob_some, oc_some, oc_none, hl_eq, jn_eq, ix_0, ix_1, if_true, if_false, inb0_2, inb1_2, not_true_eq_false, not_false_eq_true, ite_true, ite_false, true_or, or_true, or_self, zero_eq_one_I, one_eq_zero_I, xs_k0, xs_k1, xs_n1, xs_k2, xs_k3, xs_k4, xs_k5, xs_k6, xs_k7, xs_k8, xs_k9, xs_k10, xs_k11, xs_n11, xs_k12, xs_n12, xs_k13, xs_n13, xs_k14, xs_n14, xs_k15, xs_n15, xs_k16, xs_n16, xs_k17, xs_n17, xs_k18, xs_n18, xs_k27, xs_n27, xs_k28, xs_n28, xs_r0_0, xs_r0_1, xs_r2_8, xs_r2_9, xs_r0_2, xs_r0_3, xs_r0_4, xs_r0_8, xs_r0_9, xs_r0_10, xs_r0_18, xs_r0_19, xs_r0_20, xs_r0_21, xs_r0_22, xs_r0_25, xs_r0_26, xs_r0_27, xs_r0_28, X.1, es, key1, stG_2]
  rw [pcX_congr (po' := po0 S qx qy) (fun j hj => by rw [stG_1, if_pos hj])]
  exact key3
