/-! PURE PART QC: win sets and pieces -/
set_option maxRecDepth 100000
def AH.pcX (h : AH) (x : Nat) (po pi pf ps : Nat → Int32) (pm wm : Int32) : AH := (h.1, h.2.1, h.2.2.1, (fun b j => if b = x then (if j = 23 then pm else if j = 24 then wm else h.2.2.2.1 b j) else if j < 10000 then (if b = x + 13 then po j else if b = x + 14 then pi j else if b = x + 15 then pf j else if b = x + 16 then ps j else h.2.2.2.1 b j) else h.2.2.2.1 b j), h.2.2.2.2.1, h.2.2.2.2.2)
theorem pcX_kind (h : AH) (x : Nat) (po pi pf ps : Nat → Int32) (pm wm : Int32) : (h.pcX x po pi pf ps pm wm).kind = h.kind := rfl
theorem pcX_len (h : AH) (x : Nat) (po pi pf ps : Nat → Int32) (pm wm : Int32) : (h.pcX x po pi pf ps pm wm).len = h.len := rfl
theorem pcX_R (h : AH) (x : Nat) (po pi pf ps : Nat → Int32) (pm wm : Int32) : (h.pcX x po pi pf ps pm wm).R = h.R := rfl
theorem pcX_I (h : AH) (x : Nat) (po pi pf ps : Nat → Int32) (pm wm : Int32) (b j : Nat) : (h.pcX x po pi pf ps pm wm).I b j = if b = x then (if j = 23 then pm else if j = 24 then wm else h.I b j) else if j < 10000 then (if b = x + 13 then po j else if b = x + 14 then pi j else if b = x + 15 then pf j else if b = x + 16 then ps j else h.I b j) else h.I b j := rfl
theorem pcX_pm (h : AH) (x : Nat) (po pi pf ps : Nat → Int32) (pm wm : Int32) : (h.pcX x po pi pf ps pm wm).I x 23 = pm := by rw [pcX_I]; simp
theorem pcX_wm (h : AH) (x : Nat) (po pi pf ps : Nat → Int32) (pm wm : Int32) : (h.pcX x po pi pf ps pm wm).I x 24 = wm := by rw [pcX_I]; simp
theorem pcX_po {j : Nat} (hj : j < 10000) (h : AH) (x : Nat) (po pi pf ps : Nat → Int32) (pm wm : Int32) : (h.pcX x po pi pf ps pm wm).I (x + 13) j = po j := by rw [pcX_I]; simp [hj]
theorem pcX_pi {j : Nat} (hj : j < 10000) (h : AH) (x : Nat) (po pi pf ps : Nat → Int32) (pm wm : Int32) : (h.pcX x po pi pf ps pm wm).I (x + 14) j = pi j := by rw [pcX_I]; simp [hj]
theorem pcX_pf {j : Nat} (hj : j < 10000) (h : AH) (x : Nat) (po pi pf ps : Nat → Int32) (pm wm : Int32) : (h.pcX x po pi pf ps pm wm).I (x + 15) j = pf j := by rw [pcX_I]; simp [hj]
theorem pcX_ps {j : Nat} (hj : j < 10000) (h : AH) (x : Nat) (po pi pf ps : Nat → Int32) (pm wm : Int32) : (h.pcX x po pi pf ps pm wm).I (x + 16) j = ps j := by rw [pcX_I]; simp [hj]
theorem pcX_spo {j : Nat} (hj : j < 10000) (h : AH) (x : Nat) (po pi pf ps : Nat → Int32) (pm wm v : Int32) : (h.pcX x po pi pf ps pm wm).setI (x + 13) j v = h.pcX x (up1 po j v) pi pf ps pm wm := by
  refine AH.ext rfl rfl rfl ?_ (fun _ _ => rfl) (fun _ _ => rfl)
  intro b k
  rw [AH.I_setI, pcX_I, pcX_I]
  by_cases c : b = x + 13
  · subst c
    by_cases c2 : k = j
    · subst c2; simp [up1, hj]
    · simp [up1, c2]
  · simp [c]
theorem pcX_spi {j : Nat} (hj : j < 10000) (h : AH) (x : Nat) (po pi pf ps : Nat → Int32) (pm wm v : Int32) : (h.pcX x po pi pf ps pm wm).setI (x + 14) j v = h.pcX x po (up1 pi j v) pf ps pm wm := by
  refine AH.ext rfl rfl rfl ?_ (fun _ _ => rfl) (fun _ _ => rfl)
  intro b k
  rw [AH.I_setI, pcX_I, pcX_I]
  by_cases c : b = x + 14
  · subst c
    by_cases c2 : k = j
    · subst c2; simp [up1, hj]
    · simp [up1, c2]
  · simp [c]
theorem pcX_spf {j : Nat} (hj : j < 10000) (h : AH) (x : Nat) (po pi pf ps : Nat → Int32) (pm wm v : Int32) : (h.pcX x po pi pf ps pm wm).setI (x + 15) j v = h.pcX x po pi (up1 pf j v) ps pm wm := by
  refine AH.ext rfl rfl rfl ?_ (fun _ _ => rfl) (fun _ _ => rfl)
  intro b k
  rw [AH.I_setI, pcX_I, pcX_I]
  by_cases c : b = x + 15
  · subst c
    by_cases c2 : k = j
    · subst c2; simp [up1, hj]
    · simp [up1, c2]
  · simp [c]
theorem pcX_sps {j : Nat} (hj : j < 10000) (h : AH) (x : Nat) (po pi pf ps : Nat → Int32) (pm wm v : Int32) : (h.pcX x po pi pf ps pm wm).setI (x + 16) j v = h.pcX x po pi pf (up1 ps j v) pm wm := by
  refine AH.ext rfl rfl rfl ?_ (fun _ _ => rfl) (fun _ _ => rfl)
  intro b k
  rw [AH.I_setI, pcX_I, pcX_I]
  by_cases c : b = x + 16
  · subst c
    by_cases c2 : k = j
    · subst c2; simp [up1, hj]
    · simp [up1, c2]
  · simp [c]
theorem pcX_spm (h : AH) (x : Nat) (po pi pf ps : Nat → Int32) (pm wm v : Int32) : (h.pcX x po pi pf ps pm wm).setI x 23 v = h.pcX x po pi pf ps v wm := by
  refine AH.ext rfl rfl rfl ?_ (fun _ _ => rfl) (fun _ _ => rfl)
  intro b k
  rw [AH.I_setI, pcX_I, pcX_I]
  by_cases c : b = x
  · subst c
    by_cases c2 : k = 23
    · subst c2; simp
    · simp [c2]
  · simp [c]
theorem pcX_swm (h : AH) (x : Nat) (po pi pf ps : Nat → Int32) (pm wm v : Int32) : (h.pcX x po pi pf ps pm wm).setI x 24 v = h.pcX x po pi pf ps pm v := by
  refine AH.ext rfl rfl rfl ?_ (fun _ _ => rfl) (fun _ _ => rfl)
  intro b k
  rw [AH.I_setI, pcX_I, pcX_I]
  by_cases c : b = x
  · subst c
    by_cases c2 : k = 24
    · subst c2; simp
    · simp [c2]
  · simp [c]
theorem pcX_self (h : AH) (x : Nat) : h.pcX x (h.I (x + 13)) (h.I (x + 14)) (h.I (x + 15)) (h.I (x + 16)) (h.I x 23) (h.I x 24) = h := by
  refine AH.ext rfl rfl rfl ?_ (fun _ _ => rfl) (fun _ _ => rfl)
  intro b k
  rw [pcX_I]
  by_cases c0 : b = x
  · subst c0
    by_cases c1 : k = 23
    · simp [c1]
    · by_cases c2 : k = 24 <;> simp [c1, c2]
  · by_cases c1 : b = x + 13
    · simp [c1]
    · by_cases c2 : b = x + 14
      · simp [c2]
      · by_cases c3 : b = x + 15
        · simp [c3]
        · by_cases c4 : b = x + 16
          · simp [c4]
          · simp [c0, c1, c2, c3, c4]
theorem XA_pc {K : Nat → Nat} {x : Nat} {h : AH} {ev ep b : Nat} {Ev Ep : Nat → Nat} {S : St} (X : XA K x h ev Ev ep Ep b S) (po pi pf ps : Nat → Int32) (pm wm : Int32) : XA K x (h.pcX x po pi pf ps pm wm) ev Ev ep Ep b S := by
  have k0 := xs_k0 X.1
  have k13 := xs_k13 X.1
  have k14 := xs_k14 X.1
  have k15 := xs_k15 X.1
  have k16 := xs_k16 X.1
  refine XA_of X rfl rfl rfl ?_ ?_
  · intro c h1 h2 h3
    funext j
    have c0 : c ≠ x := by intro e; subst e; omega
    have c1 : c ≠ x + 13 := by intro e; subst e; omega
    have c2 : c ≠ x + 14 := by intro e; subst e; omega
    have c3 : c ≠ x + 15 := by intro e; subst e; omega
    have c4 : c ≠ x + 16 := by intro e; subst e; omega
    rw [pcX_I]
    simp [c0, c1, c2, c3, c4]
  · rw [pcX_I]; simp
def AH.pcM (h : AH) (m : Nat) (po pi : Nat → Int32) (pm wm : Int32) : AH := (h.1, h.2.1, h.2.2.1, (fun b j => if b = m then (if j = 37 then pm else if j = 38 then wm else h.2.2.2.1 b j) else if j < 10000 then (if b = m + 38 then po j else if b = m + 39 then pi j else h.2.2.2.1 b j) else h.2.2.2.1 b j), h.2.2.2.2.1, h.2.2.2.2.2)
theorem pcM_kind (h : AH) (m : Nat) (po pi : Nat → Int32) (pm wm : Int32) : (h.pcM m po pi pm wm).kind = h.kind := rfl
theorem pcM_len (h : AH) (m : Nat) (po pi : Nat → Int32) (pm wm : Int32) : (h.pcM m po pi pm wm).len = h.len := rfl
theorem pcM_R (h : AH) (m : Nat) (po pi : Nat → Int32) (pm wm : Int32) : (h.pcM m po pi pm wm).R = h.R := rfl
theorem pcM_I (h : AH) (m : Nat) (po pi : Nat → Int32) (pm wm : Int32) (b j : Nat) : (h.pcM m po pi pm wm).I b j = if b = m then (if j = 37 then pm else if j = 38 then wm else h.I b j) else if j < 10000 then (if b = m + 38 then po j else if b = m + 39 then pi j else h.I b j) else h.I b j := rfl
theorem pcM_pm (h : AH) (m : Nat) (po pi : Nat → Int32) (pm wm : Int32) : (h.pcM m po pi pm wm).I m 37 = pm := by rw [pcM_I]; simp
theorem pcM_wm (h : AH) (m : Nat) (po pi : Nat → Int32) (pm wm : Int32) : (h.pcM m po pi pm wm).I m 38 = wm := by rw [pcM_I]; simp
theorem pcM_po {j : Nat} (hj : j < 10000) (h : AH) (m : Nat) (po pi : Nat → Int32) (pm wm : Int32) : (h.pcM m po pi pm wm).I (m + 38) j = po j := by rw [pcM_I]; simp [hj]
theorem pcM_pi {j : Nat} (hj : j < 10000) (h : AH) (m : Nat) (po pi : Nat → Int32) (pm wm : Int32) : (h.pcM m po pi pm wm).I (m + 39) j = pi j := by rw [pcM_I]; simp [hj]
theorem pcM_spo {j : Nat} (hj : j < 10000) (h : AH) (m : Nat) (po pi : Nat → Int32) (pm wm v : Int32) : (h.pcM m po pi pm wm).setI (m + 38) j v = h.pcM m (up1 po j v) pi pm wm := by
  refine AH.ext rfl rfl rfl ?_ (fun _ _ => rfl) (fun _ _ => rfl)
  intro b k
  rw [AH.I_setI, pcM_I, pcM_I]
  by_cases c : b = m + 38
  · subst c
    by_cases c2 : k = j
    · subst c2; simp [up1, hj]
    · simp [up1, c2]
  · simp [c]
theorem pcM_spi {j : Nat} (hj : j < 10000) (h : AH) (m : Nat) (po pi : Nat → Int32) (pm wm v : Int32) : (h.pcM m po pi pm wm).setI (m + 39) j v = h.pcM m po (up1 pi j v) pm wm := by
  refine AH.ext rfl rfl rfl ?_ (fun _ _ => rfl) (fun _ _ => rfl)
  intro b k
  rw [AH.I_setI, pcM_I, pcM_I]
  by_cases c : b = m + 39
  · subst c
    by_cases c2 : k = j
    · subst c2; simp [up1, hj]
    · simp [up1, c2]
  · simp [c]
theorem pcM_spm (h : AH) (m : Nat) (po pi : Nat → Int32) (pm wm v : Int32) : (h.pcM m po pi pm wm).setI m 37 v = h.pcM m po pi v wm := by
  refine AH.ext rfl rfl rfl ?_ (fun _ _ => rfl) (fun _ _ => rfl)
  intro b k
  rw [AH.I_setI, pcM_I, pcM_I]
  by_cases c : b = m
  · subst c
    by_cases c2 : k = 37
    · subst c2; simp
    · simp [c2]
  · simp [c]
theorem pcM_swm (h : AH) (m : Nat) (po pi : Nat → Int32) (pm wm v : Int32) : (h.pcM m po pi pm wm).setI m 38 v = h.pcM m po pi pm v := by
  refine AH.ext rfl rfl rfl ?_ (fun _ _ => rfl) (fun _ _ => rfl)
  intro b k
  rw [AH.I_setI, pcM_I, pcM_I]
  by_cases c : b = m
  · subst c
    by_cases c2 : k = 38
    · subst c2; simp
    · simp [c2]
  · simp [c]
theorem pcM_self (h : AH) (m : Nat) : h.pcM m (h.I (m + 38)) (h.I (m + 39)) (h.I m 37) (h.I m 38) = h := by
  refine AH.ext rfl rfl rfl ?_ (fun _ _ => rfl) (fun _ _ => rfl)
  intro b k
  rw [pcM_I]
  by_cases c0 : b = m
  · subst c0
    by_cases c1 : k = 37
    · simp [c1]
    · by_cases c2 : k = 38 <;> simp [c1, c2]
  · by_cases c1 : b = m + 38
    · simp [c1]
    · by_cases c2 : b = m + 39
      · simp [c2]
      · simp [c0, c1, c2]
theorem MA_pc {m : Nat} {h : AH} {S : St} (M : MA m h S) (po pi : Nat → Int32) (pm wm : Int32) : MA m (h.pcM m po pi pm wm) S :=
  MA_of M rfl rfl rfl (fun b h1 h2 => by
    funext j
    rw [pcM_I]
    have c0 : b ≠ m := by omega
    have c1 : b ≠ m + 38 := by omega
    have c2 : b ≠ m + 39 := by omega
    simp [c0, c1, c2])
/-! what is computed -/
abbrev TT : Type := (Nat → Int32) × (Nat → Int32) × Nat
def ptI (a b : Int32) : Nat := ix ((100 : Int32) * a + b)
def sprS (pc a b : Int32) (t : TT) : TT := if ptS a b = true ∧ t.1 (ptI a b) = -2 then (up1 t.1 (ptI a b) pc, up1 t.2.1 t.2.2 ((100 : Int32) * a + b), t.2.2 + 1) else t
def spr4 (pc : Int32) (q : Int32) (t : TT) : TT := sprS pc (q / 100) (q - q / 100 * 100 + 1) (sprS pc (q / 100) (q - q / 100 * 100 - 1) (sprS pc (q / 100 + 1) (q - q / 100 * 100) (sprS pc (q / 100 - 1) (q - q / 100 * 100) t)))
def flS (pc : Int32) : Nat → Nat → TT → TT
  | 0, _, t => t
  | r + 1, k, t => if t.2.2 ≤ k then t else flS pc r (k + 1) (spr4 pc (t.2.1 k) t)
def cntS (po : Nat → Int32) (v : Int32) : Nat → Nat
  | 0 => 0
  | k + 1 => cntS po v k + if po k = v then 1 else 0
theorem cnt_le (po : Nat → Int32) (v : Int32) : ∀ N, cntS po v N ≤ N := by
  intro N
  induction N with
  | zero => exact Nat.le_refl _
  | succ N ih => rw [cntS]; split <;> omega
theorem cnt_congr {po po' : Nat → Int32} {v : Int32} : ∀ {N : Nat}, (∀ j, j < N → (po j = v ↔ po' j = v)) → cntS po v N = cntS po' v N := by
  intro N
  induction N with
  | zero => intro _; rfl
  | succ N ih =>
    intro h
    rw [cntS, cntS, ih (fun j hj => h j (by omega))]
    have := h N (by omega)
    by_cases c : po N = v
    · rw [if_pos c, if_pos (this.1 c)]
    · rw [if_neg c, if_neg (fun z => c (this.2 z))]
theorem cnt_up {po : Nat → Int32} {v : Int32} {q : Nat} (hq : po q ≠ v) : ∀ {N : Nat}, q < N → cntS (up1 po q v) v N = cntS po v N + 1 := by
  intro N
  induction N with
  | zero => intro h; omega
  | succ N ih =>
    intro h
    rw [cntS, cntS]
    by_cases c : q = N
    · subst c
      have e1 : up1 po q v q = v := if_pos rfl
      have e2 : cntS (up1 po q v) v q = cntS po v q := cnt_congr (fun j hj => by unfold up1; rw [if_neg (by omega)])
      rw [e1, e2, if_pos rfl, if_neg hq]
    · have e1 : up1 po q v N = po N := if_neg (fun z => c z.symm)
      rw [e1, ih (by omega)]
      omega
/-- points of the sheet -/
theorem pt_iff {a b : Int32} : ptS a b = true ↔ ∃ i j : Nat, i < 100 ∧ j < 100 ∧ a = nI i ∧ b = nI j := by
  unfold ptS
  rw [Bool.and_eq_true]
  constructor
  · rintro ⟨h1, h2⟩
    obtain ⟨i, hi, rfl⟩ := (inS_le (d := 99) (by omega)).1 h1
    obtain ⟨j, hj, rfl⟩ := (inS_le (d := 99) (by omega)).1 h2
    exact ⟨i, j, by omega, by omega, rfl, rfl⟩
  · rintro ⟨i, j, hi, hj, rfl, rfl⟩
    exact ⟨(inS_le (d := 99) (by omega)).2 ⟨i, by omega, rfl⟩, (inS_le (d := 99) (by omega)).2 ⟨j, by omega, rfl⟩⟩
theorem pt_ix {a b : Int32} (h : ptS a b = true) : ∃ q : Nat, q < 10000 ∧ (100 : Int32) * a + b = nI q ∧ ptI a b = q := by
  obtain ⟨i, j, hi, hj, rfl, rfl⟩ := pt_iff.1 h
  have e : (100 : Int32) * nI i + nI j = nI (100 * i + j) := by
    rw [show (100 : Int32) = nI 100 from rfl, pk_mul, nI_add]
  refine ⟨100 * i + j, by omega, e, ?_⟩
  unfold ptI
  rw [e, ix_nI (by omega)]
def okT (pc : Int32) (t : TT) : Prop := cntS t.1 pc 10000 = t.2.2
theorem ok_spr {pc a b : Int32} {t : TT} (hpc : pc ≠ -2) (ok : okT pc t) : okT pc (sprS pc a b t) := by
  unfold sprS
  by_cases c : ptS a b = true ∧ t.1 (ptI a b) = -2
  · rw [if_pos c]
    obtain ⟨q, hq, _, e2⟩ := pt_ix c.1
    have c2 := c.2
    rw [e2] at c2 ⊢
    unfold okT
    rw [cnt_up (by rw [c2]; exact fun z => hpc z.symm) hq, ok]
  · rw [if_neg c]; exact ok
theorem x_spreads {n : Nat} {K : Nat → Nat} {x : Nat} {h : AH} {ev ep b : Nat} {Ev Ep : Nat → Nat} {S : St} (hn : 20000 < n) (X : XA K x h ev Ev ep Ep b S) {pc : Int32} (hpc : pc ≠ -2) {t : TT} (ok : okT pc t) (pf ps : Nat → Int32) (wm a b : Int32) : F_X0_spreads n K x a b (nI t.2.2) (h.pcX x t.1 t.2.1 pf ps pc wm) = some (nI (sprS pc a b t).2.2, h.pcX x (sprS pc a b t).1 (sprS pc a b t).2.1 pf ps pc wm) := by
  obtain ⟨po, pi, c⟩ := t
  unfold sprS
  by_cases cp : ptS a b = true
  · obtain ⟨q, hq, e1, e2⟩ := pt_ix cp
    have e3 : ix (nI q) = q := ix_nI (by omega)
    have e4 : inb (nI q) 10000 = True := eq_true ((inb_nI (by omega)).2 hq)
    by_cases c2 : po q = -2
    · have hc : c < 10000 := by
        have h1 := ok_spr (a := a) (b := b) hpc ok
        unfold sprS at h1
        rw [e2] at h1
        rw [if_pos ⟨cp, c2⟩] at h1
        have h2 := cnt_le (up1 po q pc) pc 10000
        have h3 : cntS (up1 po q pc) pc 10000 = c + 1 := h1
        omega
      have e5 : ix (nI c) = c := ix_nI (by omega)
      have e6 : inb (nI c) 10000 = True := eq_true ((inb_nI (by omega)).2 hc)
      simp only [F_X0_spreads, x_isPoint, cp, bI_0, Bool.true_eq_false, chk_true, bnd_some, ob_some, oc_some, oc_none, hl_eq, jn_eq, ix_0, ix_1, if_true, if_false, inb0_2, inb1_2, not_true_eq_false, not_false_eq_true, ite_true, ite_false, true_or, or_true, or_self, zero_eq_one_I, one_eq_zero_I, pcX_kind, pcX_len, pcX_R, xs_k0, xs_k1, xs_n1, xs_k2, xs_k3, xs_k4, xs_k5, xs_k6, xs_k7, xs_k8, xs_k9, xs_k10, xs_k11, xs_n11, xs_k12, xs_n12, xs_k13, xs_n13, xs_k14, xs_n14, xs_k15, xs_n15, xs_k16, xs_n16, xs_k17, xs_n17, xs_k18, xs_n18, xs_k27, xs_n27, xs_k28, xs_n28, xs_r0_0, xs_r0_1, xs_r2_8, xs_r2_9, xs_r0_2, xs_r0_3, xs_r0_4, xs_r0_8, xs_r0_9, xs_r0_10, xs_r0_18, xs_r0_19, xs_r0_20, xs_r0_21, xs_r0_22, xs_r0_25, xs_r0_26, xs_r0_27, xs_r0_28, X.1, e1, e2, e3, e4, e5, e6, pcX_po hq, pcX_pm, c2, and_self, pcX_spo hq, pcX_spi hc, nI_1]
    · simp only [F_X0_spreads, x_isPoint, cp, bI_0, Bool.true_eq_false, chk_true, bnd_some, ob_some, oc_some, oc_none, hl_eq, jn_eq, ix_0, ix_1, if_true, if_false, inb0_2, inb1_2, not_true_eq_false, not_false_eq_true, ite_true, ite_false, true_or, or_true, or_self, zero_eq_one_I, one_eq_zero_I, pcX_kind, pcX_len, pcX_R, xs_k0, xs_k1, xs_n1, xs_k2, xs_k3, xs_k4, xs_k5, xs_k6, xs_k7, xs_k8, xs_k9, xs_k10, xs_k11, xs_n11, xs_k12, xs_n12, xs_k13, xs_n13, xs_k14, xs_n14, xs_k15, xs_n15, xs_k16, xs_n16, xs_k17, xs_n17, xs_k18, xs_n18, xs_k27, xs_n27, xs_k28, xs_n28, xs_r0_0, xs_r0_1, xs_r2_8, xs_r2_9, xs_r0_2, xs_r0_3, xs_r0_4, xs_r0_8, xs_r0_9, xs_r0_10, xs_r0_18, xs_r0_19, xs_r0_20, xs_r0_21, xs_r0_22, xs_r0_25, xs_r0_26, xs_r0_27, xs_r0_28, X.1, e1, e2, e3, e4, pcX_po hq, c2, and_false]
  · have cp' : ptS a b = false := by simpa using cp
    simp only [F_X0_spreads, x_isPoint, cp', bI_0, chk_true, bnd_some, ob_some, oc_some, oc_none, hl_eq, jn_eq, ix_0, ix_1, if_true, if_false, inb0_2, inb1_2, not_true_eq_false, not_false_eq_true, ite_true, ite_false, true_or, or_true, or_self, zero_eq_one_I, one_eq_zero_I, Bool.false_eq_true, false_and]
theorem x_fillsL {n : Nat} {K : Nat → Nat} {x : Nat} {h : AH} {ev ep b : Nat} {Ev Ep : Nat → Nat} {S : St} (hn : 20000 < n) (X : XA K x h ev Ev ep Ep b S) {pc : Nat} (hpc : pc < 10000) (pf ps : Nat → Int32) (wm : Int32) : ∀ r k (t : TT) fuel, k + r = 10001 → r < fuel → okT (nI pc) t → F_X0_fills_L31 n K x fuel (nI k) (nI t.2.2) (h.pcX x t.1 t.2.1 pf ps (nI pc) wm) = some ((), h.pcX x (flS (nI pc) r k t).1 (flS (nI pc) r k t).2.1 pf (up1 ps pc (nI (flS (nI pc) r k t).2.2)) (nI (pc + 1)) wm) := by
  have e5 : ix (nI pc) = pc := ix_nI (by omega)
  have e6 : inb (nI pc) 10000 = True := eq_true ((inb_nI (by omega)).2 hpc)
  have hp2 : nI pc ≠ -2 := by
    intro e
    have := nI_pos (n := pc) (by omega)
    rw [e] at this
    exact this (by decide)
  have stop : ∀ (k : Nat) (t : TT) (f : Nat), t.2.2 ≤ k → k ≤ 10001 → F_X0_fills_L31 n K x (f + 1) (nI k) (nI t.2.2) (h.pcX x t.1 t.2.1 pf ps (nI pc) wm) = some ((), h.pcX x t.1 t.2.1 pf (up1 ps pc (nI t.2.2)) (nI (pc + 1)) wm) := by
    intro k t f h1 h2
    have e3 : (nI t.2.2 ≤ nI k) = True := eq_true (nI_le h1 (by omega))
    simp only [F_X0_fills_L31, chk_true, bnd_some, ob_some, oc_some, oc_none, hl_eq, jn_eq, ix_0, ix_1, if_true, if_false, inb0_2, inb1_2, not_true_eq_false, not_false_eq_true, ite_true, ite_false, true_or, or_true, or_self, zero_eq_one_I, one_eq_zero_I, pcX_kind, pcX_len, pcX_R, xs_k0, xs_k1, xs_n1, xs_k2, xs_k3, xs_k4, xs_k5, xs_k6, xs_k7, xs_k8, xs_k9, xs_k10, xs_k11, xs_n11, xs_k12, xs_n12, xs_k13, xs_n13, xs_k14, xs_n14, xs_k15, xs_n15, xs_k16, xs_n16, xs_k17, xs_n17, xs_k18, xs_n18, xs_k27, xs_n27, xs_k28, xs_n28, xs_r0_0, xs_r0_1, xs_r2_8, xs_r2_9, xs_r0_2, xs_r0_3, xs_r0_4, xs_r0_8, xs_r0_9, xs_r0_10, xs_r0_18, xs_r0_19, xs_r0_20, xs_r0_21, xs_r0_22, xs_r0_25, xs_r0_26, xs_r0_27, xs_r0_28, X.1, e3, pcX_pm, e5, e6, pcX_sps hpc, pcX_spm, nI_1]
  intro r
  induction r with
  | zero =>
    intro k t fuel hk hf ok
    obtain ⟨f, rfl⟩ : ∃ f, fuel = f + 1 := ⟨fuel - 1, by omega⟩
    have := cnt_le t.1 (nI pc) 10000
    have ok' : cntS t.1 (nI pc) 10000 = t.2.2 := ok
    rw [stop k t f (by omega) (by omega)]
    rfl
  | succ r ih =>
    intro k t fuel hk hf ok
    obtain ⟨f, rfl⟩ : ∃ f, fuel = f + 1 := ⟨fuel - 1, by omega⟩
    have hc := cnt_le t.1 (nI pc) 10000
    have ok' : cntS t.1 (nI pc) 10000 = t.2.2 := ok
    rw [flS]
    by_cases c : t.2.2 ≤ k
    · rw [if_pos c, stop k t f c (by omega)]
    · rw [if_neg c]
      have e3 : (nI t.2.2 ≤ nI k) = False := eq_false (nI_ge (by omega) (by omega))
      have e1 : ix (nI k) = k := ix_nI (by omega)
      have e2 : inb (nI k) 10000 = True := eq_true ((inb_nI (by omega)).2 (by omega))
      have k1 := ok_spr (a := t.2.1 k / 100 - 1) (b := t.2.1 k - t.2.1 k / 100 * 100) hp2 ok
      have k2 := ok_spr (a := t.2.1 k / 100 + 1) (b := t.2.1 k - t.2.1 k / 100 * 100) hp2 k1
      have k3 := ok_spr (a := t.2.1 k / 100) (b := t.2.1 k - t.2.1 k / 100 * 100 - 1) hp2 k2
      have k4 := ok_spr (a := t.2.1 k / 100) (b := t.2.1 k - t.2.1 k / 100 * 100 + 1) hp2 k3
      rw [F_X0_fills_L31]
      simp only [chk_true, bnd_some, ob_some, oc_some, oc_none, hl_eq, jn_eq, ix_0, ix_1, if_true, if_false, inb0_2, inb1_2, not_true_eq_false, not_false_eq_true, ite_true, ite_false, true_or, or_true, or_self, zero_eq_one_I, one_eq_zero_I, pcX_kind, pcX_len, pcX_R, xs_k0, xs_k1, xs_n1, xs_k2, xs_k3, xs_k4, xs_k5, xs_k6, xs_k7, xs_k8, xs_k9, xs_k10, xs_k11, xs_n11, xs_k12, xs_n12, xs_k13, xs_n13, xs_k14, xs_n14, xs_k15, xs_n15, xs_k16, xs_n16, xs_k17, xs_n17, xs_k18, xs_n18, xs_k27, xs_n27, xs_k28, xs_n28, xs_r0_0, xs_r0_1, xs_r2_8, xs_r2_9, xs_r0_2, xs_r0_3, xs_r0_4, xs_r0_8, xs_r0_9, xs_r0_10, xs_r0_18, xs_r0_19, xs_r0_20, xs_r0_21, xs_r0_22, xs_r0_25, xs_r0_26, xs_r0_27, xs_r0_28, X.1, e3, e1, e2, pcX_pi (show k < 10000 by omega), x_spreads hn X hp2 ok, x_spreads hn X hp2 k1, x_spreads hn X hp2 k2, x_spreads hn X hp2 k3, nI_1]
      exact ih (k + 1) _ f (by omega) (by omega) k4
abbrev UU : Type := (Nat → Int32) × (Nat → Int32) × (Nat → Int32) × (Nat → Int32) × Nat
def fill0 (c p : Nat) (po pi : Nat → Int32) : TT := flS (nI c) 10001 0 (up1 po p (nI c), up1 pi 0 (nI p), 1)
def ptStep (p : Nat) (u : UU) : UU := if u.1 p = -2 then ((fill0 u.2.2.2.2 p u.1 u.2.1).1, (fill0 u.2.2.2.2 p u.1 u.2.1).2.1, up1 u.2.2.1 u.2.2.2.2 (nI p), up1 u.2.2.2.1 u.2.2.2.2 (nI (fill0 u.2.2.2.2 p u.1 u.2.1).2.2), u.2.2.2.2 + 1) else u
