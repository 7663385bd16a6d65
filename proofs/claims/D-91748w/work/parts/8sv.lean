/-! PURE PART SV: the sheet's reader: tokens -/
set_option maxRecDepth 100000
theorem x_wrong {n : Nat} {K : Nat → Nat} {y : Nat} {h : AH} (wf : Wf h) (k2 : h.kind y = 2) : ∃ h', F_X1_wrong n K y h = some (some h.n, h') ∧ Fr 1 7 (fun _ _ => False) h h' ∧ h'.kind h.n = 6 ∧ h'.I h.n 6 = h.I y 3 := by
  have yn : y ≠ h.n := by intro z; rw [z, wf h.n (Nat.le_refl _)] at k2; cases k2
  have k6 : (h.new 6 0 7).kind h.n = 6 := by rw [AH.kind_new, if_pos rfl]
  have ky : (h.new 6 0 7).kind y = 2 := by rw [AH.kind_new, if_neg yn]; exact k2
  have i3 : (h.new 6 0 7).I y 3 = h.I y 3 := by rw [AH.I_new, if_neg yn]
  have fn := Fr_new (W := fun a _ => a = h.n) wf 6 0 7
  refine ⟨(((((((((h.new 6 0 7).setR h.n 0 (some h.n)).setR h.n 1 (ko (K 201))).setR h.n 2 (ko (K 202))).setR h.n 1 none).setR h.n 3 none).setR h.n 0 none).setR h.n 2 none).setI h.n 6 (h.I y 3)), ?_, ?_, ?_, setI_I _ _ _ _⟩
  · simp only [F_X1_wrong, F_X4_init, F_J5_init, F_J4_init, F_J3_init_2, chk_true, bnd_some, ob_some, oc_some, oc_none, hl_eq, jn_eq, ix_0, ix_1, if_true, if_false, inb0_2, inb1_2, not_true_eq_false, not_false_eq_true, ite_true, ite_false, true_or, or_true, or_self, zero_eq_one_I, one_eq_zero_I, AH.n_setI, AH.n_setL, AH.n_setR, AH.sl_setI, AH.sl_setL, AH.sl_setR, AH.kind_setI, AH.kind_setL, AH.kind_setR, AH.len_setI, AH.len_setL, AH.len_setR, AH.I_setL, AH.I_setR, AH.L_setI, AH.L_setR, AH.R_setI, AH.R_setL, k6, ky, i3]
  · have st : ∀ {c s : Nat} {g g' : AH}, Fr c s (fun a _ => a = h.n) h g → Fr 0 0 (fun a _ => a = h.n) g g' → Fr c s (fun a _ => a = h.n) h g' := fun F G => Fr_trans (W := fun a _ => a = h.n) F G (fun _ _ _ z => z) (fun _ _ _ z => z)
    have F := st (st (st (st (st (st (st (st fn (Fr_setR _ h.n 0 (some h.n) (fun _ => rfl))) (Fr_setR _ h.n 1 (ko (K 201)) (fun _ => rfl))) (Fr_setR _ h.n 2 (ko (K 202)) (fun _ => rfl))) (Fr_setR _ h.n 1 none (fun _ => rfl))) (Fr_setR _ h.n 3 none (fun _ => rfl))) (Fr_setR _ h.n 0 none (fun _ => rfl))) (Fr_setR _ h.n 2 none (fun _ => rfl))) (Fr_setI _ h.n 6 (h.I y 3) (fun _ => rfl))
    exact Fr_mono F (Nat.le_refl _) (Nat.le_refl _) (fun a j ha z => ha (by rw [z]; exact wf h.n (Nat.le_refl _)))
  · exact k6
/-! tokens -/
def XRd (x : Nat) (h : AH) (tm : Nat) (T : Nat → Int32) : Prop := (h.kind (x + 2) = 2 ∧ h.R (x + 2) 0 = some (x + 1) ∧ h.kind (x + 1) = 31 ∧ h.len (x + 1) = 600) ∧ h.I (x + 2) 1 = nI tm ∧ (∀ j, j < tm → h.I (x + 1) j = T j) ∧ tm ≤ 600
theorem XRd_set {x : Nat} {h : AH} {tm : Nat} {T : Nat → Int32} (H : XRd x h tm T) {j : Nat} (v : Int32) (d : j ≠ 1) : XRd x (h.setI (x + 2) j v) tm T := by
  refine ⟨H.1, ?_, fun k hk => ?_, H.2.2.2⟩
  · rw [setI_O (by omega)]; exact H.2.1
  · rw [setI_O (by omega)]; exact H.2.2.1 k hk
theorem x_at {x : Nat} {h : AH} {tm : Nat} {T : Nat → Int32} (H : XRd x h tm T) {p : Nat} (hp : p < tm) : inb (nI p) 600 = True ∧ h.I (x + 1) (ix (nI p)) = T p ∧ (nI tm ≤ nI p) = False := by
  have h6 := H.2.2.2
  exact ⟨eq_true ((inb_nI (by omega)).2 (by omega)), by rw [ix_nI (by omega)]; exact H.2.2.1 p hp, eq_false (nI_ge hp (by omega))⟩
theorem x_next0 {n : Nat} {K : Nat → Nat} {x tm : Nat} {T : Nat → Int32} {k : AH → Option ((Nat ⊕ Unit) × AH)} : ∀ r p fuel h, XRd x h tm T → h.I (x + 2) 2 = nI p → p + r = tm → r < fuel → F_X1_next_L0 n K (x + 2) fuel h k = k (h.setI (x + 2) 2 (nI (runE T tm isBl p))) := by
  intro r
  induction r with
  | zero =>
    intro p fuel h H h2 hp hf
    obtain ⟨f, rfl⟩ : ∃ f, fuel = f + 1 := ⟨fuel - 1, by omega⟩
    have hp' : p = tm := by omega
    subst hp'
    have h6 := H.2.2.2
    obtain ⟨a, b, c, d⟩ := H.1
    have e : (nI p ≤ nI p) = True := eq_true (nI_le (Nat.le_refl _) (by omega))
    rw [run_0 (Nat.le_refl _) (fun z => by omega), setI_id h2]
    simp only [F_X1_next_L0, chk_true, bnd_some, ob_some, oc_some, oc_none, hl_eq, jn_eq, ix_0, ix_1, if_true, if_false, inb0_2, inb1_2, not_true_eq_false, not_false_eq_true, ite_true, ite_false, true_or, or_true, or_self, zero_eq_one_I, one_eq_zero_I, a, b, c, d, H.2.1, h2, e]
  | succ r ih =>
    intro p fuel h H h2 hp hf
    obtain ⟨f, rfl⟩ : ∃ f, fuel = f + 1 := ⟨fuel - 1, by omega⟩
    obtain ⟨a1, a2, a3⟩ := x_at H (p := p) (by omega)
    obtain ⟨a, b', c, d⟩ := H.1
    have IH := ih (p + 1) f (h.setI (x + 2) 2 (nI (p + 1))) (XRd_set H _ (by omega)) (setI_I _ _ _ _) (by omega) (by omega)
    rw [setI_setI] at IH
    by_cases c32 : T p = 32
    · have b : isBl (T p) = true := by rw [c32]; decide
      rw [run_s (by omega) b, ← IH]
      simp only [F_X1_next_L0, chk_true, bnd_some, ob_some, oc_some, oc_none, hl_eq, jn_eq, ix_0, ix_1, if_true, if_false, inb0_2, inb1_2, not_true_eq_false, not_false_eq_true, ite_true, ite_false, true_or, or_true, or_self, zero_eq_one_I, one_eq_zero_I, a, b', c, d, H.2.1, h2, a1, a2, a3, c32, nI_1]
    · by_cases c10 : T p = 10
      · have b : isBl (T p) = true := by rw [c10]; decide
        rw [run_s (by omega) b, ← IH]
        have d' : ((10 : Int32) = 32) = False := eq_false (by decide)
        simp only [F_X1_next_L0, chk_true, bnd_some, ob_some, oc_some, oc_none, hl_eq, jn_eq, ix_0, ix_1, if_true, if_false, inb0_2, inb1_2, not_true_eq_false, not_false_eq_true, ite_true, ite_false, true_or, or_true, or_self, zero_eq_one_I, one_eq_zero_I, a, b', c, d, H.2.1, h2, a1, a2, a3, c10, d', nI_1]
      · have b : isBl (T p) = false := by unfold isBl; rw [decide_eq_false c32, decide_eq_false c10]; rfl
        rw [run_0 (by omega) (fun _ => b), setI_id h2]
        have d1 : (T p = 32) = False := eq_false c32
        have d2 : (T p = 10) = False := eq_false c10
        simp only [F_X1_next_L0, chk_true, bnd_some, ob_some, oc_some, oc_none, hl_eq, jn_eq, ix_0, ix_1, if_true, if_false, inb0_2, inb1_2, not_true_eq_false, not_false_eq_true, ite_true, ite_false, true_or, or_true, or_self, zero_eq_one_I, one_eq_zero_I, a, b', c, d, H.2.1, h2, a1, a2, a3, d1, d2]
theorem x_nextL {n : Nat} {K : Nat → Nat} {x tm : Nat} {T : Nat → Int32} : ∀ r p fuel h, XRd x h tm T → h.I (x + 2) 2 = nI p → p + r = tm → r < fuel → F_X1_next_L99 n K (x + 2) fuel h = some (.inr (), h.setI (x + 2) 2 (nI (runE T tm isLt p))) := by
  intro r
  induction r with
  | zero =>
    intro p fuel h H h2 hp hf
    obtain ⟨f, rfl⟩ : ∃ f, fuel = f + 1 := ⟨fuel - 1, by omega⟩
    have hp' : p = tm := by omega
    subst hp'
    have h6 := H.2.2.2
    obtain ⟨a, b, c, d⟩ := H.1
    have e : (nI p ≤ nI p) = True := eq_true (nI_le (Nat.le_refl _) (by omega))
    rw [run_0 (Nat.le_refl _) (fun z => by omega), setI_id h2]
    simp only [F_X1_next_L99, chk_true, bnd_some, ob_some, oc_some, oc_none, hl_eq, jn_eq, ix_0, ix_1, if_true, if_false, inb0_2, inb1_2, not_true_eq_false, not_false_eq_true, ite_true, ite_false, true_or, or_true, or_self, zero_eq_one_I, one_eq_zero_I, a, b, c, d, H.2.1, h2, e]
  | succ r ih =>
    intro p fuel h H h2 hp hf
    obtain ⟨f, rfl⟩ : ∃ f, fuel = f + 1 := ⟨fuel - 1, by omega⟩
    obtain ⟨a1, a2, a3⟩ := x_at H (p := p) (by omega)
    obtain ⟨a, b', c, d⟩ := H.1
    have IH := ih (p + 1) f (h.setI (x + 2) 2 (nI (p + 1))) (XRd_set H _ (by omega)) (setI_I _ _ _ _) (by omega) (by omega)
    rw [setI_setI] at IH
    rcases Bool.eq_false_or_eq_true (isLt (T p)) with b | b
    · rw [run_s (by omega) b, ← IH]
      have t : (bI true = 0) = False := eq_false (by decide)
      simp only [F_X1_next_L99, chk_true, bnd_some, ob_some, oc_some, oc_none, hl_eq, jn_eq, ix_0, ix_1, if_true, if_false, inb0_2, inb1_2, not_true_eq_false, not_false_eq_true, ite_true, ite_false, true_or, or_true, or_self, zero_eq_one_I, one_eq_zero_I, a, b', c, d, H.2.1, h2, a1, a2, a3, x_isLt, b, t, nI_1]
    · rw [run_0 (by omega) (fun _ => b), setI_id h2]
      have t : (bI false = 0) = True := eq_true (by decide)
      simp only [F_X1_next_L99, chk_true, bnd_some, ob_some, oc_some, oc_none, hl_eq, jn_eq, ix_0, ix_1, if_true, if_false, inb0_2, inb1_2, not_true_eq_false, not_false_eq_true, ite_true, ite_false, true_or, or_true, or_self, zero_eq_one_I, one_eq_zero_I, a, b', c, d, H.2.1, h2, a1, a2, a3, x_isLt, b, t]
theorem x_nextD {n : Nat} {K : Nat → Nat} {x tm : Nat} {T : Nat → Int32} : ∀ r p fuel h, XRd x h tm T → h.I (x + 2) 2 = nI p → p + r = tm → r < fuel → F_X1_next_L145 n K (x + 2) fuel h = some (.inr (), h.setI (x + 2) 2 (nI (runE T tm isDg p))) := by
  intro r
  induction r with
  | zero =>
    intro p fuel h H h2 hp hf
    obtain ⟨f, rfl⟩ : ∃ f, fuel = f + 1 := ⟨fuel - 1, by omega⟩
    have hp' : p = tm := by omega
    subst hp'
    have h6 := H.2.2.2
    obtain ⟨a, b, c, d⟩ := H.1
    have e : (nI p ≤ nI p) = True := eq_true (nI_le (Nat.le_refl _) (by omega))
    rw [run_0 (Nat.le_refl _) (fun z => by omega), setI_id h2]
    simp only [F_X1_next_L145, chk_true, bnd_some, ob_some, oc_some, oc_none, hl_eq, jn_eq, ix_0, ix_1, if_true, if_false, inb0_2, inb1_2, not_true_eq_false, not_false_eq_true, ite_true, ite_false, true_or, or_true, or_self, zero_eq_one_I, one_eq_zero_I, a, b, c, d, H.2.1, h2, e]
  | succ r ih =>
    intro p fuel h H h2 hp hf
    obtain ⟨f, rfl⟩ : ∃ f, fuel = f + 1 := ⟨fuel - 1, by omega⟩
    obtain ⟨a1, a2, a3⟩ := x_at H (p := p) (by omega)
    obtain ⟨a, b', c, d⟩ := H.1
    have IH := ih (p + 1) f (h.setI (x + 2) 2 (nI (p + 1))) (XRd_set H _ (by omega)) (setI_I _ _ _ _) (by omega) (by omega)
    rw [setI_setI] at IH
    rcases Bool.eq_false_or_eq_true (isDg (T p)) with b | b
    · rw [run_s (by omega) b, ← IH]
      have t : (bI true = 0) = False := eq_false (by decide)
      simp only [F_X1_next_L145, chk_true, bnd_some, ob_some, oc_some, oc_none, hl_eq, jn_eq, ix_0, ix_1, if_true, if_false, inb0_2, inb1_2, not_true_eq_false, not_false_eq_true, ite_true, ite_false, true_or, or_true, or_self, zero_eq_one_I, one_eq_zero_I, a, b', c, d, H.2.1, h2, a1, a2, a3, x_isDg, b, t, nI_1]
    · rw [run_0 (by omega) (fun _ => b), setI_id h2]
      have t : (bI false = 0) = True := eq_true (by decide)
      simp only [F_X1_next_L145, chk_true, bnd_some, ob_some, oc_some, oc_none, hl_eq, jn_eq, ix_0, ix_1, if_true, if_false, inb0_2, inb1_2, not_true_eq_false, not_false_eq_true, ite_true, ite_false, true_or, or_true, or_self, zero_eq_one_I, one_eq_zero_I, a, b', c, d, H.2.1, h2, a1, a2, a3, x_isDg, b, t]
/-- the next token: all of it, or a fault at it -/
theorem x_next1 {n : Nat} {K : Nat → Nat} {x tm : Nat} {T : Nat → Int32} {h : AH} (hn : 20000 < n) (H : XRd x h tm T) {p : Nat} (hp : p ≤ tm) (h2 : h.I (x + 2) 2 = nI p) : F_X1_next n K (x + 2) h = if badT T tm (tkS T tm p) = true then (bnd (F_X1_wrong n K (x + 2) ((h.setI (x + 2) 3 (nI (tkS T tm p).1)).setI (x + 2) 2 (nI (tkS T tm p).2))) fun r35 h36 => ob r35 fun a38 => some (.inl a38, h36)) else some (.inr (), (h.setI (x + 2) 3 (nI (tkS T tm p).1)).setI (x + 2) 2 (nI (tkS T tm p).2)) := by
  have h6 := H.2.2.2
  rw [F_X1_next, x_next0 (tm - p) p n h H h2 (by omega) (by omega)]
  have bd := run_bd (T := T) (P := isBl) hp
  show (_ : Option ((Nat ⊕ Unit) × AH)) = if badT T tm (runE T tm isBl p, endT T tm (runE T tm isBl p)) = true then (bnd (F_X1_wrong n K (x + 2) ((h.setI (x + 2) 3 (nI (runE T tm isBl p))).setI (x + 2) 2 (nI (endT T tm (runE T tm isBl p))))) fun r35 h36 => ob r35 fun a38 => some (.inl a38, h36)) else some (.inr (), (h.setI (x + 2) 3 (nI (runE T tm isBl p))).setI (x + 2) 2 (nI (endT T tm (runE T tm isBl p))))
  generalize runE T tm isBl p = b at bd
  have Hb : XRd x (h.setI (x + 2) 2 (nI b)) tm T := XRd_set H _ (by omega)
  have Hc : XRd x ((h.setI (x + 2) 2 (nI b)).setI (x + 2) 3 (nI b)) tm T := XRd_set Hb _ (by omega)
  have i2 : (h.setI (x + 2) 2 (nI b)).I (x + 2) 2 = nI b := setI_I _ _ _ _
  have j2 : ((h.setI (x + 2) 2 (nI b)).setI (x + 2) 3 (nI b)).I (x + 2) 2 = nI b := by rw [setI_O (by omega)]; exact i2
  have q : ((nI b) = nI tm) = (b = tm) := propext (nI_eq (by omega) (by omega))
  obtain ⟨a, b', c', d'⟩ := H.1
  have cm : ∀ v w : Int32, ((h.setI (x + 2) 2 v).setI (x + 2) 3 w).setI (x + 2) 2 (nI (b + 1)) = (h.setI (x + 2) 3 w).setI (x + 2) 2 (nI (b + 1)) := fun v w => by rw [setI_comm (h := h) (d := by omega), setI_setI]
  unfold endT badT
  by_cases c : b = tm
  · rw [if_pos c]
    have t : (b = tm) = True := eq_true c
    have nb : (decide (b < tm) && (!isLt (T b) && (!isDg (T b) && (!decide (T b = 59) && !decide (T b = 47))))) = false := by rw [decide_eq_false (by omega)]; rfl
    rw [if_neg (by show ¬ ((decide (b < tm) && _) = true); rw [nb]; decide)]
    simp only [chk_true, bnd_some, ob_some, oc_some, oc_none, hl_eq, jn_eq, ix_0, ix_1, if_true, if_false, inb0_2, inb1_2, not_true_eq_false, not_false_eq_true, ite_true, ite_false, true_or, or_true, or_self, zero_eq_one_I, one_eq_zero_I, AH.n_setI, AH.n_setL, AH.n_setR, AH.sl_setI, AH.sl_setL, AH.sl_setR, AH.kind_setI, AH.kind_setL, AH.kind_setR, AH.len_setI, AH.len_setL, AH.len_setR, AH.I_setL, AH.I_setR, AH.L_setI, AH.L_setR, AH.R_setI, AH.R_setL, a, i2, j2, Hc.2.1, q, t]
    rw [setI_comm (h := h) (d := by omega), c]
  · rw [if_neg c]
    have t : (b = tm) = False := eq_false c
    obtain ⟨a1, a2, a3⟩ := x_at Hc (p := b) (by omega)
    have lt : decide (b < tm) = true := decide_eq_true (by omega)
    have Hd : XRd x ((h.setI (x + 2) 3 (nI b)).setI (x + 2) 2 (nI (b + 1))) tm T := XRd_set (XRd_set H _ (by omega)) _ (by omega)
    have jd : ((h.setI (x + 2) 3 (nI b)).setI (x + 2) 2 (nI (b + 1))).I (x + 2) 2 = nI (b + 1) := setI_I _ _ _ _
    have tt : (bI true = 0) = False := eq_false (by decide)
    have tf : (bI false = 0) = True := eq_true (by decide)
    simp only [lt, Bool.true_and]
    rcases Bool.eq_false_or_eq_true (isLt (T b)) with l | l
    · have L := x_nextL (n := n) (K := K) (tm - (b + 1)) (b + 1) n _ Hd jd (by omega) (by omega)
      rw [setI_setI, ← run_s (by omega) l] at L
      simp only [chk_true, bnd_some, ob_some, oc_some, oc_none, hl_eq, jn_eq, ix_0, ix_1, if_true, if_false, inb0_2, inb1_2, not_true_eq_false, not_false_eq_true, ite_true, ite_false, true_or, or_true, or_self, zero_eq_one_I, one_eq_zero_I, AH.n_setI, AH.n_setL, AH.n_setR, AH.sl_setI, AH.sl_setL, AH.sl_setR, AH.kind_setI, AH.kind_setL, AH.kind_setR, AH.len_setI, AH.len_setL, AH.len_setR, AH.I_setL, AH.I_setR, AH.L_setI, AH.L_setR, AH.R_setI, AH.R_setL, a, b', c', d', i2, j2, Hc.2.1, q, t, a1, a2, nI_1, x_isLt, l, tt, cm, L, Bool.not_true, Bool.false_and, Bool.false_eq_true]
    · rcases Bool.eq_false_or_eq_true (isDg (T b)) with d | d
      · have L := x_nextD (n := n) (K := K) (tm - (b + 1)) (b + 1) n _ Hd jd (by omega) (by omega)
        rw [setI_setI, ← run_s (by omega) d] at L
        simp only [chk_true, bnd_some, ob_some, oc_some, oc_none, hl_eq, jn_eq, ix_0, ix_1, if_true, if_false, inb0_2, inb1_2, not_true_eq_false, not_false_eq_true, ite_true, ite_false, true_or, or_true, or_self, zero_eq_one_I, one_eq_zero_I, AH.n_setI, AH.n_setL, AH.n_setR, AH.sl_setI, AH.sl_setL, AH.sl_setR, AH.kind_setI, AH.kind_setL, AH.kind_setR, AH.len_setI, AH.len_setL, AH.len_setR, AH.I_setL, AH.I_setR, AH.L_setI, AH.L_setR, AH.R_setI, AH.R_setL, a, b', c', d', i2, j2, Hc.2.1, q, t, a1, a2, nI_1, x_isLt, x_isDg, l, d, tt, tf, cm, L, Bool.not_true, Bool.not_false, Bool.true_and, Bool.false_and, Bool.false_eq_true]
      · by_cases c59 : T b = 59
        · have s59 : (T b = 59) = True := eq_true c59
          simp only [chk_true, bnd_some, ob_some, oc_some, oc_none, hl_eq, jn_eq, ix_0, ix_1, if_true, if_false, inb0_2, inb1_2, not_true_eq_false, not_false_eq_true, ite_true, ite_false, true_or, or_true, or_self, zero_eq_one_I, one_eq_zero_I, AH.n_setI, AH.n_setL, AH.n_setR, AH.sl_setI, AH.sl_setL, AH.sl_setR, AH.kind_setI, AH.kind_setL, AH.kind_setR, AH.len_setI, AH.len_setL, AH.len_setR, AH.I_setL, AH.I_setR, AH.L_setI, AH.L_setR, AH.R_setI, AH.R_setL, a, b', c', d', i2, j2, Hc.2.1, q, t, a1, a2, nI_1, x_isLt, x_isDg, l, d, tf, cm, s59, Bool.not_false, Bool.true_and, decide_true, Bool.not_true, Bool.false_and, Bool.false_eq_true]
        · have s59 : (T b = 59) = False := eq_false c59
          by_cases c47 : T b = 47
          · have s47 : (T b = 47) = True := eq_true c47
            simp only [chk_true, bnd_some, ob_some, oc_some, oc_none, hl_eq, jn_eq, ix_0, ix_1, if_true, if_false, inb0_2, inb1_2, not_true_eq_false, not_false_eq_true, ite_true, ite_false, true_or, or_true, or_self, zero_eq_one_I, one_eq_zero_I, AH.n_setI, AH.n_setL, AH.n_setR, AH.sl_setI, AH.sl_setL, AH.sl_setR, AH.kind_setI, AH.kind_setL, AH.kind_setR, AH.len_setI, AH.len_setL, AH.len_setR, AH.I_setL, AH.I_setR, AH.L_setI, AH.L_setR, AH.R_setI, AH.R_setL, a, b', c', d', i2, j2, Hc.2.1, q, t, a1, a2, nI_1, x_isLt, x_isDg, l, d, tf, cm, s59, s47, Bool.not_false, Bool.true_and, decide_true, decide_false, Bool.not_true, Bool.false_eq_true]
          · have s47 : (T b = 47) = False := eq_false c47
            simp only [chk_true, bnd_some, ob_some, oc_some, oc_none, hl_eq, jn_eq, ix_0, ix_1, if_true, if_false, inb0_2, inb1_2, not_true_eq_false, not_false_eq_true, ite_true, ite_false, true_or, or_true, or_self, zero_eq_one_I, one_eq_zero_I, AH.n_setI, AH.n_setL, AH.n_setR, AH.sl_setI, AH.sl_setL, AH.sl_setR, AH.kind_setI, AH.kind_setL, AH.kind_setR, AH.len_setI, AH.len_setL, AH.len_setR, AH.I_setL, AH.I_setR, AH.L_setI, AH.L_setR, AH.R_setI, AH.R_setL, a, b', c', d', i2, j2, Hc.2.1, q, t, a1, a2, nI_1, x_isLt, x_isDg, l, d, tf, cm, s59, s47, Bool.not_false, Bool.true_and, decide_false, Bool.false_eq_true]
