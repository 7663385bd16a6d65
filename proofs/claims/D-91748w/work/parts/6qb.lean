/-! PURE PART QB: grids written over; gains, rest -/
set_option maxRecDepth 100000
def AH.ov2I (h : AH) (a R N : Nat) (G : Nat → Nat → Int32) : AH := (h.1, h.2.1, h.2.2.1, (fun b j => if a ≤ b ∧ b < a + R ∧ j < N then G (b - a) j else h.2.2.2.1 b j), h.2.2.2.2.1, h.2.2.2.2.2)
theorem AH.n_ov2I (h : AH) (a R N : Nat) (G : Nat → Nat → Int32) : (h.ov2I a R N G).n = h.n := rfl
theorem AH.sl_ov2I (h : AH) (a R N : Nat) (G : Nat → Nat → Int32) : (h.ov2I a R N G).sl = h.sl := rfl
theorem AH.kind_ov2I (h : AH) (a R N : Nat) (G : Nat → Nat → Int32) : (h.ov2I a R N G).kind = h.kind := rfl
theorem AH.len_ov2I (h : AH) (a R N : Nat) (G : Nat → Nat → Int32) : (h.ov2I a R N G).len = h.len := rfl
theorem AH.L_ov2I (h : AH) (a R N : Nat) (G : Nat → Nat → Int32) : (h.ov2I a R N G).L = h.L := rfl
theorem AH.R_ov2I (h : AH) (a R N : Nat) (G : Nat → Nat → Int32) : (h.ov2I a R N G).R = h.R := rfl
theorem AH.I_ov2I (h : AH) (a R N : Nat) (G : Nat → Nat → Int32) (b j : Nat) : (h.ov2I a R N G).I b j = if a ≤ b ∧ b < a + R ∧ j < N then G (b - a) j else h.I b j := rfl
theorem I_ov2_ne {h : AH} {a R N b : Nat} {G : Nat → Nat → Int32} (hb : b < a ∨ a + R ≤ b) : (h.ov2I a R N G).I b = h.I b := by
  funext j; rw [AH.I_ov2I, if_neg (by omega)]
theorem I_ov2_eq {R N i j : Nat} (hi : i < R) (hj : j < N) (h : AH) (a : Nat) (G : Nat → Nat → Int32) : (h.ov2I a R N G).I (a + i) j = G i j := by
  rw [AH.I_ov2I, if_pos ⟨by omega, by omega, hj⟩, Nat.add_sub_cancel_left]
theorem ov2_self (h : AH) (a R N : Nat) : h.ov2I a R N (fun i j => h.I (a + i) j) = h := by
  refine AH.ext rfl rfl rfl ?_ (fun _ _ => rfl) (fun _ _ => rfl)
  intro b j
  rw [AH.I_ov2I]
  by_cases c : a ≤ b ∧ b < a + R ∧ j < N
  · rw [if_pos c, show a + (b - a) = b by omega]
  · rw [if_neg c]
theorem ov2_set {R N i j : Nat} (hi : i < R) (hj : j < N) (h : AH) (a : Nat) (G : Nat → Nat → Int32) (v : Int32) : (h.ov2I a R N G).setI (a + i) j v = h.ov2I a R N (up2 G i j v) := by
  refine AH.ext rfl rfl rfl ?_ (fun _ _ => rfl) (fun _ _ => rfl)
  intro b k
  rw [AH.I_setI, AH.I_ov2I, AH.I_ov2I]
  unfold up2
  by_cases c : b = a + i ∧ k = j
  · rw [if_pos c, if_pos ⟨by omega, by omega, by omega⟩, if_pos ⟨by omega, c.2⟩]
  · rw [if_neg c]
    by_cases c2 : a ≤ b ∧ b < a + R ∧ k < N
    · rw [if_pos c2, if_pos c2, if_neg (by omega)]
    · rw [if_neg c2, if_neg c2]
theorem ov2_congr {h : AH} {a R N : Nat} {G G' : Nat → Nat → Int32} (e : ∀ i j, i < R → j < N → G i j = G' i j) : h.ov2I a R N G = h.ov2I a R N G' := by
  refine AH.ext rfl rfl rfl ?_ (fun _ _ => rfl) (fun _ _ => rfl)
  intro b k
  rw [AH.I_ov2I, AH.I_ov2I]
  by_cases c2 : a ≤ b ∧ b < a + R ∧ k < N
  · rw [if_pos c2, if_pos c2, e _ _ (by omega) c2.2.2]
  · rw [if_neg c2, if_neg c2]
theorem MSh_ov2 {m : Nat} {h : AH} (a R N : Nat) (G : Nat → Nat → Int32) : MSh m (h.ov2I a R N G) ↔ MSh m h := Iff.rfl
theorem XSh_ov2 {x : Nat} {h : AH} (a R N : Nat) (G : Nat → Nat → Int32) : XSh x (h.ov2I a R N G) ↔ XSh x h := Iff.rfl
theorem XA_ov2 {K : Nat → Nat} {x : Nat} {h : AH} {ev ep b : Nat} {Ev Ep : Nat → Nat} {S : St} (X : XA K x h ev Ev ep Ep b S) (G : Nat → Nat → Int32) : XA K x (h.ov2I (x + 19) 8 8 G) ev Ev ep Ep b S := by
  refine XA_of X rfl rfl rfl ?_ ?_
  · intro c h1 h2 h3
    refine I_ov2_ne ?_
    rcases Nat.lt_or_ge c (x + 19) with h4 | h4
    · exact Or.inl h4
    · rcases Nat.lt_or_ge c (x + 27) with h5 | h5
      · have h6 := X.1.1 (c - x) (by omega)
        rw [show x + (c - x) = c by omega] at h6
        have h7 : ∀ i, i < 8 → xKs.getD (19 + i) 0 = 32 := by decide
        have h8 := h7 (c - x - 19) (by omega)
        rw [show 19 + (c - x - 19) = c - x by omega] at h8
        omega
      · exact Or.inr (by omega)
  · rw [I_ov2_ne (by omega)]
/-- the rows of the sheet's gains -/
theorem xs_row {x : Nat} {h : AH} (H : XSh x h) {i : Nat} (hi : i < 8) : h.R (x + 18) i = some (x + 19 + i) ∧ h.kind (x + 19 + i) = 32 ∧ h.len (x + 19 + i) = 8 := by
  have h1 : ∀ i, i < 8 → (18, i, 19 + i) ∈ xRs := by decide
  have h2 : ∀ i, i < 8 → xKs.getD (19 + i) 0 = 32 := by decide
  have h3 : ∀ i, i < 8 → xNs.getD (19 + i) 0 = 8 := by decide
  have g1 := H.2.2 _ (h1 i hi)
  have g2 := H.1 (19 + i) (by omega)
  have g3 := H.2.1 (19 + i) (by omega)
  rw [h2 i hi] at g2
  rw [h3 i hi] at g3
  simp only [← Nat.add_assoc] at g1 g2 g3
  exact ⟨g1, g2, g3⟩
def ncS (S : St) : Nat := if S.np < 8 then S.np else 8
theorem nc8 (S : St) : ncS S ≤ 8 := by unfold ncS; split <;> omega
theorem ncp (S : St) : ncS S ≤ S.np := by unfold ncS; split <;> omega
theorem nc_if {S : St} (h20 : S.np ≤ 20) : (if nI S.np < (8 : Int32) then nI S.np else (8 : Int32)) = nI (ncS S) := by
  have e : (nI S.np < 8) = (S.np < 8) := propext (nI_ltI (b := 8) (by omega) (by omega))
  unfold ncS
  by_cases c : S.np < 8
  · simp only [e, c, if_true]
  · simp only [e, c, if_false]; rfl
def gnS (S : St) (i j : Nat) : Int32 := vtS S i j - vtS S j i
theorem x_L22 {n : Nat} {K : Nat → Nat} {x : Nat} {h : AH} {ev ep b : Nat} {Ev Ep : Nat → Nat} {S : St} (hn : 20000 < n) (X : XA K x h ev Ev ep Ep b S) {i c : Nat} (hc : c ≤ ncS S) (hi : i < c) (G : Nat → Nat → Int32) (kk : AH → Option (Int32 × AH)) : F_X0_gains_L22 n K (nI i) (nI c) x n 0 (h.ov2I (x + 19) 8 8 G) kk = kk (h.ov2I (x + 19) 8 8 (foldS (fun j G => up2 G i j (gnS S i j)) G c)) := by
  have c8 := nc8 S
  have cp := ncp S
  have e1 : ix (nI i) = i := ix_nI (by omega)
  have e2 : inb (nI i) 8 = True := eq_true ((inb_nI (by omega)).2 (by omega))
  exact loopF (fun f j G => F_X0_gains_L22 n K (nI i) (nI c) x f j (h.ov2I (x + 19) 8 8 G) kk) c (fun j G => up2 G i j (gnS S i j)) (fun G => kk (h.ov2I (x + 19) 8 8 G)) G
    (by
      intro f j G hj
      have X' := XA_ov2 X G
      have e3 : (nI c ≤ nI j) = False := eq_false (nI_ge hj (by omega))
      have e4 : ix (nI j) = j := ix_nI (by omega)
      have e5 : inb (nI j) 8 = True := eq_true ((inb_nI (by omega)).2 (by omega))
      have hip : i < S.np := by omega
      have hjp : j < S.np := by omega
      obtain ⟨r1, r2, r3⟩ := xs_row X.1 (show i < 8 by omega)
      simp only [F_X0_gains_L22, chk_true, bnd_some, ob_some, oc_some, oc_none, hl_eq, jn_eq, ix_0, ix_1, if_true, if_false, inb0_2, inb1_2, not_true_eq_false, not_false_eq_true, ite_true, ite_false, true_or, or_true, or_self, zero_eq_one_I, one_eq_zero_I, AH.kind_ov2I, AH.len_ov2I, AH.R_ov2I, xs_k0, xs_k1, xs_n1, xs_k2, xs_k3, xs_k4, xs_k5, xs_k6, xs_k7, xs_k8, xs_k9, xs_k10, xs_k11, xs_n11, xs_k12, xs_n12, xs_k13, xs_n13, xs_k14, xs_n14, xs_k15, xs_n15, xs_k16, xs_n16, xs_k17, xs_n17, xs_k18, xs_n18, xs_k27, xs_n27, xs_k28, xs_n28, xs_r0_0, xs_r0_1, xs_r2_8, xs_r2_9, xs_r0_2, xs_r0_3, xs_r0_4, xs_r0_8, xs_r0_9, xs_r0_10, xs_r0_18, xs_r0_19, xs_r0_20, xs_r0_21, xs_r0_22, xs_r0_25, xs_r0_26, xs_r0_27, xs_r0_28, X.1, e1, e2, e3, e4, e5, x_pget hn X' hip, x_pget hn X' hjp, x_pkind hn X hip, x_pkind hn X hjp, x_votesOf hn X' hip hjp, x_votesOf hn X' hjp hip, r1, r2, r3, ov2_set (show i < 8 by omega) (show j < 8 by omega), nI_1, gnS])
    (by
      intro f G
      have e3 : (nI c ≤ nI c) = True := eq_true (nI_le (Nat.le_refl _) (by omega))
      simp only [F_X0_gains_L22, chk_true, bnd_some, ob_some, oc_some, oc_none, hl_eq, jn_eq, ix_0, ix_1, if_true, if_false, inb0_2, inb1_2, not_true_eq_false, not_false_eq_true, ite_true, ite_false, true_or, or_true, or_self, zero_eq_one_I, one_eq_zero_I, e3]) n (by omega)
def gnF (S : St) (G0 : Nat → Nat → Int32) (i j : Nat) : Int32 := if i < ncS S ∧ j < ncS S then gnS S i j else G0 i j
theorem fold_row {α : Type} {i : Nat} {g : Nat → α} {G : Nat → Nat → α} : ∀ {N a b : Nat}, foldS (fun j G => up2 G i j (g j)) G N a b = if a = i ∧ b < N then g b else G a b := by
  intro N
  induction N with
  | zero => intro a b; simp [foldS]
  | succ N ih =>
    intro a b
    rw [foldS]
    by_cases c : a = i ∧ b = N
    · obtain ⟨rfl, rfl⟩ := c
      rw [if_pos ⟨rfl, by omega⟩]
      exact if_pos ⟨rfl, rfl⟩
    · refine (if_neg c).trans ?_
      rw [ih]
      by_cases c2 : a = i ∧ b < N
      · rw [if_pos c2, if_pos ⟨c2.1, by omega⟩]
      · rw [if_neg c2, if_neg (by omega)]
theorem fold_grid {α : Type} {g : Nat → Nat → α} {G : Nat → Nat → α} {M : Nat} : ∀ {N a b : Nat}, foldS (fun i G => foldS (fun j G => up2 G i j (g i j)) G M) G N a b = if a < N ∧ b < M then g a b else G a b := by
  intro N
  induction N with
  | zero => intro a b; simp [foldS]
  | succ N ih =>
    intro a b
    rw [foldS, fold_row, ih]
    by_cases c : a = N ∧ b < M
    · obtain ⟨rfl, h2⟩ := c
      rw [if_pos ⟨rfl, h2⟩, if_pos ⟨by omega, h2⟩]
    · rw [if_neg c]
      by_cases c2 : a < N ∧ b < M
      · rw [if_pos c2, if_pos ⟨by omega, c2.2⟩]
      · rw [if_neg c2, if_neg (by omega)]
theorem x_gains {n : Nat} {K : Nat → Nat} {x : Nat} {h : AH} {ev ep b : Nat} {Ev Ep : Nat → Nat} {S : St} (hn : 20000 < n) (X : XA K x h ev Ev ep Ep b S) : F_X0_gains n K x h = some (nI (ncS S), h.ov2I (x + 19) 8 8 (gnF S (fun i j => h.I (x + 19 + i) j))) := by
  have h20 := xnp hn X
  have c8 := nc8 S
  have key := loopF (fun f i G => F_X0_gains_L15 n K (nI (ncS S)) x f i (h.ov2I (x + 19) 8 8 G)) (ncS S) (fun i G => foldS (fun j G => up2 G i j (gnS S i j)) G (ncS S)) (fun G => some (nI (ncS S), h.ov2I (x + 19) 8 8 G)) (fun i j => h.I (x + 19 + i) j)
    (by
      intro f i G hi
      have e3 : (nI (ncS S) ≤ nI i) = False := eq_false (nI_ge hi (by omega))
      simp only [F_X0_gains_L15, chk_true, bnd_some, ob_some, oc_some, oc_none, hl_eq, jn_eq, ix_0, ix_1, if_true, if_false, inb0_2, inb1_2, not_true_eq_false, not_false_eq_true, ite_true, ite_false, true_or, or_true, or_self, zero_eq_one_I, one_eq_zero_I, e3, x_L22 hn X (Nat.le_refl _) hi, nI_1])
    (by
      intro f G
      have e3 : (nI (ncS S) ≤ nI (ncS S)) = True := eq_true (nI_le (Nat.le_refl _) (by omega))
      simp only [F_X0_gains_L15, chk_true, bnd_some, ob_some, oc_some, oc_none, hl_eq, jn_eq, ix_0, ix_1, if_true, if_false, inb0_2, inb1_2, not_true_eq_false, not_false_eq_true, ite_true, ite_false, true_or, or_true, or_self, zero_eq_one_I, one_eq_zero_I, e3]) n (by omega)
  simp only [ov2_self] at key
  have ec : h.ov2I (x + 19) 8 8 (foldS (fun i G => foldS (fun j G => up2 G i j (gnS S i j)) G (ncS S)) (fun i j => h.I (x + 19 + i) j) (ncS S)) = h.ov2I (x + 19) 8 8 (gnF S (fun i j => h.I (x + 19 + i) j)) :=
    ov2_congr (fun i j _ _ => by rw [fold_grid]; rfl)
  rw [ec] at key
  simp only [F_X0_gains, chk_true, bnd_some, ob_some, oc_some, oc_none, hl_eq, jn_eq, ix_0, ix_1, if_true, if_false, inb0_2, inb1_2, not_true_eq_false, not_false_eq_true, ite_true, ite_false, true_or, or_true, or_self, zero_eq_one_I, one_eq_zero_I, xs_k0, xs_k1, xs_n1, xs_k2, xs_k3, xs_k4, xs_k5, xs_k6, xs_k7, xs_k8, xs_k9, xs_k10, xs_k11, xs_n11, xs_k12, xs_n12, xs_k13, xs_n13, xs_k14, xs_n14, xs_k15, xs_n15, xs_k16, xs_n16, xs_k17, xs_n17, xs_k18, xs_n18, xs_k27, xs_n27, xs_k28, xs_n28, xs_r0_0, xs_r0_1, xs_r2_8, xs_r2_9, xs_r0_2, xs_r0_3, xs_r0_4, xs_r0_8, xs_r0_9, xs_r0_10, xs_r0_18, xs_r0_19, xs_r0_20, xs_r0_21, xs_r0_22, xs_r0_25, xs_r0_26, xs_r0_27, xs_r0_28, X.1, x_psize hn X, nc_if h20, key]
def restP (S : St) (i : Nat) : Bool := !anyS (fun j => decide (0 < gnS S j i)) (ncS S)
def restS (S : St) : Int32 := selS (findS (restP S) (ncS S) 0) nI (-1)
theorem fold_and {p : Nat → Bool} : ∀ {N : Nat}, foldS (fun j (a : Int32) => if a = 0 then 0 else if p j = true then 0 else 1) 1 N = bI (!anyS p N) := by
  intro N
  induction N with
  | zero => rfl
  | succ N ih =>
    rw [foldS, ih, anyS]
    cases anyS p N <;> cases p N <;> simp [bI]
theorem x_rest {n : Nat} {K : Nat → Nat} {x : Nat} {h : AH} {ev ep b : Nat} {Ev Ep : Nat → Nat} {S : St} (hn : 20000 < n) (X : XA K x h ev Ev ep Ep b S) : ∃ G, F_X0_rest n K x h = some (restS S, h.ov2I (x + 19) 8 8 G) := by
  have c8 := nc8 S
  have cp := ncp S
  refine ⟨gnF S (fun i j => h.I (x + 19 + i) j), ?_⟩
  simp only [F_X0_rest, chk_true, bnd_some, ob_some, oc_some, oc_none, hl_eq, jn_eq, ix_0, ix_1, if_true, if_false, inb0_2, inb1_2, not_true_eq_false, not_false_eq_true, ite_true, ite_false, true_or, or_true, or_self, zero_eq_one_I, one_eq_zero_I, xs_k0, xs_k1, xs_n1, xs_k2, xs_k3, xs_k4, xs_k5, xs_k6, xs_k7, xs_k8, xs_k9, xs_k10, xs_k11, xs_n11, xs_k12, xs_n12, xs_k13, xs_n13, xs_k14, xs_n14, xs_k15, xs_n15, xs_k16, xs_n16, xs_k17, xs_n17, xs_k18, xs_n18, xs_k27, xs_n27, xs_k28, xs_n28, xs_r0_0, xs_r0_1, xs_r2_8, xs_r2_9, xs_r0_2, xs_r0_3, xs_r0_4, xs_r0_8, xs_r0_9, xs_r0_10, xs_r0_18, xs_r0_19, xs_r0_20, xs_r0_21, xs_r0_22, xs_r0_25, xs_r0_26, xs_r0_27, xs_r0_28, X.1, x_gains hn X]
  generalize hG : gnF S (fun i j => h.I (x + 19 + i) j) = G
  have hg : ∀ i j, i < ncS S → j < ncS S → G i j = gnS S i j := by
    intro i j hi hj
    rw [← hG, gnF, if_pos ⟨hi, hj⟩]
  have inner : ∀ i, i < ncS S → ∀ kk, F_X0_rest_L17 n K (nI i) (nI (ncS S)) x (h.ov2I (x + 19) 8 8 G) n 0 1 kk = kk (bI (restP S i)) := by
    intro i hi kk
    have e1 : ix (nI i) = i := ix_nI (by omega)
    have e2 : inb (nI i) 8 = True := eq_true ((inb_nI (by omega)).2 (by omega))
    have := loopF (fun f j a => F_X0_rest_L17 n K (nI i) (nI (ncS S)) x (h.ov2I (x + 19) 8 8 G) f j a kk) (ncS S) (fun j (a : Int32) => if a = 0 then 0 else if decide (0 < gnS S j i) = true then 0 else 1) (fun a => kk a) 1
      (by
        intro f j a hj
        have e3 : (nI (ncS S) ≤ nI j) = False := eq_false (nI_ge hj (by omega))
        have e4 : ix (nI j) = j := ix_nI (by omega)
        have e5 : inb (nI j) 8 = True := eq_true ((inb_nI (by omega)).2 (by omega))
        obtain ⟨r1, r2, r3⟩ := xs_row X.1 (show j < 8 by omega)
        simp only [F_X0_rest_L17, chk_true, bnd_some, ob_some, oc_some, oc_none, hl_eq, jn_eq, ix_0, ix_1, if_true, if_false, inb0_2, inb1_2, not_true_eq_false, not_false_eq_true, ite_true, ite_false, true_or, or_true, or_self, zero_eq_one_I, one_eq_zero_I, AH.kind_ov2I, AH.len_ov2I, AH.R_ov2I, xs_k0, xs_k1, xs_n1, xs_k2, xs_k3, xs_k4, xs_k5, xs_k6, xs_k7, xs_k8, xs_k9, xs_k10, xs_k11, xs_n11, xs_k12, xs_n12, xs_k13, xs_n13, xs_k14, xs_n14, xs_k15, xs_n15, xs_k16, xs_n16, xs_k17, xs_n17, xs_k18, xs_n18, xs_k27, xs_n27, xs_k28, xs_n28, xs_r0_0, xs_r0_1, xs_r2_8, xs_r2_9, xs_r0_2, xs_r0_3, xs_r0_4, xs_r0_8, xs_r0_9, xs_r0_10, xs_r0_18, xs_r0_19, xs_r0_20, xs_r0_21, xs_r0_22, xs_r0_25, xs_r0_26, xs_r0_27, xs_r0_28, X.1, e1, e2, e3, e4, e5, r1, r2, r3, I_ov2_eq (show j < 8 by omega) (show i < 8 by omega), hg j i hj hi, nI_1]
        by_cases c : a = 0
        · simp [c]
        · by_cases c2 : 0 < gnS S j i <;> simp [c, c2])
      (by
        intro f a
        have e3 : (nI (ncS S) ≤ nI (ncS S)) = True := eq_true (nI_le (Nat.le_refl _) (by omega))
        simp only [F_X0_rest_L17, chk_true, bnd_some, ob_some, oc_some, oc_none, hl_eq, jn_eq, ix_0, ix_1, if_true, if_false, inb0_2, inb1_2, not_true_eq_false, not_false_eq_true, ite_true, ite_false, true_or, or_true, or_self, zero_eq_one_I, one_eq_zero_I, e3]) n (by omega)
    rw [fold_and] at this
    exact this
  have key := loopG (fun f i => F_X0_rest_L7 n K (nI (ncS S)) x (h.ov2I (x + 19) 8 8 G) f i) (ncS S) (restP S) (fun k => some (nI k, h.ov2I (x + 19) 8 8 G)) (some (-1, h.ov2I (x + 19) 8 8 G))
    (by
      intro f i hi
      have e3 : (nI (ncS S) ≤ nI i) = False := eq_false (nI_ge hi (by omega))
      simp only [F_X0_rest_L7, chk_true, bnd_some, ob_some, oc_some, oc_none, hl_eq, jn_eq, ix_0, ix_1, if_true, if_false, inb0_2, inb1_2, not_true_eq_false, not_false_eq_true, ite_true, ite_false, true_or, or_true, or_self, zero_eq_one_I, one_eq_zero_I, e3, inner i hi, nI_1, bI_0]
      rcases Bool.eq_false_or_eq_true (restP S i) with hb | hb <;> simp [hb])
    (by
      intro f
      have e3 : (nI (ncS S) ≤ nI (ncS S)) = True := eq_true (nI_le (Nat.le_refl _) (by omega))
      simp only [F_X0_rest_L7, chk_true, bnd_some, ob_some, oc_some, oc_none, hl_eq, jn_eq, ix_0, ix_1, if_true, if_false, inb0_2, inb1_2, not_true_eq_false, not_false_eq_true, ite_true, ite_false, true_or, or_true, or_self, zero_eq_one_I, one_eq_zero_I, e3]) n (by omega)
  refine key.trans ?_
  unfold restS
  cases findS (restP S) (ncS S) 0 <;> rfl
theorem m_chosen {n : Nat} {K : Nat → Nat} {m : Nat} {h : AH} {S : St} (hn : 20000 < n) (M : MA m h S) : F_X3_chosen n K m h = some (nI (ncS S), h) := by
  simp only [F_X3_chosen, chk_true, bnd_some, ob_some, oc_some, oc_none, hl_eq, jn_eq, ix_0, ix_1, if_true, if_false, inb0_2, inb1_2, not_true_eq_false, not_false_eq_true, ite_true, ite_false, true_or, or_true, or_self, zero_eq_one_I, one_eq_zero_I, ms_k0, ms_k1, ms_n1, ms_k2, ms_n2, ms_k3, ms_n3, ms_k4, ms_n4, ms_k5, ms_n5, ms_k6, ms_n6, ms_k7, ms_n7, ms_k8, ms_n8, ms_k9, ms_n9, ms_k10, ms_n10, ms_k11, ms_n11, ms_k12, ms_n12, ms_k13, ms_n13, ms_k14, ms_n14, ms_k15, ms_n15, ms_k16, ms_n16, ms_k17, ms_n17, ms_k18, ms_n18, ms_k19, ms_n19, ms_k20, ms_n20, ms_k21, ms_n21, ms_k22, ms_n22, ms_k23, ms_n23, ms_k24, ms_n24, ms_k25, ms_n25, ms_k26, ms_n26, ms_k27, ms_n27, ms_k28, ms_n28, ms_k29, ms_n29, ms_k30, ms_n30, ms_k31, ms_n31, ms_k32, ms_n32, ms_k33, ms_n33, ms_k34, ms_n34, ms_k35, ms_n35, ms_k36, ms_n36, ms_k37, ms_n37, ms_k38, ms_n38, ms_k39, ms_n39, ms_k40, ms_n40, ms_k41, ms_n41, ms_k50, ms_n50, ms_k51, ms_n51, ms_k52, ms_n52, ms_k53, ms_n53, ms_r0_0, ms_r0_6, ms_r2_0, ms_r2_1, ms_r0_7, ms_r5_0, ms_r5_1, ms_r0_8, ms_r8_0, ms_r8_1, ms_r0_9, ms_r11_0, ms_r11_1, ms_r0_10, ms_r14_0, ms_r14_1, ms_r0_11, ms_r17_0, ms_r17_1, ms_r0_12, ms_r20_0, ms_r20_1, ms_r0_13, ms_r23_0, ms_r23_1, ms_r0_14, ms_r0_15, ms_r0_16, ms_r0_17, ms_r0_18, ms_r0_23, ms_r0_24, ms_r0_25, ms_r0_26, ms_r0_30, ms_r0_31, ms_r0_32, ms_r0_35, ms_r0_36, ms_r0_39, ms_r0_40, ms_r0_41, ms_r0_42, ms_r0_43, ms_r0_47, M.1, m_placesA hn M, nc_if (mnp hn M)]
theorem m_gain {n : Nat} {K : Nat → Nat} {m : Nat} {h : AH} {S : St} (hn : 20000 < n) (M : MA m h S) {i j : Nat} (hi : i < S.np) (hj : j < S.np) : F_X3_gain n K m (nI i) (nI j) h = some (gnS S i j, h) := by
  simp only [F_X3_gain, chk_true, bnd_some, ob_some, oc_some, oc_none, hl_eq, jn_eq, ix_0, ix_1, if_true, if_false, inb0_2, inb1_2, not_true_eq_false, not_false_eq_true, ite_true, ite_false, true_or, or_true, or_self, zero_eq_one_I, one_eq_zero_I, ms_k0, ms_k1, ms_n1, ms_k2, ms_n2, ms_k3, ms_n3, ms_k4, ms_n4, ms_k5, ms_n5, ms_k6, ms_n6, ms_k7, ms_n7, ms_k8, ms_n8, ms_k9, ms_n9, ms_k10, ms_n10, ms_k11, ms_n11, ms_k12, ms_n12, ms_k13, ms_n13, ms_k14, ms_n14, ms_k15, ms_n15, ms_k16, ms_n16, ms_k17, ms_n17, ms_k18, ms_n18, ms_k19, ms_n19, ms_k20, ms_n20, ms_k21, ms_n21, ms_k22, ms_n22, ms_k23, ms_n23, ms_k24, ms_n24, ms_k25, ms_n25, ms_k26, ms_n26, ms_k27, ms_n27, ms_k28, ms_n28, ms_k29, ms_n29, ms_k30, ms_n30, ms_k31, ms_n31, ms_k32, ms_n32, ms_k33, ms_n33, ms_k34, ms_n34, ms_k35, ms_n35, ms_k36, ms_n36, ms_k37, ms_n37, ms_k38, ms_n38, ms_k39, ms_n39, ms_k40, ms_n40, ms_k41, ms_n41, ms_k50, ms_n50, ms_k51, ms_n51, ms_k52, ms_n52, ms_k53, ms_n53, ms_r0_0, ms_r0_6, ms_r2_0, ms_r2_1, ms_r0_7, ms_r5_0, ms_r5_1, ms_r0_8, ms_r8_0, ms_r8_1, ms_r0_9, ms_r11_0, ms_r11_1, ms_r0_10, ms_r14_0, ms_r14_1, ms_r0_11, ms_r17_0, ms_r17_1, ms_r0_12, ms_r20_0, ms_r20_1, ms_r0_13, ms_r23_0, ms_r23_1, ms_r0_14, ms_r0_15, ms_r0_16, ms_r0_17, ms_r0_18, ms_r0_23, ms_r0_24, ms_r0_25, ms_r0_26, ms_r0_30, ms_r0_31, ms_r0_32, ms_r0_35, ms_r0_36, ms_r0_39, ms_r0_40, ms_r0_41, ms_r0_42, ms_r0_43, ms_r0_47, M.1, m_votesOf hn M hi hj, m_votesOf hn M hj hi, gnS]
theorem m_rest {n : Nat} {K : Nat → Nat} {m : Nat} {h : AH} {S : St} (hn : 20000 < n) (M : MA m h S) : F_X3_rest n K m h = some (restS S, h) := by
  have c8 := nc8 S
  have cp := ncp S
  have inner : ∀ i, i < ncS S → ∀ kk, F_X3_rest_L14 n K (nI i) m n 0 1 h kk = kk (bI (restP S i)) h := by
    intro i hi kk
    have := loopF (fun f j a => F_X3_rest_L14 n K (nI i) m f j a h kk) (ncS S) (fun j (a : Int32) => if a = 0 then 0 else if decide (0 < gnS S j i) = true then 0 else 1) (fun a => kk a h) 1
      (by
        intro f j a hj
        have e3 : (nI (ncS S) ≤ nI j) = False := eq_false (nI_ge hj (by omega))
        simp only [F_X3_rest_L14, chk_true, bnd_some, ob_some, oc_some, oc_none, hl_eq, jn_eq, ix_0, ix_1, if_true, if_false, inb0_2, inb1_2, not_true_eq_false, not_false_eq_true, ite_true, ite_false, true_or, or_true, or_self, zero_eq_one_I, one_eq_zero_I, ms_k0, ms_k1, ms_n1, ms_k2, ms_n2, ms_k3, ms_n3, ms_k4, ms_n4, ms_k5, ms_n5, ms_k6, ms_n6, ms_k7, ms_n7, ms_k8, ms_n8, ms_k9, ms_n9, ms_k10, ms_n10, ms_k11, ms_n11, ms_k12, ms_n12, ms_k13, ms_n13, ms_k14, ms_n14, ms_k15, ms_n15, ms_k16, ms_n16, ms_k17, ms_n17, ms_k18, ms_n18, ms_k19, ms_n19, ms_k20, ms_n20, ms_k21, ms_n21, ms_k22, ms_n22, ms_k23, ms_n23, ms_k24, ms_n24, ms_k25, ms_n25, ms_k26, ms_n26, ms_k27, ms_n27, ms_k28, ms_n28, ms_k29, ms_n29, ms_k30, ms_n30, ms_k31, ms_n31, ms_k32, ms_n32, ms_k33, ms_n33, ms_k34, ms_n34, ms_k35, ms_n35, ms_k36, ms_n36, ms_k37, ms_n37, ms_k38, ms_n38, ms_k39, ms_n39, ms_k40, ms_n40, ms_k41, ms_n41, ms_k50, ms_n50, ms_k51, ms_n51, ms_k52, ms_n52, ms_k53, ms_n53, ms_r0_0, ms_r0_6, ms_r2_0, ms_r2_1, ms_r0_7, ms_r5_0, ms_r5_1, ms_r0_8, ms_r8_0, ms_r8_1, ms_r0_9, ms_r11_0, ms_r11_1, ms_r0_10, ms_r14_0, ms_r14_1, ms_r0_11, ms_r17_0, ms_r17_1, ms_r0_12, ms_r20_0, ms_r20_1, ms_r0_13, ms_r23_0, ms_r23_1, ms_r0_14, ms_r0_15, ms_r0_16, ms_r0_17, ms_r0_18, ms_r0_23, ms_r0_24, ms_r0_25, ms_r0_26, ms_r0_30, ms_r0_31, ms_r0_32, ms_r0_35, ms_r0_36, ms_r0_39, ms_r0_40, ms_r0_41, ms_r0_42, ms_r0_43, ms_r0_47, M.1, m_chosen hn M, e3, m_gain hn M (show j < S.np by omega) (show i < S.np by omega), nI_1]
        by_cases c : a = 0
        · simp [c]
        · by_cases c2 : 0 < gnS S j i <;> simp [c, c2])
      (by
        intro f a
        have e3 : (nI (ncS S) ≤ nI (ncS S)) = True := eq_true (nI_le (Nat.le_refl _) (by omega))
        simp only [F_X3_rest_L14, chk_true, bnd_some, ob_some, oc_some, oc_none, hl_eq, jn_eq, ix_0, ix_1, if_true, if_false, inb0_2, inb1_2, not_true_eq_false, not_false_eq_true, ite_true, ite_false, true_or, or_true, or_self, zero_eq_one_I, one_eq_zero_I, ms_k0, ms_k1, ms_n1, ms_k2, ms_n2, ms_k3, ms_n3, ms_k4, ms_n4, ms_k5, ms_n5, ms_k6, ms_n6, ms_k7, ms_n7, ms_k8, ms_n8, ms_k9, ms_n9, ms_k10, ms_n10, ms_k11, ms_n11, ms_k12, ms_n12, ms_k13, ms_n13, ms_k14, ms_n14, ms_k15, ms_n15, ms_k16, ms_n16, ms_k17, ms_n17, ms_k18, ms_n18, ms_k19, ms_n19, ms_k20, ms_n20, ms_k21, ms_n21, ms_k22, ms_n22, ms_k23, ms_n23, ms_k24, ms_n24, ms_k25, ms_n25, ms_k26, ms_n26, ms_k27, ms_n27, ms_k28, ms_n28, ms_k29, ms_n29, ms_k30, ms_n30, ms_k31, ms_n31, ms_k32, ms_n32, ms_k33, ms_n33, ms_k34, ms_n34, ms_k35, ms_n35, ms_k36, ms_n36, ms_k37, ms_n37, ms_k38, ms_n38, ms_k39, ms_n39, ms_k40, ms_n40, ms_k41, ms_n41, ms_k50, ms_n50, ms_k51, ms_n51, ms_k52, ms_n52, ms_k53, ms_n53, ms_r0_0, ms_r0_6, ms_r2_0, ms_r2_1, ms_r0_7, ms_r5_0, ms_r5_1, ms_r0_8, ms_r8_0, ms_r8_1, ms_r0_9, ms_r11_0, ms_r11_1, ms_r0_10, ms_r14_0, ms_r14_1, ms_r0_11, ms_r17_0, ms_r17_1, ms_r0_12, ms_r20_0, ms_r20_1, ms_r0_13, ms_r23_0, ms_r23_1, ms_r0_14, ms_r0_15, ms_r0_16, ms_r0_17, ms_r0_18, ms_r0_23, ms_r0_24, ms_r0_25, ms_r0_26, ms_r0_30, ms_r0_31, ms_r0_32, ms_r0_35, ms_r0_36, ms_r0_39, ms_r0_40, ms_r0_41, ms_r0_42, ms_r0_43, ms_r0_47, M.1, m_chosen hn M, e3]) n (by omega)
    rw [fold_and] at this
    exact this
  have key := loopG (fun f i => F_X3_rest_L2 n K m f i h) (ncS S) (restP S) (fun k => some (nI k, h)) (some (-1, h))
    (by
      intro f i hi
      have e3 : (nI (ncS S) ≤ nI i) = False := eq_false (nI_ge hi (by omega))
      simp only [F_X3_rest_L2, chk_true, bnd_some, ob_some, oc_some, oc_none, hl_eq, jn_eq, ix_0, ix_1, if_true, if_false, inb0_2, inb1_2, not_true_eq_false, not_false_eq_true, ite_true, ite_false, true_or, or_true, or_self, zero_eq_one_I, one_eq_zero_I, ms_k0, ms_k1, ms_n1, ms_k2, ms_n2, ms_k3, ms_n3, ms_k4, ms_n4, ms_k5, ms_n5, ms_k6, ms_n6, ms_k7, ms_n7, ms_k8, ms_n8, ms_k9, ms_n9, ms_k10, ms_n10, ms_k11, ms_n11, ms_k12, ms_n12, ms_k13, ms_n13, ms_k14, ms_n14, ms_k15, ms_n15, ms_k16, ms_n16, ms_k17, ms_n17, ms_k18, ms_n18, ms_k19, ms_n19, ms_k20, ms_n20, ms_k21, ms_n21, ms_k22, ms_n22, ms_k23, ms_n23, ms_k24, ms_n24, ms_k25, ms_n25, ms_k26, ms_n26, ms_k27, ms_n27, ms_k28, ms_n28, ms_k29, ms_n29, ms_k30, ms_n30, ms_k31, ms_n31, ms_k32, ms_n32, ms_k33, ms_n33, ms_k34, ms_n34, ms_k35, ms_n35, ms_k36, ms_n36, ms_k37, ms_n37, ms_k38, ms_n38, ms_k39, ms_n39, ms_k40, ms_n40, ms_k41, ms_n41, ms_k50, ms_n50, ms_k51, ms_n51, ms_k52, ms_n52, ms_k53, ms_n53, ms_r0_0, ms_r0_6, ms_r2_0, ms_r2_1, ms_r0_7, ms_r5_0, ms_r5_1, ms_r0_8, ms_r8_0, ms_r8_1, ms_r0_9, ms_r11_0, ms_r11_1, ms_r0_10, ms_r14_0, ms_r14_1, ms_r0_11, ms_r17_0, ms_r17_1, ms_r0_12, ms_r20_0, ms_r20_1, ms_r0_13, ms_r23_0, ms_r23_1, ms_r0_14, ms_r0_15, ms_r0_16, ms_r0_17, ms_r0_18, ms_r0_23, ms_r0_24, ms_r0_25, ms_r0_26, ms_r0_30, ms_r0_31, ms_r0_32, ms_r0_35, ms_r0_36, ms_r0_39, ms_r0_40, ms_r0_41, ms_r0_42, ms_r0_43, ms_r0_47, M.1, m_chosen hn M, e3, inner i hi, nI_1, bI_0]
      rcases Bool.eq_false_or_eq_true (restP S i) with hb | hb <;> simp [hb])
    (by
      intro f
      have e3 : (nI (ncS S) ≤ nI (ncS S)) = True := eq_true (nI_le (Nat.le_refl _) (by omega))
      simp only [F_X3_rest_L2, chk_true, bnd_some, ob_some, oc_some, oc_none, hl_eq, jn_eq, ix_0, ix_1, if_true, if_false, inb0_2, inb1_2, not_true_eq_false, not_false_eq_true, ite_true, ite_false, true_or, or_true, or_self, zero_eq_one_I, one_eq_zero_I, ms_k0, ms_k1, ms_n1, ms_k2, ms_n2, ms_k3, ms_n3, ms_k4, ms_n4, ms_k5, ms_n5, ms_k6, ms_n6, ms_k7, ms_n7, ms_k8, ms_n8, ms_k9, ms_n9, ms_k10, ms_n10, ms_k11, ms_n11, ms_k12, ms_n12, ms_k13, ms_n13, ms_k14, ms_n14, ms_k15, ms_n15, ms_k16, ms_n16, ms_k17, ms_n17, ms_k18, ms_n18, ms_k19, ms_n19, ms_k20, ms_n20, ms_k21, ms_n21, ms_k22, ms_n22, ms_k23, ms_n23, ms_k24, ms_n24, ms_k25, ms_n25, ms_k26, ms_n26, ms_k27, ms_n27, ms_k28, ms_n28, ms_k29, ms_n29, ms_k30, ms_n30, ms_k31, ms_n31, ms_k32, ms_n32, ms_k33, ms_n33, ms_k34, ms_n34, ms_k35, ms_n35, ms_k36, ms_n36, ms_k37, ms_n37, ms_k38, ms_n38, ms_k39, ms_n39, ms_k40, ms_n40, ms_k41, ms_n41, ms_k50, ms_n50, ms_k51, ms_n51, ms_k52, ms_n52, ms_k53, ms_n53, ms_r0_0, ms_r0_6, ms_r2_0, ms_r2_1, ms_r0_7, ms_r5_0, ms_r5_1, ms_r0_8, ms_r8_0, ms_r8_1, ms_r0_9, ms_r11_0, ms_r11_1, ms_r0_10, ms_r14_0, ms_r14_1, ms_r0_11, ms_r17_0, ms_r17_1, ms_r0_12, ms_r20_0, ms_r20_1, ms_r0_13, ms_r23_0, ms_r23_1, ms_r0_14, ms_r0_15, ms_r0_16, ms_r0_17, ms_r0_18, ms_r0_23, ms_r0_24, ms_r0_25, ms_r0_26, ms_r0_30, ms_r0_31, ms_r0_32, ms_r0_35, ms_r0_36, ms_r0_39, ms_r0_40, ms_r0_41, ms_r0_42, ms_r0_43, ms_r0_47, M.1, m_chosen hn M, e3]) n (by omega)
  refine key.trans ?_
  unfold restS
  cases findS (restP S) (ncS S) 0 <;> rfl
