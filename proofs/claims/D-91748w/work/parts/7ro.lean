/-! PURE PART RO: the sheet's lines, one step -/
set_option maxRecDepth 100000
def XLb (K : Nat → Nat) (x : Nat) (h : AH) (e c : Nat → Nat) (E : Nat → Nat → Nat) (b : Nat) (Z : Zt) (l : TL) : Prop := XC K x h e c E b Z ∧ h.I x 11 = 1 ∧ h.I x 12 = 0 ∧ XCr x h Z.S ∧ c 5 = l.1 ∧ X3L h 12 l.1 (E 5) l.2
theorem XLb_l5 {K : Nat → Nat} {x : Nat} {h : AH} {e c : Nat → Nat} {E : Nat → Nat → Nat} {b : Nat} {Z : Zt} {l : TL} (I : XLb K x h e c E b Z l) : Ls K h (x + 9) (e 5) l.1 (E 5) := by
  have := (I.1.2.2.1.1 5 (by omega)).1
  rw [I.2.2.2.2.1] at this
  exact this
theorem XLb_new {K : Nat → Nat} {x : Nat} {h h' : AH} {e c : Nat → Nat} {E : Nat → Nat → Nat} {b : Nat} {Z : Zt} {l : TL} {cc ss : Nat} (I : XLb K x h e c E b Z l) (F : Fr cc ss (fun _ _ => False) h h') : XLb K x h' e c E b Z l := by
  obtain ⟨C, i1, i2, i3, i4, i5⟩ := I
  have k0 := xs_k0 C.2.2.2.2.1.1
  obtain ⟨f1, f2, f3⟩ := F.2.2.2.2.2 x (by omega)
  exact ⟨XC_fr0 C F (fun _ _ _ w => w.elim), by rw [(f3 11 (fun w => w)).1]; exact i1, by rw [(f3 12 (fun w => w)).1]; exact i2, XCr_fr i3 F (by omega) (fun _ _ _ w => w), i4, X3L_fr (by omega) i5 F (fun _ _ _ w => w)⟩
theorem new_T {h : AH} (wf : Wf h) (kd : Nat) (t : T3) : Fr 1 3 (fun _ _ => False) h ((h.new kd 0 3).setT h.n t) := by
  have h0 := wf h.n (Nat.le_refl _)
  exact Fr_trans (W := fun _ _ => False) (Fr_new (W := fun _ _ => False) wf kd 0 3) (Fr_setT (W := fun a _ => a = h.n) (h.new kd 0 3) h.n t (fun _ _ => rfl)) (fun _ _ _ w => w) (fun a j ha w => ha (by rw [show a = h.n from w]; exact h0))
theorem ins3 {h : AH} {kd c p d : Nat} {E : Nat → Nat} {F : Nat → T3} {t : T3} (X : X3L h kd c E F) (hd : h.kind d = kd) (d0 : h.L d 0 = Int64.ofInt t.1) (d1 : h.L d 1 = Int64.ofInt t.2.1) (d2 : h.L d 2 = Int64.ofInt t.2.2) (hp : p ≤ c) : X3L h kd (c + 1) (insF p d E) (insF p t F) := by
  intro k hk
  unfold insF
  by_cases c1 : k < p
  · rw [if_pos c1, if_pos c1]; exact X k (by omega)
  · rw [if_neg c1, if_neg c1]
    by_cases c2 : k = p
    · rw [if_pos c2, if_pos c2]; exact ⟨hd, d0, d1, d2⟩
    · rw [if_neg c2, if_neg c2]; exact X (k - 1) (by omega)
/-- slots used against the length of a list's array -/
def Cp (i k M : Nat) (h : AH) (e : Nat → Nat) (h' : AH) (e' : Nat → Nat) : Prop := h'.sl + 4 * h.len (e i) ≤ h.sl + 3 * k + 4 * h'.len (e' i) ∧ (h'.len (e' i) ≤ h.len (e i) ∨ h'.len (e' i) ≤ M)
theorem Cp_trans {i k1 k2 M : Nat} {h h1 h2 : AH} {e e1 e2 : Nat → Nat} (a : Cp i k1 M h e h1 e1) (b : Cp i k2 M h1 e1 h2 e2) : Cp i (k1 + k2) M h e h2 e2 := by
  unfold Cp at *
  omega
theorem Cp_mono {i k k' M M' : Nat} {h h1 : AH} {e e1 : Nat → Nat} (a : Cp i k M h e h1 e1) (hk : k ≤ k') (hM : M ≤ M') : Cp i k' M' h e h1 e1 := by
  unfold Cp at *
  omega
theorem Cp_refl {i M : Nat} {h : AH} {e : Nat → Nat} : Cp i 0 M h e h e := ⟨by omega, Or.inl (Nat.le_refl _)⟩
theorem Cp_new {i M s : Nat} {W : Nat → Nat → Prop} {c : Nat} {h h' : AH} {e : Nat → Nat} (F : Fr c s W h h') (hs : s ≤ 3) (hk : h.kind (e i) ≠ 0) : Cp i 1 M h e h' e := by
  have := (F.2.2.2.2.2 (e i) hk).2.1
  have := F.2.2.2.2.1
  exact ⟨by omega, Or.inl (by omega)⟩
theorem Cp_end {i k M : Nat} {h h1 : AH} {e e1 : Nat → Nat} (a : Cp i k M h e h1 e1) : h1.sl ≤ h.sl + (3 * k + 4 * M) := by
  unfold Cp at a
  omega
theorem Fr_sharp {c s s' : Nat} {W : Nat → Nat → Prop} {h h' : AH} (F : Fr c s W h h') (hs : h'.sl ≤ h.sl + s') : Fr c s' W h h' := ⟨F.1, F.2.1, F.2.2.1, F.2.2.2.1, hs, F.2.2.2.2.2⟩
/-- a line goes into the row -/
theorem XLb_ins {n : Nat} {K : Nat → Nat} {x : Nat} {h : AH} {e c : Nat → Nat} {E : Nat → Nat → Nat} {b : Nat} {Z : Zt} {l : TL} (I : XLb K x h e c E b Z l) (hl : l.1 < 6000) {d p : Nat} {t : T3} (hp : p ≤ l.1) (hd : h.kind d = 12) (d0 : h.L d 0 = Int64.ofInt t.1) (d1 : h.L d 1 = Int64.ofInt t.2.1) (d2 : h.L d 2 = Int64.ofInt t.2.2) : ∃ e' c' E' h', F_J2_add_3 n K (x + 9) (nI p) (some d) h = some ((), h') ∧ XLb K x h' e' c' E' b Z (l.1 + 1, insF p t l.2) ∧ Fr 1 (10 + 2 * l.1) (fun a _ => ¬ RgM (x + 29) a) h h' ∧ Cp 5 0 (10 + 2 * l.1) h e h' e' := by
  obtain ⟨C, i1, i2, i3, i4, i5⟩ := I
  have H := C.2.2.2.2.1.1
  have k0 := xs_k0 H
  have LLh := C.2.2.1
  obtain ⟨e', h', q1, q2, F, q3⟩ := LL_ins (n := n) C.1 LLh (i := 5) (by omega) (by omega) (q := p) (by omega) (a := d) (by omega)
  have kl := (LLh.1 5 (by omega)).1.1
  have hW : ∀ (a j : Nat), h.kind a ≠ 0 → (a = x + loL 5 ∨ (a = e 5 ∧ h.kind (e 5) = 34)) → h.kind a = 3 ∨ h.kind a = 34 := by
    rintro a j _ (z | ⟨z, z2⟩)
    · rw [z]; exact Or.inl kl
    · rw [z]; exact Or.inr z2
  have hO : ∀ (a j : Nat), h.kind a ≠ 0 → (a = x + loL 5 ∨ (a = e 5 ∧ h.kind (e 5) = 34)) → OkW x h a j := by
    intro a j ha w
    rcases hW a j ha w with z | z
    · exact Or.inl z
    · exact Or.inr (Or.inl z)
  have nx : ∀ j : Nat, ¬ (x = x + loL 5 ∨ (x = e 5 ∧ h.kind (e 5) = 34)) := by
    intro j w
    have := hW x j (by omega) w
    omega
  obtain ⟨f1, f2, f3⟩ := F.2.2.2.2.2 x (by omega)
  rw [i4] at q2 F q3
  refine ⟨up1 e 5 e', up1 c 5 (l.1 + 1), up1 E 5 (insF p d (E 5)), h', q1, ⟨XC_fr C F q2 (fun i hi => ?_) (fun i i2 i4 => ⟨if_neg (by omega), if_neg (by omega), if_neg (by omega)⟩) hO, by rw [(f3 11 (nx 11)).1]; exact i1, by rw [(f3 12 (nx 12)).1]; exact i2, XCr_fr i3 F (by omega) (fun j _ _ => nx j), if_pos rfl, ?_⟩, Fr_mono F (by omega) (by omega) (fun a j ha w => OkW_m C.2.1 (hO a j ha w)), ?_⟩
  · unfold up1
    by_cases z : i = 5
    · rw [if_pos z]; omega
    · rw [if_neg z]; exact C.2.2.2.1 i hi
  · have u : up1 E 5 (insF p d (E 5)) 5 = insF p d (E 5) := if_pos rfl
    show X3L h' 12 (l.1 + 1) (up1 E 5 (insF p d (E 5)) 5) (insF p t l.2)
    rw [u]
    refine X3L_fr (by omega) (ins3 i5 hd d0 d1 d2 hp) F (fun v hv j w => ?_)
    have g := (ins3 i5 hd d0 d1 d2 hp v hv).1
    have := hW _ j (by omega) w
    omega
  · unfold Cp
    rw [show up1 e 5 e' 5 = e' from if_pos rfl]
    exact ⟨by omega, q3.2⟩
theorem jn_and {β : Type} (J Z : Option β) {P Q : Prop} {i1 : Decidable P} {i2 : Decidable Q} : (jn (α := Option β) J fun j => if ¬ P then j else if ¬ Q then j else Z) = if P ∧ Q then Z else J := by
  rw [jn_eq]
  by_cases c1 : P
  · by_cases c2 : Q
    · simp [c1, c2]
    · simp [c1, c2]
  · simp [c1]
theorem put_mem {ah : T3 → T3 → Bool} {t : T3} {l : TL} (h : memS t l = true) : putS ah t l = l := if_pos h
theorem put_new {ah : T3 → T3 → Bool} {t : T3} {l : TL} (h : memS t l = false) : putS ah t l = (l.1 + 1, insF (posS ah t l) t l.2) := if_neg (by rw [h]; decide)
theorem x_lnStep {n : Nat} {K : Nat → Nat} {x : Nat} {h : AH} {e c : Nat → Nat} {E : Nat → Nat → Nat} {b : Nat} {Z : Zt} {l : TL} (hn : 20000 < n) (B : Bd Z.S) (I : XLb K x h e c E b Z l) (T : TLok l) (hl : l.1 ≤ 200) {i j : Nat} (hj : j < i) (hi : i < Z.S.nv) (f : Nat) (k : AH → Option (Unit × AH)) :
    ∃ e' c' E' h', F_X0_findLines_L35 n K (nI i) x (f + 1) (nI j) h k = F_X0_findLines_L35 n K (nI i) x f (nI (j + 1)) h' k ∧ XLb K x h' e' c' E' b Z (lnStep Z.S i j l) ∧ Fr 2 (13 + 2 * l.1) (fun a _ => ¬ RgM (x + 29) a) h h' ∧ Cp 5 1 (10 + 2 * l.1) h e h' e' := by
  have X := I.1.2.2.2.2.1
  have H := X.1
  have wf := I.1.1
  have h15 := xnv hn X
  have gi := X.2.1.2.2 i hi
  have gj := X.2.1.2.2 j (by omega)
  have e3 : (nI i ≤ nI j) = False := eq_false (nI_ge hj (by omega))
  have vi := x_vget (n := n) hn X hi
  have vj := x_vget (n := n) hn X (i := j) (by omega)
  have ki := eq_true gi.1
  have kj := eq_true gj.1
  by_cases same : Z.S.V i 0 = Z.S.V j 0 ∧ Z.S.V i 1 = Z.S.V j 1
  · refine ⟨e, c, E, h, ?_, ?_, Fr_mono (Fr_refl h) (by omega) (by omega) (fun _ _ _ z => z), Cp_mono Cp_refl (by omega) (Nat.le_refl _)⟩
    · simp only [F_X0_findLines_L35, chk_true, bnd_some, ob_some, oc_some, oc_none, hl_eq, jn_eq, ix_0, ix_1, if_true, if_false, inb0_2, inb1_2, not_true_eq_false, not_false_eq_true, ite_true, ite_false, true_or, or_true, or_self, zero_eq_one_I, one_eq_zero_I, xs_k0, xs_k1, xs_n1, xs_k2, xs_k3, xs_k4, xs_k5, xs_k6, xs_k7, xs_k8, xs_k9, xs_k10, xs_k11, xs_n11, xs_k12, xs_n12, xs_k13, xs_n13, xs_k14, xs_n14, xs_k15, xs_n15, xs_k16, xs_n16, xs_k17, xs_n17, xs_k18, xs_n18, xs_k27, xs_n27, xs_k28, xs_n28, xs_r0_0, xs_r0_1, xs_r2_8, xs_r2_9, xs_r0_2, xs_r0_3, xs_r0_4, xs_r0_8, xs_r0_9, xs_r0_10, xs_r0_18, xs_r0_19, xs_r0_20, xs_r0_21, xs_r0_22, xs_r0_25, xs_r0_26, xs_r0_27, xs_r0_28, H, e3, vi, vj, ki, kj, gi.2.2.1, gi.2.2.2.1, gj.2.2.1, gj.2.2.2.1, same.1, same.2, nI_1]
    · unfold lnStep
      rw [if_pos same]; exact I
  · obtain ⟨nt, bt⟩ := lnT_ok B hi (by omega) same
    have ei : E 2 i ≠ h.n := by intro z; have := wf h.n (Nat.le_refl _); rw [z] at gi; omega
    have ej : E 2 j ≠ h.n := by intro z; have := wf h.n (Nat.le_refl _); rw [z] at gj; omega
    have nk : (h.new 12 0 3).kind h.n = 12 := by rw [AH.kind_new, if_pos rfl]
    have nki : (h.new 12 0 3).kind (E 2 i) = h.kind (E 2 i) := by rw [AH.kind_new, if_neg ei]
    have nkj : (h.new 12 0 3).kind (E 2 j) = h.kind (E 2 j) := by rw [AH.kind_new, if_neg ej]
    have nIi : ∀ q, (h.new 12 0 3).I (E 2 i) q = h.I (E 2 i) q := fun q => by rw [AH.I_new, if_neg ei]
    have nIj : ∀ q, (h.new 12 0 3).I (E 2 j) q = h.I (E 2 j) q := fun q => by rw [AH.I_new, if_neg ej]
    obtain ⟨a1, a2⟩ := vX_bd B hi
    obtain ⟨b1, b2⟩ := vX_bd B (v := j) (by omega)
    have ini : F_X11_init n K h.n (Z.S.V i 0) (Z.S.V i 1) (Z.S.V j 0) (Z.S.V j 1) (h.new 12 0 3) = some ((), (h.new 12 0 3).setT h.n (lnT Z.S i j)) := x_initL hn nk a1 a2 b1 b2 (lnT_ne same)
    have F1 := new_T wf 12 (lnT Z.S i j)
    have I2 := XLb_new I F1
    have C1 : Cp 5 1 (10 + 2 * l.1) h e _ e := Cp_new F1 (Nat.le_refl _) (by have := (Ls_kinds (XLb_l5 I)).2; omega)
    obtain ⟨d0, d1, d2⟩ := L_setT (h.new 12 0 3) h.n (lnT Z.S i j)
    have kd : ((h.new 12 0 3).setT h.n (lnT Z.S i j)).kind h.n = 12 := nk
    generalize hh2 : (h.new 12 0 3).setT h.n (lnT Z.S i j) = h2 at *
    generalize htt : lnT Z.S i j = t at *
    have X2 := I2.1.2.2.2.2.1
    have H2 := X2.1
    have l5 := XLb_l5 I2
    have X3 := I2.2.2.2.2.2
    have sr := x_srchL hn H2 (by omega) l5 X3 T.2 bt kd d0 d1 d2
    have hv := x_halves hn X2 B bt kd d0 d1 d2
    have pl := pos_le aheadL t l
    have W1 : ∀ (a j : Nat), h.kind a ≠ 0 → False → ¬ RgM (x + 29) a := fun _ _ _ z => z.elim
    have start : F_X0_findLines_L35 n K (nI i) x (f + 1) (nI j) h k = (jn (α := AH → Option (Unit × AH)) (fun h74 =>
          chk (h74.kind x = 1) <|
          bnd (F_X0_halves n K x (some h.n) h74) fun r76 h77 =>
          if ¬ r76 = 0 then (
            chk (h77.kind x = 1) <|
            ob (h77.R x 8) fun a81 =>
            chk (h77.kind a81 = 3) <|
            bnd (F_J2_add_3 n K a81 (nI (posS aheadL t l)) (some h.n) h77) fun _ h83 =>
            F_X0_findLines_L35 n K (nI i) x f (nI j + (1 : Int32)) h83 k
          ) else (
            F_X0_findLines_L35 n K (nI i) x f (nI j + (1 : Int32)) h77 k
          )
        ) fun j75 => if memS t l = true then F_X0_findLines_L35 n K (nI i) x f (nI j + (1 : Int32)) h2 k else j75 h2) := by
      rw [F_X0_findLines_L35]
      simp only [chk_true, bnd_some, ob_some, oc_some, oc_none, hl_eq, ix_0, ix_1, if_true, if_false, inb0_2, inb1_2, not_true_eq_false, not_false_eq_true, ite_true, ite_false, true_or, or_true, or_self, zero_eq_one_I, one_eq_zero_I, xs_k0, xs_k1, xs_n1, xs_k2, xs_k3, xs_k4, xs_k5, xs_k6, xs_k7, xs_k8, xs_k9, xs_k10, xs_k11, xs_n11, xs_k12, xs_n12, xs_k13, xs_n13, xs_k14, xs_n14, xs_k15, xs_n15, xs_k16, xs_n16, xs_k17, xs_n17, xs_k18, xs_n18, xs_k27, xs_n27, xs_k28, xs_n28, xs_r0_0, xs_r0_1, xs_r2_8, xs_r2_9, xs_r0_2, xs_r0_3, xs_r0_4, xs_r0_8, xs_r0_9, xs_r0_10, xs_r0_18, xs_r0_19, xs_r0_20, xs_r0_21, xs_r0_22, xs_r0_25, xs_r0_26, xs_r0_27, xs_r0_28, H, e3, vi, vj, ki, kj]
      rw [jn_and, if_neg (by rw [gi.2.2.1, gi.2.2.2.1, gj.2.2.1, gj.2.2.2.1]; exact same)]
      simp only [chk_true, bnd_some, ob_some, oc_some, oc_none, hl_eq, ix_0, ix_1, if_true, if_false, inb0_2, inb1_2, not_true_eq_false, not_false_eq_true, ite_true, ite_false, true_or, or_true, or_self, zero_eq_one_I, one_eq_zero_I, nki, nkj, ki, kj, nIi, nIj, gi.2.2.1, gi.2.2.2.1, gj.2.2.1, gj.2.2.2.1, ini, sr]
      by_cases hp : posS aheadL t l < l.1
      · obtain ⟨g1, g2, g3, g4⟩ := X3 _ hp
        have e5 : (nI l.1 ≤ nI (posS aheadL t l)) = False := eq_false (nI_ge hp (by omega))
        have hm : (memS t l = true) = (l.2 (posS aheadL t l) = t) := propext ⟨fun z => ((pos_mem ordL nt T.1).1 z).2, fun z => (pos_mem ordL nt T.1).2 ⟨hp, z⟩⟩
        simp only [chk_true, bnd_some, ob_some, oc_some, oc_none, hl_eq, jn_eq, ix_0, ix_1, if_true, if_false, inb0_2, inb1_2, not_true_eq_false, not_false_eq_true, ite_true, ite_false, true_or, or_true, or_self, zero_eq_one_I, one_eq_zero_I, xs_k0, xs_k1, xs_n1, xs_k2, xs_k3, xs_k4, xs_k5, xs_k6, xs_k7, xs_k8, xs_k9, xs_k10, xs_k11, xs_n11, xs_k12, xs_n12, xs_k13, xs_n13, xs_k14, xs_n14, xs_k15, xs_n15, xs_k16, xs_n16, xs_k17, xs_n17, xs_k18, xs_n18, xs_k27, xs_n27, xs_k28, xs_n28, xs_r0_0, xs_r0_1, xs_r2_8, xs_r2_9, xs_r0_2, xs_r0_3, xs_r0_4, xs_r0_8, xs_r0_9, xs_r0_10, xs_r0_18, xs_r0_19, xs_r0_20, xs_r0_21, xs_r0_22, xs_r0_25, xs_r0_26, xs_r0_27, xs_r0_28, H2, l_size l5, e5, l_get l5 hp, g1, x_isSameL (n := n) (K := K) (T.2 _ hp) bt g1 kd g2 g3 g4 d0 d1 d2, bI_0, hm]
        by_cases hs : l.2 (posS aheadL t l) = t
        · simp [hs]
        · simp [hs]
      · have e5 : (nI l.1 ≤ nI (posS aheadL t l)) = True := eq_true (nI_le (by omega) (by omega))
        have hm : (memS t l = true) = False := eq_false (fun z => hp ((pos_mem ordL nt T.1).1 z).1)
        simp only [chk_true, bnd_some, ob_some, oc_some, oc_none, hl_eq, jn_eq, ix_0, ix_1, if_true, if_false, inb0_2, inb1_2, not_true_eq_false, not_false_eq_true, ite_true, ite_false, true_or, or_true, or_self, zero_eq_one_I, one_eq_zero_I, xs_k0, xs_k1, xs_n1, xs_k2, xs_k3, xs_k4, xs_k5, xs_k6, xs_k7, xs_k8, xs_k9, xs_k10, xs_k11, xs_n11, xs_k12, xs_n12, xs_k13, xs_n13, xs_k14, xs_n14, xs_k15, xs_n15, xs_k16, xs_n16, xs_k17, xs_n17, xs_k18, xs_n18, xs_k27, xs_n27, xs_k28, xs_n28, xs_r0_0, xs_r0_1, xs_r2_8, xs_r2_9, xs_r0_2, xs_r0_3, xs_r0_4, xs_r0_8, xs_r0_9, xs_r0_10, xs_r0_18, xs_r0_19, xs_r0_20, xs_r0_21, xs_r0_22, xs_r0_25, xs_r0_26, xs_r0_27, xs_r0_28, H2, l_size l5, e5, hm]
    have ln : lnStep Z.S i j l = if halvS Z.S t = true then putS aheadL t l else l := by
      unfold lnStep
      rw [if_neg same, htt]
    rw [ln]
    cases hm : memS t l
    · cases hb : halvS Z.S t
      · refine ⟨e, c, E, h2, ?_, I2, Fr_mono F1 (by omega) (by omega) W1, C1⟩
        rw [start]
        simp only [chk_true, bnd_some, ob_some, oc_some, oc_none, hl_eq, jn_eq, ix_0, ix_1, if_true, if_false, inb0_2, inb1_2, not_true_eq_false, not_false_eq_true, ite_true, ite_false, true_or, or_true, or_self, zero_eq_one_I, one_eq_zero_I, xs_k0, xs_k1, xs_n1, xs_k2, xs_k3, xs_k4, xs_k5, xs_k6, xs_k7, xs_k8, xs_k9, xs_k10, xs_k11, xs_n11, xs_k12, xs_n12, xs_k13, xs_n13, xs_k14, xs_n14, xs_k15, xs_n15, xs_k16, xs_n16, xs_k17, xs_n17, xs_k18, xs_n18, xs_k27, xs_n27, xs_k28, xs_n28, xs_r0_0, xs_r0_1, xs_r2_8, xs_r2_9, xs_r0_2, xs_r0_3, xs_r0_4, xs_r0_8, xs_r0_9, xs_r0_10, xs_r0_18, xs_r0_19, xs_r0_20, xs_r0_21, xs_r0_22, xs_r0_25, xs_r0_26, xs_r0_27, xs_r0_28, H2, hm, hb, hv, bI_0, nI_1]
        simp
      · obtain ⟨e', c', E', h3, q1, q2, q3, q4⟩ := XLb_ins (n := n) I2 (by omega) pl kd d0 d1 d2
        refine ⟨e', c', E', h3, ?_, ?_, ?_, Cp_mono (Cp_trans C1 q4) (by omega) (Nat.le_refl _)⟩
        · rw [start]
          simp only [chk_true, bnd_some, ob_some, oc_some, oc_none, hl_eq, jn_eq, ix_0, ix_1, if_true, if_false, inb0_2, inb1_2, not_true_eq_false, not_false_eq_true, ite_true, ite_false, true_or, or_true, or_self, zero_eq_one_I, one_eq_zero_I, xs_k0, xs_k1, xs_n1, xs_k2, xs_k3, xs_k4, xs_k5, xs_k6, xs_k7, xs_k8, xs_k9, xs_k10, xs_k11, xs_n11, xs_k12, xs_n12, xs_k13, xs_n13, xs_k14, xs_n14, xs_k15, xs_n15, xs_k16, xs_n16, xs_k17, xs_n17, xs_k18, xs_n18, xs_k27, xs_n27, xs_k28, xs_n28, xs_r0_0, xs_r0_1, xs_r2_8, xs_r2_9, xs_r0_2, xs_r0_3, xs_r0_4, xs_r0_8, xs_r0_9, xs_r0_10, xs_r0_18, xs_r0_19, xs_r0_20, xs_r0_21, xs_r0_22, xs_r0_25, xs_r0_26, xs_r0_27, xs_r0_28, H2, hm, hb, hv, bI_0, nI_1, q1]
          simp
        · rw [if_pos rfl, put_new hm]; exact q2
        · exact Fr_mono (Fr_trans (W := fun a _ => ¬ RgM (x + 29) a) F1 q3 W1 (fun _ _ _ z => z)) (by omega) (by omega) (fun _ _ _ z => z)
    · refine ⟨e, c, E, h2, ?_, ?_, Fr_mono F1 (by omega) (by omega) W1, C1⟩
      · rw [start]
        simp only [chk_true, bnd_some, ob_some, oc_some, oc_none, hl_eq, jn_eq, ix_0, ix_1, if_true, if_false, inb0_2, inb1_2, not_true_eq_false, not_false_eq_true, ite_true, ite_false, true_or, or_true, or_self, zero_eq_one_I, one_eq_zero_I, hm, nI_1]
      · rw [put_mem hm]
        split <;> exact I2
