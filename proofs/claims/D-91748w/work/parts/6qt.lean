/-! PURE PART QT: move, undo -/
set_option maxRecDepth 100000
def moveOk (Z : Zt) (v a b : Int32) : Bool := inS v 0 (nI Z.S.nv - 1) && ptS a b && !(decide (Z.S.V (ix v) 0 = a) && decide (Z.S.V (ix v) 1 = b)) && !decide (Z.nm = 40)
def moN (Z : Zt) (v : Nat) (a b : Int32) (j : Nat) : Int32 := if j = 0 then nI v else if j = 1 then Z.S.V v 0 else if j = 2 then Z.S.V v 1 else if j = 3 then a else if j = 4 then b else if j = 5 then pairS Z.S else if j = 6 then pairS (Z.S.put v a b) else if j = 7 then peaceS Z.S else peaceS (Z.S.put v a b)
def moveS (Z : Zt) (v a b : Int32) : Int32 := if moveOk Z v a b = true then nI (Z.nm + 1) else -1
def moveZ (Z : Zt) (v a b : Int32) : Zt := if moveOk Z v a b = true then (Z.S.put (ix v) a b, Z.2.1, (Z.nm + 1, moE Z.Mo Z.nm (moN Z (ix v) a b))) else Z
theorem Bd_put {S : St} (B : Bd S) (v : Nat) {i j : Nat} (hi : i < 100) (hj : j < 100) : Bd (S.put v (nI i) (nI j)) := by
  obtain ⟨b1, b2, b3, b4, b5⟩ := B
  refine ⟨fun w hw => ?_, b2, b3, b4, b5⟩
  obtain ⟨a, b, q, h1, h2, h3, h4, h5, h6, h7⟩ := b1 w hw
  by_cases c : w = v
  · exact ⟨i, j, q, hi, hj, h3, h4, by rw [put_V, if_pos c]; rfl, by rw [put_V, if_pos c]; rfl, by rw [put_V2 _ _ _ _ _ (by omega) (by omega)]; exact h7⟩
  · exact ⟨a, b, q, h1, h2, h3, h4, by rw [put_V, if_neg c]; exact h5, by rw [put_V, if_neg c]; exact h6, by rw [put_V, if_neg c]; exact h7⟩
theorem Bz_move {Z : Zt} (bz : Bz Z) (v a b : Int32) : Bz (moveZ Z v a b) := by
  unfold moveZ
  cases hp : moveOk Z v a b
  · rw [if_neg (by decide)]; exact bz
  · rw [if_pos rfl]
    unfold moveOk at hp
    simp only [Bool.and_eq_true, Bool.not_eq_true', decide_eq_false_iff_not] at hp
    obtain ⟨⟨⟨h1, h2⟩, h3⟩, h4⟩ := hp
    obtain ⟨i, j, hi, hj, rfl, rfl⟩ := pt_iff.1 h2
    have h15 := bz.1.2.2.2.1
    have h40 := bz.2.2.1
    obtain ⟨k, hk, rfl⟩ := (inS_nI (by omega)).1 h1
    have e1 : ix (nI k) = k := ix_nI (by omega)
    rw [e1]
    refine ⟨Bd_put bz.1 k hi hj, bz.2.1, by show Z.nm + 1 ≤ 40; omega, fun q hq => ?_⟩
    have hq' : q < Z.nm + 1 := hq
    obtain ⟨a, b, w, g1, g2, _, _, g5, g6, _⟩ := bz.1.1 k hk
    show ∃ v a b, v < Z.S.nv ∧ a < 100 ∧ b < 100 ∧ moE Z.Mo Z.nm (moN Z k (nI i) (nI j)) q 0 = nI v ∧ moE Z.Mo Z.nm (moN Z k (nI i) (nI j)) q 1 = nI a ∧ moE Z.Mo Z.nm (moN Z k (nI i) (nI j)) q 2 = nI b
    unfold moE
    by_cases z : q = Z.nm
    · simp only [if_pos z]
      exact ⟨k, a, b, hk, g1, g2, rfl, g5, g6⟩
    · simp only [if_neg z]
      exact bz.2.2.2 q (by omega)
theorem x_moveF {n : Nat} {K : Nat → Nat} {x : Nat} {h : AH} {ev ep b : Nat} {Ev Ep : Nat → Nat} {S : St} (hn : 20000 < n) (X : XA K x h ev Ev ep Ep b S) (irr : ∀ i, abS S i i = false) {k : Nat} (hk : k < S.nv) {p q : Int32} (hpt : ptS p q = true) {e4 nm : Nat} {E4 : Nat → Nat} (l4 : Ls K h (x + 7) e4 nm E4) (h40 : nm < 40) (XN : XA K x (h.new 14 0 9) ev Ev ep Ep b S) (evn : Ev k ≠ h.n) {g : AH} (hB : ((((((((h.new 14 0 9).setI h.n 0 (nI k)).setI h.n 1 (S.V k 0)).setI h.n 2 (S.V k 1)).setI h.n 3 p).setI h.n 4 q).setI h.n 5 (pairS S)).setI h.n 6 (peaceS S)) = g) (XG : XA K x g ev Ev ep Ep b S) {S' : St} (irr' : ∀ i, abS S' i i = false) {g2 : AH} (hg2 : g.putsX x (Ev k) p q = g2) (XC : XA K x g2 ev Ev ep Ep b S') (kg : g2.kind h.n = 14) (XD : XA K x (g2.setI h.n 7 (pairS S')) ev Ev ep Ep b S') {h' : AH} (hadd : F_J2_add n K (x + 7) (some h.n) ((g2.setI h.n 7 (pairS S')).setI h.n 8 (peaceS S')) = some (1, h')) (hx' : h'.kind x = 1) (hx4 : h'.R x 4 = some (x + 7)) {e' : Nat} {E' : Nat → Nat} (ls' : Ls K h' (x + 7) e' (nm + 1) E') (c3 : ¬ (S.V k 0 = p ∧ S.V k 1 = q)) : F_X0_move n K x (nI k) p q h = some (nI (nm + 1), h') := by
  obtain ⟨gk, f3, f0, f1, f2, f4, f5⟩ := X.2.1.2.2 k hk
  have e40 : (nI nm = 40) = False := eq_false (fun z => by have := (nI_eq (b := 40) (by omega) (by omega)).1 z; omega)
  have rN : ∀ q, (h.new 14 0 9).I (Ev k) q = h.I (Ev k) q := fun q => by rw [AH.I_new, if_neg evn]
  have kNk : 7 ≤ (h.new 14 0 9).kind (Ev k) ∧ (h.new 14 0 9).kind (Ev k) ≤ 10 := x_vkind hn XN hk
  have kN : (h.new 14 0 9).kind h.n = 14 := by rw [AH.kind_new, if_pos rfl]
  have k1 := xs_k0 XN.1
  have k2 := xs_k0 XG.1
  have k3 := xs_k0 XC.1
  have k4 : g2.R x 4 = some (x + 7) := XC.1.2.2 (0, 4, 7) (by decide)
  have k5 : g2.kind (x + 7) = 3 := xs_k7 XC.1
  have main : F_X0_move n K x (nI k) p q h = (if ¬ S.V k 0 = p then some (nI (nm + 1), h') else if S.V k 1 = q then some (-1, h) else some (nI (nm + 1), h')) := by
    simp only [F_X0_move, F_X13_init, chk_true, bnd_some, ob_some, oc_some, oc_none, hl_eq, jn_eq, ix_0, ix_1, if_true, if_false, inb0_2, inb1_2, not_true_eq_false, not_false_eq_true, ite_true, ite_false, true_or, or_true, or_self, zero_eq_one_I, one_eq_zero_I, AH.n_setI, AH.n_setL, AH.n_setR, AH.sl_setI, AH.sl_setL, AH.sl_setR, AH.kind_setI, AH.kind_setL, AH.kind_setR, AH.len_setI, AH.len_setL, AH.len_setR, AH.I_setL, AH.I_setR, AH.L_setI, AH.L_setR, AH.R_setI, AH.R_setL, xs_k0, xs_k1, xs_n1, xs_k2, xs_k3, xs_k4, xs_k5, xs_k6, xs_k7, xs_k8, xs_k9, xs_k10, xs_k11, xs_n11, xs_k12, xs_n12, xs_k13, xs_n13, xs_k14, xs_n14, xs_k15, xs_n15, xs_k16, xs_n16, xs_k17, xs_n17, xs_k18, xs_n18, xs_k27, xs_n27, xs_k28, xs_n28, xs_r0_0, xs_r0_1, xs_r2_8, xs_r2_9, xs_r0_2, xs_r0_3, xs_r0_4, xs_r0_8, xs_r0_9, xs_r0_10, xs_r0_18, xs_r0_19, xs_r0_20, xs_r0_21, xs_r0_22, xs_r0_25, xs_r0_26, xs_r0_27, xs_r0_28, X.1, x_voterAt X.1 X.2.1 hk, x_isPoint, hpt, bI_0, Bool.true_eq_false, gk, and_self, f0, f1, l_size l4, e40, kNk, k1, x_pairMany hn XN irr, x_peace hn XN, rN, kN, hB, k2, x_puts hn XG hk, hg2, k3, x_pairMany hn XC irr', kg, x_peace hn XD, k4, k5, hadd, hx', hx4, ls'.1, l_size ls']
  rw [main]
  by_cases z1 : S.V k 0 = p
  · by_cases z2 : S.V k 1 = q
    · exact absurd ⟨z1, z2⟩ c3
    · rw [if_neg (fun z => z z1), if_neg z2]
  · rw [if_pos z1]
theorem XIn_mv {n : Nat} {K : Nat → Nat} {x : Nat} {g : AH} {e c : Nat → Nat} {E : Nat → Nat → Nat} {b : Nat} {S' : St} {tx : Nat × (Nat → Int32)} {nm : Nat} {Mo : Nat → Nat → Int32} (I : XIn K x g e c E b (S', tx, (nm, Mo))) (h40 : nm ≤ 40) {d : Nat} (hd : g.kind d = 14) (nE : ∀ q, q < nm → E 4 q ≠ d) {M' : Nat → Int32} (hm : g.I d 0 = M' 0 ∧ g.I d 1 = M' 1 ∧ g.I d 2 = M' 2 ∧ g.I d 3 = M' 3 ∧ g.I d 4 = M' 4 ∧ g.I d 5 = M' 5 ∧ g.I d 6 = M' 7) : ∃ e' c' E' h', F_J2_add n K (x + 7) (some d) ((g.setI d 7 (M' 6)).setI d 8 (M' 8)) = some (1, h') ∧ XIn K x h' e' c' E' b (S', tx, (nm + 1, moE Mo nm M')) ∧ Fr 1 100 (fun a _ => ¬ RgM (x + 29) a) ((g.setI d 7 (M' 6)).setI d 8 (M' 8)) h' := by
  have ID := XIn_14 I hd nE 7 (M' 6)
  have IE := XIn_14 (d := d) ID hd nE 8 (M' 8)
  obtain ⟨h0, h1, h2, h3, h4, h5, h6⟩ := hm
  have hv : ∀ q, ((g.setI d 7 (M' 6)).setI d 8 (M' 8)).I d q = if q = 8 then M' 8 else if q = 7 then M' 6 else g.I d q := by
    intro q
    rw [AH.I_setI, AH.I_setI]
    simp only [true_and]
  refine XIn_add4 (n := n) IE h40 (d := d) (M' := M') hd ⟨?_, ?_, ?_, ?_, ?_, ?_, ?_, ?_, ?_⟩
  · rw [hv]; exact h0
  · rw [hv]; exact h1
  · rw [hv]; exact h2
  · rw [hv]; exact h3
  · rw [hv]; exact h4
  · rw [hv]; exact h5
  · rw [hv]; rfl
  · rw [hv]; exact h6
  · rw [hv]; rfl
theorem ox_move {n : Nat} {K : Nat → Nat} {x : Nat} {h : AH} {Z : Zt} (hn : 20000 < n) (bz : Bz Z) (I : InvX K x h Z) (v a b : Int32) : XOk K x 2 200 (moveZ Z v a b) (moveS Z v a b) (F_X0_move n K x v a b h) h := by
  have I0 := I
  obtain ⟨e, c, E, bb, I1⟩ := I0
  have i1 := I1.1
  have MS := I1.2.1
  have i3 := I1.2.2.1
  have X := I1.2.2.2.2.1
  have i8 := I1.2.2.2.2.2.2.2.1
  have i10 := I1.2.2.2.2.2.2.2.2.2.1
  have h15 := xnv hn X
  have h40 := bz.2.2.1
  have l4 : Ls K h (x + 7) (e 4) (c 4) (E 4) := (i3.1 4 (by omega)).1
  rw [i8] at l4
  have e40 : (nI Z.nm = 40) = (Z.nm = 40) := propext (nI_eq (b := 40) (by omega) (by omega))
  unfold moveZ moveS
  cases hp : moveOk Z v a b
  · rw [if_neg (by decide), if_neg (by decide)]
    have : XOk K x 0 0 Z (-1) (F_X0_move n K x v a b h) h := by
      refine xok_same I ?_
      unfold moveOk at hp
      by_cases c1 : inS v 0 (nI Z.S.nv - 1) = true
      · obtain ⟨k, hk, rfl⟩ := (inS_nI (by omega)).1 c1
        have e1 : ix (nI k) = k := ix_nI (by omega)
        obtain ⟨gk, f3, f0, f1, f2, f4, f5⟩ := X.2.1.2.2 k hk
        rw [e1] at hp
        have ff : (false = false) = True := eq_true rfl
        cases c2 : ptS a b
        · simp only [F_X0_move, chk_true, bnd_some, ob_some, oc_some, oc_none, hl_eq, jn_eq, ix_0, ix_1, if_true, if_false, inb0_2, inb1_2, not_true_eq_false, not_false_eq_true, ite_true, ite_false, true_or, or_true, or_self, zero_eq_one_I, one_eq_zero_I, xs_k0, xs_k1, xs_n1, xs_k2, xs_k3, xs_k4, xs_k5, xs_k6, xs_k7, xs_k8, xs_k9, xs_k10, xs_k11, xs_n11, xs_k12, xs_n12, xs_k13, xs_n13, xs_k14, xs_n14, xs_k15, xs_n15, xs_k16, xs_n16, xs_k17, xs_n17, xs_k18, xs_n18, xs_k27, xs_n27, xs_k28, xs_n28, xs_r0_0, xs_r0_1, xs_r2_8, xs_r2_9, xs_r0_2, xs_r0_3, xs_r0_4, xs_r0_8, xs_r0_9, xs_r0_10, xs_r0_18, xs_r0_19, xs_r0_20, xs_r0_21, xs_r0_22, xs_r0_25, xs_r0_26, xs_r0_27, xs_r0_28, X.1, x_voterAt X.1 X.2.1 hk, x_isPoint, c2, bI_0, ff]
        · have tf : (true = false) = False := eq_false (by decide)
          by_cases c3 : Z.S.V k 0 = a
          · have c3' : (Z.S.V k 0 = a) = True := eq_true c3
            by_cases c4 : Z.S.V k 1 = b
            · have c4' : (Z.S.V k 1 = b) = True := eq_true c4
              simp only [F_X0_move, chk_true, bnd_some, ob_some, oc_some, oc_none, hl_eq, jn_eq, ix_0, ix_1, if_true, if_false, inb0_2, inb1_2, not_true_eq_false, not_false_eq_true, ite_true, ite_false, true_or, or_true, or_self, zero_eq_one_I, one_eq_zero_I, xs_k0, xs_k1, xs_n1, xs_k2, xs_k3, xs_k4, xs_k5, xs_k6, xs_k7, xs_k8, xs_k9, xs_k10, xs_k11, xs_n11, xs_k12, xs_n12, xs_k13, xs_n13, xs_k14, xs_n14, xs_k15, xs_n15, xs_k16, xs_n16, xs_k17, xs_n17, xs_k18, xs_n18, xs_k27, xs_n27, xs_k28, xs_n28, xs_r0_0, xs_r0_1, xs_r2_8, xs_r2_9, xs_r0_2, xs_r0_3, xs_r0_4, xs_r0_8, xs_r0_9, xs_r0_10, xs_r0_18, xs_r0_19, xs_r0_20, xs_r0_21, xs_r0_22, xs_r0_25, xs_r0_26, xs_r0_27, xs_r0_28, X.1, x_voterAt X.1 X.2.1 hk, x_isPoint, c2, bI_0, tf, gk, and_self, f0, f1, c3', c4']
            · have c5 : Z.nm = 40 := by
                by_cases z : Z.nm = 40
                · exact z
                · simp [c1, c2, c3, c4, z] at hp
              have c4' : (Z.S.V k 1 = b) = False := eq_false c4
              have c5' : (Z.nm = 40) = True := eq_true c5
              simp only [F_X0_move, chk_true, bnd_some, ob_some, oc_some, oc_none, hl_eq, jn_eq, ix_0, ix_1, if_true, if_false, inb0_2, inb1_2, not_true_eq_false, not_false_eq_true, ite_true, ite_false, true_or, or_true, or_self, zero_eq_one_I, one_eq_zero_I, xs_k0, xs_k1, xs_n1, xs_k2, xs_k3, xs_k4, xs_k5, xs_k6, xs_k7, xs_k8, xs_k9, xs_k10, xs_k11, xs_n11, xs_k12, xs_n12, xs_k13, xs_n13, xs_k14, xs_n14, xs_k15, xs_n15, xs_k16, xs_n16, xs_k17, xs_n17, xs_k18, xs_n18, xs_k27, xs_n27, xs_k28, xs_n28, xs_r0_0, xs_r0_1, xs_r2_8, xs_r2_9, xs_r0_2, xs_r0_3, xs_r0_4, xs_r0_8, xs_r0_9, xs_r0_10, xs_r0_18, xs_r0_19, xs_r0_20, xs_r0_21, xs_r0_22, xs_r0_25, xs_r0_26, xs_r0_27, xs_r0_28, X.1, x_voterAt X.1 X.2.1 hk, x_isPoint, c2, bI_0, tf, gk, and_self, f0, f1, c3', c4', l_size l4, e40, c5']
          · have c5 : Z.nm = 40 := by
              by_cases z : Z.nm = 40
              · exact z
              · simp [c1, c2, c3, z] at hp
            have c3' : (Z.S.V k 0 = a) = False := eq_false c3
            have c5' : (Z.nm = 40) = True := eq_true c5
            simp only [F_X0_move, chk_true, bnd_some, ob_some, oc_some, oc_none, hl_eq, jn_eq, ix_0, ix_1, if_true, if_false, inb0_2, inb1_2, not_true_eq_false, not_false_eq_true, ite_true, ite_false, true_or, or_true, or_self, zero_eq_one_I, one_eq_zero_I, xs_k0, xs_k1, xs_n1, xs_k2, xs_k3, xs_k4, xs_k5, xs_k6, xs_k7, xs_k8, xs_k9, xs_k10, xs_k11, xs_n11, xs_k12, xs_n12, xs_k13, xs_n13, xs_k14, xs_n14, xs_k15, xs_n15, xs_k16, xs_n16, xs_k17, xs_n17, xs_k18, xs_n18, xs_k27, xs_n27, xs_k28, xs_n28, xs_r0_0, xs_r0_1, xs_r2_8, xs_r2_9, xs_r0_2, xs_r0_3, xs_r0_4, xs_r0_8, xs_r0_9, xs_r0_10, xs_r0_18, xs_r0_19, xs_r0_20, xs_r0_21, xs_r0_22, xs_r0_25, xs_r0_26, xs_r0_27, xs_r0_28, X.1, x_voterAt X.1 X.2.1 hk, x_isPoint, c2, bI_0, tf, gk, and_self, f0, f1, c3', l_size l4, e40, c5']
      · have c1' : inS v 0 (nI Z.S.nv - 1) = false := by simpa using c1
        simp only [F_X0_move, chk_true, bnd_some, ob_some, oc_some, oc_none, hl_eq, jn_eq, ix_0, ix_1, if_true, if_false, inb0_2, inb1_2, not_true_eq_false, not_false_eq_true, ite_true, ite_false, true_or, or_true, or_self, zero_eq_one_I, one_eq_zero_I, xs_k0, xs_k1, xs_n1, xs_k2, xs_k3, xs_k4, xs_k5, xs_k6, xs_k7, xs_k8, xs_k9, xs_k10, xs_k11, xs_n11, xs_k12, xs_n12, xs_k13, xs_n13, xs_k14, xs_n14, xs_k15, xs_n15, xs_k16, xs_n16, xs_k17, xs_n17, xs_k18, xs_n18, xs_k27, xs_n27, xs_k28, xs_n28, xs_r0_0, xs_r0_1, xs_r2_8, xs_r2_9, xs_r0_2, xs_r0_3, xs_r0_4, xs_r0_8, xs_r0_9, xs_r0_10, xs_r0_18, xs_r0_19, xs_r0_20, xs_r0_21, xs_r0_22, xs_r0_25, xs_r0_26, xs_r0_27, xs_r0_28, X.1, x_voterAtN X.1 X.2.1 c1']
    obtain ⟨h1, t1, t2, t3⟩ := this
    exact ⟨h1, t1, t2, Fr_mono t3 (by omega) (by omega) (fun _ _ _ z => z)⟩
  · rw [if_pos rfl, if_pos rfl]
    unfold moveOk at hp
    simp only [Bool.and_eq_true, Bool.not_eq_true', decide_eq_false_iff_not] at hp
    obtain ⟨⟨⟨c1, c2⟩, c3⟩, c4⟩ := hp
    obtain ⟨i, j, hi, hj, rfl, rfl⟩ := pt_iff.1 c2
    obtain ⟨k, hk, rfl⟩ := (inS_nI (by omega)).1 c1
    have e1 : ix (nI k) = k := ix_nI (by omega)
    rw [e1] at c3 ⊢
    obtain ⟨gk, f3, f0, f1, f2, f4, f5⟩ := X.2.1.2.2 k hk
    have hn0 := i1 h.n (Nat.le_refl _)
    have FN : Fr 1 9 (fun _ _ => False) h (h.new 14 0 9) := Fr_new i1 14 0 9
    have FB : Fr 1 9 (fun _ _ => False) h ((((((((h.new 14 0 9).setI h.n 0 (nI k)).setI h.n 1 (Z.S.V k 0)).setI h.n 2 (Z.S.V k 1)).setI h.n 3 (nI i)).setI h.n 4 (nI j)).setI h.n 5 (pairS Z.S)).setI h.n 6 (peaceS Z.S)) := by
      have st : ∀ {g : AH} (j : Nat) (v : Int32), Fr 1 9 (fun _ _ => False) h g → Fr 1 9 (fun _ _ => False) h (g.setI h.n j v) := by
        intro g j v Fg
        exact Fr_mono (Fr_trans (W := fun _ _ => False) Fg (Fr_setI (W := fun b _ => b = h.n) g h.n j v (fun _ => rfl)) (fun _ _ _ z => z) (fun b j hb z => absurd (show h.kind b = 0 by rw [show b = h.n from z]; exact hn0) hb)) (by omega) (by omega) (fun _ _ _ z => z)
      exact st _ _ (st _ _ (st _ _ (st _ _ (st _ _ (st _ _ (st _ _ FN))))))
    generalize hB : ((((((((h.new 14 0 9).setI h.n 0 (nI k)).setI h.n 1 (Z.S.V k 0)).setI h.n 2 (Z.S.V k 1)).setI h.n 3 (nI i)).setI h.n 4 (nI j)).setI h.n 5 (pairS Z.S)).setI h.n 6 (peaceS Z.S)) = g at FB
    have IB : XIn K x g e c E bb Z := XIn_fr I1 FB (fun _ _ _ z => z.elim)
    have IN : XIn K x (h.new 14 0 9) e c E bb Z := XIn_fr I1 FN (fun _ _ _ z => z.elim)
    have XN := IN.2.2.2.2.1
    have XBa := IB.2.2.2.2.1
    have kn : g.kind h.n = 14 := by rw [← hB]; show (h.new 14 0 9).kind h.n = 14; rw [AH.kind_new, if_pos rfl]
    have gI : ∀ q, g.I h.n q = if q = 6 then peaceS Z.S else if q = 5 then pairS Z.S else if q = 4 then nI j else if q = 3 then nI i else if q = 2 then Z.S.V k 1 else if q = 1 then Z.S.V k 0 else if q = 0 then nI k else 0 := by
      intro q
      rw [← hB]
      simp only [AH.I_setI, AH.I_new, true_and, if_true]
    -- put
    have IC := XIn_puts IB hk (nI i) (nI j)
    have XC : XA K x (g.putsX x (E 2 k) (nI i) (nI j)) (e 2) (E 2) (e 3) (E 3) bb (Z.S.put k (nI i) (nI j)) := IC.2.2.2.2.1
    have evn : E 2 k ≠ h.n := by intro z; rw [z] at gk; omega
    have xn : x ≠ h.n := by intro z; have := xs_k0 X.1; rw [z] at this; omega
    have knC : (g.putsX x (E 2 k) (nI i) (nI j)).kind h.n = 14 := kn
    have gC : ∀ q, (g.putsX x (E 2 k) (nI i) (nI j)).I h.n q = g.I h.n q := by
      intro q
      unfold AH.putsX
      rw [AH.I_setI, if_neg (fun z => xn z.1.symm), AH.I_setI, if_neg (fun z => xn z.1.symm), AH.I_setI, if_neg (fun z => xn z.1.symm), AH.I_setI, if_neg (fun z => evn z.1.symm), AH.I_setI, if_neg (fun z => evn z.1.symm)]
    have nE : ∀ q, q < Z.nm → E 4 q ≠ h.n := by
      intro q hq z
      have := (i10 q hq).1
      rw [z] at this; omega
    have ID := XIn_14 IC knC nE 7 (pairS (Z.S.put k (nI i) (nI j)))
    have XD : XA K x ((g.putsX x (E 2 k) (nI i) (nI j)).setI h.n 7 (pairS (Z.S.put k (nI i) (nI j)))) (e 2) (E 2) (e 3) (E 3) bb (Z.S.put k (nI i) (nI j)) := ID.2.2.2.2.1
    have hmv : (g.putsX x (E 2 k) (nI i) (nI j)).I h.n 0 = moN Z k (nI i) (nI j) 0 ∧ (g.putsX x (E 2 k) (nI i) (nI j)).I h.n 1 = moN Z k (nI i) (nI j) 1 ∧ (g.putsX x (E 2 k) (nI i) (nI j)).I h.n 2 = moN Z k (nI i) (nI j) 2 ∧ (g.putsX x (E 2 k) (nI i) (nI j)).I h.n 3 = moN Z k (nI i) (nI j) 3 ∧ (g.putsX x (E 2 k) (nI i) (nI j)).I h.n 4 = moN Z k (nI i) (nI j) 4 ∧ (g.putsX x (E 2 k) (nI i) (nI j)).I h.n 5 = moN Z k (nI i) (nI j) 5 ∧ (g.putsX x (E 2 k) (nI i) (nI j)).I h.n 6 = moN Z k (nI i) (nI j) 7 := by
      simp only [gC, gI]
      exact ⟨rfl, rfl, rfl, rfl, rfl, rfl, rfl⟩
    have m6 : moN Z k (nI i) (nI j) 6 = pairS (Z.S.put k (nI i) (nI j)) := rfl
    have m8 : moN Z k (nI i) (nI j) 8 = peaceS (Z.S.put k (nI i) (nI j)) := rfl
    obtain ⟨e', c', E', h', q1, q2, q3⟩ := XIn_mv (n := n) (S' := Z.S.put k (nI i) (nI j)) (tx := Z.2.1) (nm := Z.nm) (Mo := Z.Mo) IC h40 knC nE hmv
    rw [m6, m8] at q1 q3
    have Bp := Bd_put bz.1 k hi hj
    have c3' : ¬ (Z.S.V k 0 = nI i ∧ Z.S.V k 1 = nI j) := by
      intro z
      simp [z.1, z.2] at c3
    have hx' : h'.kind x = 1 := xs_k0 q2.2.2.2.2.1.1
    have hx4 : h'.R x 4 = some (x + 7) := q2.2.2.2.2.1.1.2.2 (0, 4, 7) (by decide)
    have ls' : Ls K h' (x + 7) (e' 4) (Z.nm + 1) (E' 4) := by
      have t := (q2.2.2.1.1 4 (by omega)).1
      have t2 : c' 4 = Z.nm + 1 := q2.2.2.2.2.2.2.2.1
      rw [t2] at t
      exact t
    refine ⟨h', ?_, ⟨e', c', E', bb, q2⟩, ?_⟩
    · exact x_moveF hn X (ab_irr bz.1) hk c2 l4 (by omega) XN evn hB XBa (ab_irr Bp) rfl XC knC XD q1 hx' hx4 ls' c3'
    · have F1 := putsX_fr (x := x) (d := E 2 k) g (nI i) (nI j)
      have out : ∀ d q, (d = E 2 k ∧ (q = 3 ∨ q = 4)) ∨ (d = x ∧ 11 ≤ q ∧ q ≤ 13) → ¬ RgM (x + 29) d := by
        rintro d q (⟨z, _⟩ | ⟨z, _⟩) w
        · have := mKs_kind MS w; rw [z] at this; omega
        · have := w.1; omega
      have T1 := Fr_trans (W := fun a _ => ¬ RgM (x + 29) a) FB F1 (fun _ _ _ z => z.elim) (fun d q _ z => out d q z)
      have T2 := Fr_trans (W := fun a _ => ¬ RgM (x + 29) a) T1 (Fr_setI (W := fun d _ => d = h.n) _ h.n 7 (pairS (Z.S.put k (nI i) (nI j))) (fun _ => rfl)) (fun _ _ _ z => z) (fun d q hd z => absurd (show h.kind d = 0 by rw [show d = h.n from z]; exact hn0) hd)
      have T3 := Fr_trans (W := fun a _ => ¬ RgM (x + 29) a) T2 (Fr_setI (W := fun d _ => d = h.n) _ h.n 8 (peaceS (Z.S.put k (nI i) (nI j))) (fun _ => rfl)) (fun _ _ _ z => z) (fun d q hd z => absurd (show h.kind d = 0 by rw [show d = h.n from z]; exact hn0) hd)
      exact Fr_mono (Fr_trans (W := fun a _ => ¬ RgM (x + 29) a) T3 q3 (fun _ _ _ z => z) (fun _ _ _ z => z)) (by omega) (by omega) (fun _ _ _ z => z)
