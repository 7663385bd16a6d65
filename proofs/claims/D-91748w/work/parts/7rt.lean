/-! PURE PART RT: the sheet's middles, one spot comes -/
set_option maxRecDepth 100000
def MLok (l : TL) : Prop := SortS aheadM NrmM l ∧ ∀ k, k < l.1 → SB (l.2 k)
theorem putM_ok {t : T3} {l : TL} (nt : NrmM t) (bt : SB t) (T : MLok l) : MLok (putS aheadM t l) ∧ (putS aheadM t l).1 ≤ l.1 + 1 := by
  refine ⟨⟨put_sort ordM nt T.1, ?_⟩, ?_⟩
  · cases hm : memS t l
    · rw [put_new hm]
      intro k hk
      have hk' : k < l.1 + 1 := hk
      have hp := pos_le aheadM t l
      show SB (insF (posS aheadM t l) t l.2 k)
      unfold insF
      split
      · exact T.2 k (by omega)
      · split
        · exact bt
        · exact T.2 (k - 1) (by omega)
    · rw [put_mem hm]; exact T.2
  · cases hm : memS t l
    · rw [put_new hm]; exact Nat.le_refl _
    · rw [put_mem hm]; omega
theorem comeS_ok {S : St} {t : T3} {l : TL} (nt : NrmM t) (bt : SB t) (T : MLok l) : MLok (comeS S t l) ∧ (comeS S t l).1 ≤ l.1 + 1 := by
  unfold comeS
  split
  · exact putM_ok nt bt T
  · exact ⟨T, by omega⟩
def XMb (K : Nat → Nat) (x : Nat) (h : AH) (e c : Nat → Nat) (E : Nat → Nat → Nat) (b : Nat) (Z : Zt) (l : TL) : Prop := XC K x h e c E b Z ∧ h.I x 11 = 1 ∧ h.I x 12 = 1 ∧ XCr x h Z.S ∧ c 5 = (linesS Z.S).1 ∧ X3L h 12 (linesS Z.S).1 (E 5) (linesS Z.S).2 ∧ h.I (x + 11) 0 = -1 ∧ c 6 = l.1 ∧ X3L h 13 l.1 (E 6) l.2
theorem XMb_l5 {K : Nat → Nat} {x : Nat} {h : AH} {e c : Nat → Nat} {E : Nat → Nat → Nat} {b : Nat} {Z : Zt} {l : TL} (I : XMb K x h e c E b Z l) : Ls K h (x + 9) (e 5) (linesS Z.S).1 (E 5) := by
  have := (I.1.2.2.1.1 5 (by omega)).1
  rw [I.2.2.2.2.1] at this
  exact this
theorem XMb_l6 {K : Nat → Nat} {x : Nat} {h : AH} {e c : Nat → Nat} {E : Nat → Nat → Nat} {b : Nat} {Z : Zt} {l : TL} (I : XMb K x h e c E b Z l) : Ls K h (x + 10) (e 6) l.1 (E 6) := by
  have := (I.1.2.2.1.1 6 (by omega)).1
  rw [I.2.2.2.2.2.2.2.1] at this
  exact this
theorem ScX_kind {x : Nat} {h : AH} (H : XSh x h) {a j : Nat} (z : ScX x a j) : h.kind a = 1 ∨ h.kind a = 32 ∨ h.kind a = 33 ∨ h.kind a = 35 := by
  have k0 := xs_k0 H
  rcases z.1 with ⟨z1, z2⟩ | ⟨z1, _⟩
  · exact Or.inr (xKs_kind H z1 z2)
  · rw [z1]; exact Or.inl k0
theorem XMb_fr {K : Nat → Nat} {x : Nat} {h h' : AH} {e c : Nat → Nat} {E : Nat → Nat → Nat} {b : Nat} {Z : Zt} {l : TL} {cc ss : Nat} {W : Nat → Nat → Prop} (I : XMb K x h e c E b Z l) (F : Fr cc ss W h h') (hW : ∀ a j, h.kind a ≠ 0 → W a j → ScX x a j) : XMb K x h' e c E b Z l := by
  obtain ⟨C, i1, i2, i3, i4, i5, i6, i7, i8⟩ := I
  have H := C.2.2.2.2.1.1
  have k0 := xs_k0 H
  have k11 := xs_k11 H
  have nx : ∀ j, j < 23 → ¬ W x j := by
    intro j hj w
    rcases (hW x j (by omega) w).1 with z | z <;> omega
  have n11 : ∀ j, ¬ W (x + 11) j := by
    intro j w
    rcases (hW (x + 11) j (by omega) w).1 with z | z <;> omega
  obtain ⟨f1, f2, f3⟩ := F.2.2.2.2.2 x (by omega)
  obtain ⟨g1, g2, g3⟩ := F.2.2.2.2.2 (x + 11) (by omega)
  refine ⟨XC_fr0 C F (fun a j ha w => ?_), by rw [(f3 11 (nx 11 (by omega))).1]; exact i1, by rw [(f3 12 (nx 12 (by omega))).1]; exact i2, XCr_fr i3 F (by omega) (fun j _ _ => nx j (by omega)), i4, X3L_fr (by omega) i5 F (fun v hv j w => ?_), by rw [(g3 0 (n11 0)).1]; exact i6, i7, X3L_fr (by omega) i8 F (fun v hv j w => ?_)⟩
  · have z := hW a j ha w
    have := ScX_kind H z
    exact ⟨Or.inr (Or.inr (Or.inr (Or.inr (Or.inr (Or.inr (Or.inr (Or.inl z))))))), by omega, by omega⟩
  · have := (i5 v hv).1
    have := ScX_kind H (hW _ j (by omega) w)
    omega
  · have := (i8 v hv).1
    have := ScX_kind H (hW _ j (by omega) w)
    omega
theorem fr_ar {x : Nat} (h : AH) (w : Nat → Int32) : Fr 0 0 (ScX x) h (h.ovI (x + 12) 4 w) := Fr_of rfl rfl rfl rfl rfl (fun a j z => by
  by_cases c : a = x + 12
  · exact absurd (c ▸ ScX_arr (i := 12) (by omega) (by omega) (by decide)) z
  · rw [I_ov_ne c])
/-- a spot goes into the row -/
theorem XMb_ins {n : Nat} {K : Nat → Nat} {x : Nat} {h : AH} {e c : Nat → Nat} {E : Nat → Nat → Nat} {b : Nat} {Z : Zt} {l : TL} (I : XMb K x h e c E b Z l) (hl : l.1 < 6000) {d p : Nat} {t : T3} (hp : p ≤ l.1) (hd : h.kind d = 13) (d0 : h.L d 0 = Int64.ofInt t.1) (d1 : h.L d 1 = Int64.ofInt t.2.1) (d2 : h.L d 2 = Int64.ofInt t.2.2) : ∃ e' c' E' h', F_J2_add_3 n K (x + 10) (nI p) (some d) h = some ((), h') ∧ XMb K x h' e' c' E' b Z (l.1 + 1, insF p t l.2) ∧ Fr 1 (10 + 2 * l.1) (fun a _ => ¬ RgM (x + 29) a) h h' ∧ Cp 6 0 (10 + 2 * l.1) h e h' e' := by
  obtain ⟨C, i1, i2, i3, i4, i5, i6, i7, i8⟩ := I
  have H := C.2.2.2.2.1.1
  have k0 := xs_k0 H
  have k11 := xs_k11 H
  have LLh := C.2.2.1
  obtain ⟨e', h', q1, q2, F, q3⟩ := LL_ins (n := n) C.1 LLh (i := 6) (by omega) (by omega) (q := p) (by omega) (a := d) (by omega)
  have kl := (LLh.1 6 (by omega)).1.1
  have hW : ∀ (a j : Nat), h.kind a ≠ 0 → (a = x + loL 6 ∨ (a = e 6 ∧ h.kind (e 6) = 34)) → h.kind a = 3 ∨ h.kind a = 34 := by
    rintro a j _ (z | ⟨z, z2⟩)
    · rw [z]; exact Or.inl kl
    · rw [z]; exact Or.inr z2
  have hO : ∀ (a j : Nat), h.kind a ≠ 0 → (a = x + loL 6 ∨ (a = e 6 ∧ h.kind (e 6) = 34)) → OkW x h a j := by
    intro a j ha w
    rcases hW a j ha w with z | z
    · exact Or.inl z
    · exact Or.inr (Or.inl z)
  have nx : ∀ j : Nat, ¬ (x = x + loL 6 ∨ (x = e 6 ∧ h.kind (e 6) = 34)) := by
    intro j w
    have := hW x j (by omega) w
    omega
  have n11 : ∀ j : Nat, ¬ (x + 11 = x + loL 6 ∨ (x + 11 = e 6 ∧ h.kind (e 6) = 34)) := by
    intro j w
    have := hW (x + 11) j (by omega) w
    omega
  obtain ⟨f1, f2, f3⟩ := F.2.2.2.2.2 x (by omega)
  obtain ⟨g1, g2, g3⟩ := F.2.2.2.2.2 (x + 11) (by omega)
  rw [i7] at q2 F q3
  refine ⟨up1 e 6 e', up1 c 6 (l.1 + 1), up1 E 6 (insF p d (E 6)), h', q1, ⟨XC_fr C F q2 (fun i hi => ?_) (fun i i2 i4 => ⟨if_neg (by omega), if_neg (by omega), if_neg (by omega)⟩) hO, by rw [(f3 11 (nx 11)).1]; exact i1, by rw [(f3 12 (nx 12)).1]; exact i2, XCr_fr i3 F (by omega) (fun j _ _ => nx j), i4, X3L_fr (by omega) i5 F (fun v hv j w => ?_), by rw [(g3 0 (n11 0)).1]; exact i6, if_pos rfl, ?_⟩, Fr_mono F (by omega) (by omega) (fun a j ha w => OkW_m C.2.1 (hO a j ha w)), ?_⟩
  · unfold up1
    by_cases z : i = 6
    · rw [if_pos z]; omega
    · rw [if_neg z]; exact C.2.2.2.1 i hi
  · have g := (i5 v hv).1
    have w' : E 5 v = x + loL 6 ∨ (E 5 v = e 6 ∧ h.kind (e 6) = 34) := w
    have := hW _ j (by omega) w'
    omega
  · have u : up1 E 6 (insF p d (E 6)) 6 = insF p d (E 6) := if_pos rfl
    show X3L h' 13 (l.1 + 1) (up1 E 6 (insF p d (E 6)) 6) (insF p t l.2)
    rw [u]
    refine X3L_fr (by omega) (ins3 i8 hd d0 d1 d2 hp) F (fun v hv j w => ?_)
    have g := (ins3 i8 hd d0 d1 d2 hp v hv).1
    have := hW _ j (by omega) w
    omega
  · unfold Cp
    rw [show up1 e 6 e' 6 = e' from if_pos rfl]
    exact ⟨by omega, q3.2⟩
theorem x_comesP {n : Nat} {K : Nat → Nat} {x : Nat} {h : AH} (hn : 20000 < n) (H : XSh x h) {l : TL} (hl : l.1 ≤ 6000) {e6 : Nat} {E6 : Nat → Nat} (l6 : Ls K h (x + 10) e6 l.1 E6) (X3 : X3L h 13 l.1 E6 l.2) (T : ∀ k, k < l.1 → SB (l.2 k)) {d : Nat} {t : T3} (bt : SB t) (hd : h.kind d = 13) (d0 : h.L d 0 = Int64.ofInt t.1) (d1 : h.L d 1 = Int64.ofInt t.2.1) (d2 : h.L d 2 = Int64.ofInt t.2.2) : F_X0_comes n K x (some d) h = F_X0_comes_L2 n K x (some d) 1 (nI (posS aheadM t l)) h := by
  have key := loopG (fun f i => F_X0_comes_L2 n K x (some d) f i h) l.1 (fun q => !aheadM (l.2 q) t) (fun q => F_X0_comes_L2 n K x (some d) 1 (nI q) h) (F_X0_comes_L2 n K x (some d) 1 (nI l.1) h)
    (by
      intro f q hq
      have e3 : (nI l.1 ≤ nI q) = False := eq_false (nI_ge hq (by omega))
      obtain ⟨g1, g2, g3, g4⟩ := X3 q hq
      have ha := x_isAheadM (n := n) (K := K) (T q hq) bt g1 hd g2 g3 g4 d0 d1 d2
      cases hb : aheadM (l.2 q) t
      · rw [hb] at ha
        simp only [F_X0_comes_L2, chk_true, bnd_some, ob_some, oc_some, oc_none, hl_eq, ix_0, ix_1, if_true, if_false, inb0_2, inb1_2, not_true_eq_false, not_false_eq_true, ite_true, ite_false, true_or, or_true, or_self, zero_eq_one_I, one_eq_zero_I, xs_k0, xs_k1, xs_n1, xs_k2, xs_k3, xs_k4, xs_k5, xs_k6, xs_k7, xs_k8, xs_k9, xs_k10, xs_k11, xs_n11, xs_k12, xs_n12, xs_k13, xs_n13, xs_k14, xs_n14, xs_k15, xs_n15, xs_k16, xs_n16, xs_k17, xs_n17, xs_k18, xs_n18, xs_k27, xs_n27, xs_k28, xs_n28, xs_r0_0, xs_r0_1, xs_r2_8, xs_r2_9, xs_r0_2, xs_r0_3, xs_r0_4, xs_r0_8, xs_r0_9, xs_r0_10, xs_r0_18, xs_r0_19, xs_r0_20, xs_r0_21, xs_r0_22, xs_r0_25, xs_r0_26, xs_r0_27, xs_r0_28, H, l_size l6, l_get l6 hq, e3, g1, ha, bI_0, Bool.not_false]
      · rw [hb] at ha
        have z : (bI true = 0) = False := eq_false (by decide)
        simp only [F_X0_comes_L2, chk_true, bnd_some, ob_some, oc_some, oc_none, hl_eq, jn_eq, ix_0, ix_1, if_true, if_false, inb0_2, inb1_2, not_true_eq_false, not_false_eq_true, ite_true, ite_false, true_or, or_true, or_self, zero_eq_one_I, one_eq_zero_I, xs_k0, xs_k1, xs_n1, xs_k2, xs_k3, xs_k4, xs_k5, xs_k6, xs_k7, xs_k8, xs_k9, xs_k10, xs_k11, xs_n11, xs_k12, xs_n12, xs_k13, xs_n13, xs_k14, xs_n14, xs_k15, xs_n15, xs_k16, xs_n16, xs_k17, xs_n17, xs_k18, xs_n18, xs_k27, xs_n27, xs_k28, xs_n28, xs_r0_0, xs_r0_1, xs_r2_8, xs_r2_9, xs_r0_2, xs_r0_3, xs_r0_4, xs_r0_8, xs_r0_9, xs_r0_10, xs_r0_18, xs_r0_19, xs_r0_20, xs_r0_21, xs_r0_22, xs_r0_25, xs_r0_26, xs_r0_27, xs_r0_28, H, l_size l6, l_get l6 hq, e3, g1, ha, z, nI_1, Bool.not_true, Bool.false_eq_true])
    (by
      intro f
      have e3 : (nI l.1 ≤ nI l.1) = True := eq_true (nI_le (Nat.le_refl _) (by omega))
      simp only [F_X0_comes_L2, chk_true, bnd_some, ob_some, oc_some, oc_none, hl_eq, ix_0, ix_1, if_true, if_false, inb0_2, inb1_2, not_true_eq_false, not_false_eq_true, ite_true, ite_false, true_or, or_true, or_self, zero_eq_one_I, one_eq_zero_I, xs_k0, xs_k1, xs_n1, xs_k2, xs_k3, xs_k4, xs_k5, xs_k6, xs_k7, xs_k8, xs_k9, xs_k10, xs_k11, xs_n11, xs_k12, xs_n12, xs_k13, xs_n13, xs_k14, xs_n14, xs_k15, xs_n15, xs_k16, xs_n16, xs_k17, xs_n17, xs_k18, xs_n18, xs_k27, xs_n27, xs_k28, xs_n28, xs_r0_0, xs_r0_1, xs_r2_8, xs_r2_9, xs_r0_2, xs_r0_3, xs_r0_4, xs_r0_8, xs_r0_9, xs_r0_10, xs_r0_18, xs_r0_19, xs_r0_20, xs_r0_21, xs_r0_22, xs_r0_25, xs_r0_26, xs_r0_27, xs_r0_28, H, l_size l6, e3]) n (by omega)
  exact key.trans (sel_pos (fun q => F_X0_comes_L2 n K x (some d) 1 (nI q) h))
theorem x_comes {n : Nat} {K : Nat → Nat} {x : Nat} {h : AH} {e c : Nat → Nat} {E : Nat → Nat → Nat} {b : Nat} {Z : Zt} {l : TL} (hn : 20000 < n) (B : Bd Z.S) (I : XMb K x h e c E b Z l) (T : MLok l) (hl : l.1 < 6000) {d : Nat} {t : T3} (nt : NrmM t) (bt : SB t) (hd : h.kind d = 13) (d0 : h.L d 0 = Int64.ofInt t.1) (d1 : h.L d 1 = Int64.ofInt t.2.1) (d2 : h.L d 2 = Int64.ofInt t.2.2) : ∃ e' c' E' h', F_X0_comes n K x (some d) h = some ((), h') ∧ XMb K x h' e' c' E' b Z (comeS Z.S t l) ∧ Fr 1 (10 + 2 * l.1) (fun a _ => ¬ RgM (x + 29) a) h h' ∧ Cp 6 0 (10 + 2 * l.1) h e h' e' := by
  have X := I.1.2.2.2.2.1
  have H := X.1
  have l6 := XMb_l6 I
  have X3 := I.2.2.2.2.2.2.2.2
  have pl := pos_le aheadM t l
  obtain ⟨w, hw⟩ := x_isMiddle (K := K) hn X B bt hd d0 d1 d2
  have Fo := fr_ar (x := x) h w
  have I2 := XMb_fr I Fo (fun _ _ _ z => z)
  have H2 : XSh x (h.ovI (x + 12) 4 w) := H
  have Fo' : Fr 0 0 (fun a _ => ¬ RgM (x + 29) a) h (h.ovI (x + 12) 4 w) := Fr_mono Fo (Nat.le_refl _) (Nat.le_refl _) (fun _ _ _ z => ScX_out z)
  have C1 : Cp 6 0 (10 + 2 * l.1) h e (h.ovI (x + 12) 4 w) e := ⟨Nat.le_refl _, Or.inl (Nat.le_refl _)⟩
  have start : F_X0_comes n K x (some d) h = if memS t l = true then some ((), h) else (
      if ¬ bI (midS Z.S t) = 0 then bnd (F_J2_add_3 n K (x + 10) (nI (posS aheadM t l)) (some d) (h.ovI (x + 12) 4 w)) (fun _ h26 => some ((), h26)) else some ((), h.ovI (x + 12) 4 w)) := by
    rw [x_comesP hn H (by omega) l6 X3 T.2 bt hd d0 d1 d2]
    by_cases hp : posS aheadM t l < l.1
    · obtain ⟨g1, g2, g3, g4⟩ := X3 _ hp
      have e5 : (nI l.1 ≤ nI (posS aheadM t l)) = False := eq_false (nI_ge hp (by omega))
      have ha := x_isAheadM (n := n) (K := K) (T.2 _ hp) bt g1 hd g2 g3 g4 d0 d1 d2
      rw [pos_at hp] at ha
      have hm : (memS t l = true) = (l.2 (posS aheadM t l) = t) := propext ⟨fun z => ((pos_mem ordM nt T.1).1 z).2, fun z => (pos_mem ordM nt T.1).2 ⟨hp, z⟩⟩
      by_cases hs : l.2 (posS aheadM t l) = t
      · have hs' := eq_true hs
        simp only [F_X0_comes_L2, chk_true, bnd_some, ob_some, oc_some, oc_none, hl_eq, jn_eq, ix_0, ix_1, if_true, if_false, inb0_2, inb1_2, not_true_eq_false, not_false_eq_true, ite_true, ite_false, true_or, or_true, or_self, zero_eq_one_I, one_eq_zero_I, xs_k0, xs_k1, xs_n1, xs_k2, xs_k3, xs_k4, xs_k5, xs_k6, xs_k7, xs_k8, xs_k9, xs_k10, xs_k11, xs_n11, xs_k12, xs_n12, xs_k13, xs_n13, xs_k14, xs_n14, xs_k15, xs_n15, xs_k16, xs_n16, xs_k17, xs_n17, xs_k18, xs_n18, xs_k27, xs_n27, xs_k28, xs_n28, xs_r0_0, xs_r0_1, xs_r2_8, xs_r2_9, xs_r0_2, xs_r0_3, xs_r0_4, xs_r0_8, xs_r0_9, xs_r0_10, xs_r0_18, xs_r0_19, xs_r0_20, xs_r0_21, xs_r0_22, xs_r0_25, xs_r0_26, xs_r0_27, xs_r0_28, H, l_size l6, e5, l_get l6 hp, g1, ha, bI_0, x_isSameM (n := n) (K := K) (T.2 _ hp) bt g1 hd g2 g3 g4 d0 d1 d2, hm, hs', decide_true, Bool.true_eq_false]
      · have hs' := eq_false hs
        simp only [F_X0_comes_L2, chk_true, bnd_some, ob_some, oc_some, oc_none, hl_eq, jn_eq, ix_0, ix_1, if_true, if_false, inb0_2, inb1_2, not_true_eq_false, not_false_eq_true, ite_true, ite_false, true_or, or_true, or_self, zero_eq_one_I, one_eq_zero_I, xs_k0, xs_k1, xs_n1, xs_k2, xs_k3, xs_k4, xs_k5, xs_k6, xs_k7, xs_k8, xs_k9, xs_k10, xs_k11, xs_n11, xs_k12, xs_n12, xs_k13, xs_n13, xs_k14, xs_n14, xs_k15, xs_n15, xs_k16, xs_n16, xs_k17, xs_n17, xs_k18, xs_n18, xs_k27, xs_n27, xs_k28, xs_n28, xs_r0_0, xs_r0_1, xs_r2_8, xs_r2_9, xs_r0_2, xs_r0_3, xs_r0_4, xs_r0_8, xs_r0_9, xs_r0_10, xs_r0_18, xs_r0_19, xs_r0_20, xs_r0_21, xs_r0_22, xs_r0_25, xs_r0_26, xs_r0_27, xs_r0_28, H, H2, l_size l6, e5, l_get l6 hp, g1, ha, bI_0, x_isSameM (n := n) (K := K) (T.2 _ hp) bt g1 hd g2 g3 g4 d0 d1 d2, hm, hs', decide_false, hw]
    · have e5 : (nI l.1 ≤ nI (posS aheadM t l)) = True := eq_true (nI_le (by omega) (by omega))
      have hm : (memS t l = true) = False := eq_false (fun z => hp ((pos_mem ordM nt T.1).1 z).1)
      simp only [F_X0_comes_L2, chk_true, bnd_some, ob_some, oc_some, oc_none, hl_eq, jn_eq, ix_0, ix_1, if_true, if_false, inb0_2, inb1_2, not_true_eq_false, not_false_eq_true, ite_true, ite_false, true_or, or_true, or_self, zero_eq_one_I, one_eq_zero_I, xs_k0, xs_k1, xs_n1, xs_k2, xs_k3, xs_k4, xs_k5, xs_k6, xs_k7, xs_k8, xs_k9, xs_k10, xs_k11, xs_n11, xs_k12, xs_n12, xs_k13, xs_n13, xs_k14, xs_n14, xs_k15, xs_n15, xs_k16, xs_n16, xs_k17, xs_n17, xs_k18, xs_n18, xs_k27, xs_n27, xs_k28, xs_n28, xs_r0_0, xs_r0_1, xs_r2_8, xs_r2_9, xs_r0_2, xs_r0_3, xs_r0_4, xs_r0_8, xs_r0_9, xs_r0_10, xs_r0_18, xs_r0_19, xs_r0_20, xs_r0_21, xs_r0_22, xs_r0_25, xs_r0_26, xs_r0_27, xs_r0_28, H, H2, l_size l6, e5, hm, hw]
  unfold comeS
  cases hm : memS t l
  · cases hb : midS Z.S t
    · refine ⟨e, c, E, h.ovI (x + 12) 4 w, ?_, I2, Fr_mono Fo' (by omega) (by omega) (fun _ _ _ z => z), C1⟩
      rw [start, hm, hb]
      rfl
    · obtain ⟨e', c', E', h3, q1, q2, q3, q4⟩ := XMb_ins (n := n) I2 hl pl hd d0 d1 d2
      refine ⟨e', c', E', h3, ?_, ?_, ?_, Cp_trans C1 q4⟩
      · have z : (bI true = 0) = False := eq_false (by decide)
        rw [start, hm, hb]
        simp only [chk_true, bnd_some, ob_some, oc_some, oc_none, hl_eq, jn_eq, ix_0, ix_1, if_true, if_false, inb0_2, inb1_2, not_true_eq_false, not_false_eq_true, ite_true, ite_false, true_or, or_true, or_self, zero_eq_one_I, one_eq_zero_I, z, q1, Bool.false_eq_true]
      · rw [if_pos rfl, put_new hm]; exact q2
      · exact Fr_mono (Fr_trans (W := fun a _ => ¬ RgM (x + 29) a) Fo' q3 (fun _ _ _ z => z) (fun _ _ _ z => z)) (by omega) (by omega) (fun _ _ _ z => z)
  · refine ⟨e, c, E, h, ?_, ?_, Fr_mono (Fr_refl h) (by omega) (by omega) (fun _ _ _ z => z), Cp_refl⟩
    · rw [start, hm, if_pos rfl]
    · rw [put_mem hm]
      split <;> exact I
