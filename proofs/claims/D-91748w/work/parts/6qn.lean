/-! PURE PART QN: printed by gen_ops.py: contracts of the answers that change no state -/
set_option maxRecDepth 100000
def XOk (K : Nat → Nat) (x c s : Nat) (Z' : Zt) (r : Int32) (o : Option (Int32 × AH)) (h : AH) : Prop := ∃ h1, o = some (r, h1) ∧ InvX K x h1 Z' ∧ Fr c s (fun a _ => ¬ RgM (x + 29) a) h h1
def MOk (m : Nat) (Z' : Zt) (r : Int32) (o : Option (Int32 × AH)) (h : AH) : Prop := ∃ h1, o = some (r, h1) ∧ InvM m h1 Z' ∧ Fr 0 0 (fun a j => RgW m a j ∧ a ≠ m + 31) h h1
theorem ScX_out {x a j : Nat} (z : ScX x a j) : ¬ RgM (x + 29) a := by
  intro w
  rcases z.1 with y | y
  · have := w.1; omega
  · have := w.1; omega
theorem ScM_in {m a j : Nat} (z : ScM m a j) : RgW m a j := by
  refine ⟨?_, z.2⟩
  rcases z.1 with y | y
  · exact ⟨by omega, by omega⟩
  · exact ⟨by omega, by omega⟩
theorem ScM_31 {m a j : Nat} (z : ScM m a j) : a ≠ m + 31 := by
  rcases z.1 with y | y
  · omega
  · omega
theorem ScX_arr {x i j : Nat} (h1 : 12 ≤ i) (h2 : i ≤ 28) (hd : ∀ p, p ∈ xRs → p.1 ≠ i) : ScX x (x + i) j := ⟨Or.inl ⟨by omega, by omega⟩, fun p hp z => hd p hp (by omega)⟩
theorem ScX_fld {x j : Nat} (h : j = 23 ∨ j = 24) : ScX x x j := ⟨Or.inr ⟨rfl, h⟩, fun p hp z => by
  have h1 : ∀ p, p ∈ xRs → p.1 = 0 → p.2.1 ≠ 23 ∧ p.2.1 ≠ 24 := by decide
  have := h1 p hp (by omega)
  omega⟩
theorem ScM_arr {m i j : Nat} (h1 : 38 ≤ i) (h2 : i ≤ 52) (hd : ∀ p, p ∈ mRs → p.1 ≠ i) : ScM m (m + i) j := ⟨Or.inl ⟨by omega, by omega⟩, fun p hp z => hd p hp (by omega)⟩
theorem ScM_fld {m j : Nat} (h : j = 33 ∨ j = 34 ∨ j = 37 ∨ j = 38 ∨ j = 44 ∨ j = 45 ∨ j = 46) : ScM m m j := ⟨Or.inr ⟨rfl, h⟩, fun p hp z => by
  have h1 : ∀ p, p ∈ mRs → p.1 = 0 → p.2.1 ≠ 33 ∧ p.2.1 ≠ 34 ∧ p.2.1 ≠ 37 ∧ p.2.1 ≠ 38 ∧ p.2.1 ≠ 44 ∧ p.2.1 ≠ 45 ∧ p.2.1 ≠ 46 := by decide
  have := h1 p hp (by omega)
  omega⟩
theorem xok_scr {K : Nat → Nat} {x : Nat} {h h1 : AH} {Z : Zt} {r : Int32} {o : Option (Int32 × AH)} (I : InvX K x h Z) (e : o = some (r, h1)) (F : Fr 0 0 (ScX x) h h1) : XOk K x 0 0 Z r o h :=
  ⟨h1, e, InvX_fr I F (fun _ _ _ z => Or.inl z), Fr_mono F (Nat.le_refl _) (Nat.le_refl _) (fun _ _ _ z => ScX_out z)⟩
theorem xok_same {K : Nat → Nat} {x : Nat} {h : AH} {Z : Zt} {r : Int32} {o : Option (Int32 × AH)} (I : InvX K x h Z) (e : o = some (r, h)) : XOk K x 0 0 Z r o h := xok_scr I e (Fr_refl h)
theorem mok_scr {m : Nat} {h h1 : AH} {Z : Zt} {r : Int32} {o : Option (Int32 × AH)} (bz : Bz Z) (I : InvM m h Z) (e : o = some (r, h1)) (F : Fr 0 0 (ScM m) h h1) : MOk m Z r o h :=
  ⟨h1, e, InvM_fr I bz.2.2.1 F (fun _ _ _ z => Or.inl z), Fr_mono F (Nat.le_refl _) (Nat.le_refl _) (fun _ _ _ z => ⟨ScM_in z, ScM_31 z⟩)⟩
theorem mok_same {m : Nat} {h : AH} {Z : Zt} {r : Int32} {o : Option (Int32 × AH)} (bz : Bz Z) (I : InvM m h Z) (e : o = some (r, h)) : MOk m Z r o h := mok_scr bz I e (Fr_refl h)
theorem fr_ovX {x : Nat} (h : AH) (st : Nat → Int32) : Fr 0 0 (ScX x) h (h.ovI (x + 17) 20 st) := Fr_of rfl rfl rfl rfl rfl (fun a j z => by
  by_cases c : a = x + 17
  · exact absurd (c ▸ ScX_arr (i := 17) (by omega) (by omega) (by decide)) z
  · rw [I_ov_ne c])
theorem fr_ovM {m : Nat} (h : AH) (st : Nat → Int32) : Fr 0 0 (ScM m) h (h.ovI (m + 40) 20 st) := Fr_of rfl rfl rfl rfl rfl (fun a j z => by
  by_cases c : a = m + 40
  · exact absurd (c ▸ ScM_arr (i := 40) (by omega) (by omega) (by decide)) z
  · rw [I_ov_ne c])
theorem fr_gnX {x : Nat} (h : AH) (G : Nat → Nat → Int32) : Fr 0 0 (ScX x) h (h.ov2I (x + 19) 8 8 G) := Fr_of rfl rfl rfl rfl rfl (fun a j z => by
  rcases Nat.lt_or_ge a (x + 19) with c | c
  · rw [I_ov2_ne (Or.inl c)]
  · rcases Nat.lt_or_ge a (x + 27) with c2 | c2
    · have h1 : ∀ i, i < 8 → ∀ p, p ∈ xRs → p.1 ≠ 19 + i := by decide
      have := ScX_arr (x := x) (i := 19 + (a - x - 19)) (j := j) (by omega) (by omega) (h1 (a - x - 19) (by omega))
      rw [show x + (19 + (a - x - 19)) = a by omega] at this
      exact absurd this z
    · rw [I_ov2_ne (Or.inr (by omega))])
theorem fr_pcX {x : Nat} (h : AH) (po pi pf ps : Nat → Int32) (pm wm : Int32) : Fr 0 0 (ScX x) h (h.pcX x po pi pf ps pm wm) := Fr_of rfl rfl rfl rfl rfl (fun a j z => by
  rw [pcX_I]
  by_cases c0 : a = x
  · have c1 : j ≠ 23 := fun y => z (c0 ▸ ScX_fld (Or.inl y))
    have c2 : j ≠ 24 := fun y => z (c0 ▸ ScX_fld (Or.inr y))
    rw [if_pos c0, if_neg c1, if_neg c2]
  · have a13 : a ≠ x + 13 := fun c => absurd (c ▸ ScX_arr (i := 13) (by omega) (by omega) (by decide)) z
    have a14 : a ≠ x + 14 := fun c => absurd (c ▸ ScX_arr (i := 14) (by omega) (by omega) (by decide)) z
    have a15 : a ≠ x + 15 := fun c => absurd (c ▸ ScX_arr (i := 15) (by omega) (by omega) (by decide)) z
    have a16 : a ≠ x + 16 := fun c => absurd (c ▸ ScX_arr (i := 16) (by omega) (by omega) (by decide)) z
    rw [if_neg c0, if_neg a13, if_neg a14, if_neg a15, if_neg a16]
    split <;> rfl)
theorem fr_pcM {m : Nat} (h : AH) (po pi : Nat → Int32) (pm wm : Int32) : Fr 0 0 (ScM m) h (h.pcM m po pi pm wm) := Fr_of rfl rfl rfl rfl rfl (fun a j z => by
  rw [pcM_I]
  by_cases c0 : a = m
  · have c1 : j ≠ 37 := fun y => z (c0 ▸ ScM_fld (by omega))
    have c2 : j ≠ 38 := fun y => z (c0 ▸ ScM_fld (by omega))
    rw [if_pos c0, if_neg c1, if_neg c2]
  · have a38 : a ≠ m + 38 := fun c => absurd (c ▸ ScM_arr (i := 38) (by omega) (by omega) (by decide)) z
    have a39 : a ≠ m + 39 := fun c => absurd (c ▸ ScM_arr (i := 39) (by omega) (by omega) (by decide)) z
    rw [if_neg c0, if_neg a38, if_neg a39]
    split <;> rfl)
theorem fr_asM {m : Nat} (h : AH) (d f o : Int32) : Fr 0 0 (ScM m) h (h.asM m d f o) := Fr_of rfl rfl rfl rfl rfl (fun a j z => by
  rw [as_I]
  by_cases c0 : a = m
  · have c1 : j ≠ 44 := fun y => z (c0 ▸ ScM_fld (by omega))
    have c2 : j ≠ 45 := fun y => z (c0 ▸ ScM_fld (by omega))
    have c3 : j ≠ 46 := fun y => z (c0 ▸ ScM_fld (by omega))
    rw [if_pos c0, if_neg c1, if_neg c2, if_neg c3]
  · rw [if_neg c0])

theorem ox_voter {n : Nat} {K : Nat → Nat} {x : Nat} {h : AH} {Z : Zt} (hn : 20000 < n) (bz : Bz Z) (I : InvX K x h Z) (v w : Int32) : XOk K x 0 0 Z (voterS Z.S v w) (F_X0_voter n K x v w h) h := by
  have I0 := I
  obtain ⟨e, c, E, b, _, _, _, _, X, _, _, _, inj, _⟩ := I0
  exact xok_same I (x_voter hn X v w)
theorem om_voter {n : Nat} {K : Nat → Nat} {m : Nat} {h : AH} {Z : Zt} (hn : 20000 < n) (bz : Bz Z) (I : InvM m h Z) (v w : Int32) : MOk m Z (voterS Z.S v w) (F_X3_voter n K m v w h) h := by
  exact mok_same bz I (m_voter hn I.1 v w)
theorem ox_place {n : Nat} {K : Nat → Nat} {x : Nat} {h : AH} {Z : Zt} (hn : 20000 < n) (bz : Bz Z) (I : InvX K x h Z) (v w : Int32) : XOk K x 0 0 Z (placeS Z.S v w) (F_X0_place n K x v w h) h := by
  have I0 := I
  obtain ⟨e, c, E, b, _, _, _, _, X, _, _, _, inj, _⟩ := I0
  exact xok_same I (x_place hn X v w)
theorem om_place {n : Nat} {K : Nat → Nat} {m : Nat} {h : AH} {Z : Zt} (hn : 20000 < n) (bz : Bz Z) (I : InvM m h Z) (v w : Int32) : MOk m Z (placeS Z.S v w) (F_X3_place n K m v w h) h := by
  exact mok_same bz I (m_place hn I.1 v w)
theorem ox_way {n : Nat} {K : Nat → Nat} {x : Nat} {h : AH} {Z : Zt} (hn : 20000 < n) (bz : Bz Z) (I : InvX K x h Z) (v w y : Int32) : XOk K x 0 0 Z (wayAS Z.S v w y) (F_X0_way n K x v w y h) h := by
  have I0 := I
  obtain ⟨e, c, E, b, _, _, _, _, X, _, _, _, inj, _⟩ := I0
  exact xok_same I (x_wayA hn X v w y)
theorem om_way {n : Nat} {K : Nat → Nat} {m : Nat} {h : AH} {Z : Zt} (hn : 20000 < n) (bz : Bz Z) (I : InvM m h Z) (v w y : Int32) : MOk m Z (wayAS Z.S v w y) (F_X3_way n K m v w y h) h := by
  exact mok_same bz I (m_wayA hn I.1 v w y)
theorem ox_votes {n : Nat} {K : Nat → Nat} {x : Nat} {h : AH} {Z : Zt} (hn : 20000 < n) (bz : Bz Z) (I : InvX K x h Z) (v w : Int32) : XOk K x 0 0 Z (votesS Z.S v w) (F_X0_votes n K x v w h) h := by
  have I0 := I
  obtain ⟨e, c, E, b, _, _, _, _, X, _, _, _, inj, _⟩ := I0
  exact xok_same I (x_votes hn X v w)
theorem om_votes {n : Nat} {K : Nat → Nat} {m : Nat} {h : AH} {Z : Zt} (hn : 20000 < n) (bz : Bz Z) (I : InvM m h Z) (v w : Int32) : MOk m Z (votesS Z.S v w) (F_X3_votes n K m v w h) h := by
  exact mok_same bz I (m_votes hn I.1 v w)
theorem ox_beats {n : Nat} {K : Nat → Nat} {x : Nat} {h : AH} {Z : Zt} (hn : 20000 < n) (bz : Bz Z) (I : InvX K x h Z) (v w : Int32) : XOk K x 0 0 Z (bI (beatsS Z.S v w)) (F_X0_beats n K x v w h) h := by
  have I0 := I
  obtain ⟨e, c, E, b, _, _, _, _, X, _, _, _, inj, _⟩ := I0
  exact xok_same I (x_beats hn X v w)
theorem om_beats {n : Nat} {K : Nat → Nat} {m : Nat} {h : AH} {Z : Zt} (hn : 20000 < n) (bz : Bz Z) (I : InvM m h Z) (v w : Int32) : MOk m Z (bI (beatsS Z.S v w)) (F_X3_beats n K m v w h) h := by
  exact mok_same bz I (m_beats hn I.1 v w)
theorem ox_wins {n : Nat} {K : Nat → Nat} {x : Nat} {h : AH} {Z : Zt} (hn : 20000 < n) (bz : Bz Z) (I : InvX K x h Z) (v w : Int32) : XOk K x 0 0 Z (bI (winsS Z.S v w)) (F_X0_wins n K x v w h) h := by
  have I0 := I
  obtain ⟨e, c, E, b, _, _, _, _, X, _, _, _, inj, _⟩ := I0
  exact xok_same I (x_winsA hn X v w)
theorem om_wins {n : Nat} {K : Nat → Nat} {m : Nat} {h : AH} {Z : Zt} (hn : 20000 < n) (bz : Bz Z) (I : InvM m h Z) (v w : Int32) : MOk m Z (bI (winsS Z.S v w)) (F_X3_wins n K m v w h) h := by
  exact mok_same bz I (m_winsA hn I.1 v w)
theorem ox_need {n : Nat} {K : Nat → Nat} {x : Nat} {h : AH} {Z : Zt} (hn : 20000 < n) (bz : Bz Z) (I : InvX K x h Z) (v : Int32) : XOk K x 0 0 Z (needAS Z.S v) (F_X0_need n K x v h) h := by
  have I0 := I
  obtain ⟨e, c, E, b, _, _, _, _, X, _, _, _, inj, _⟩ := I0
  exact xok_same I (x_need hn X v)
theorem om_need {n : Nat} {K : Nat → Nat} {m : Nat} {h : AH} {Z : Zt} (hn : 20000 < n) (bz : Bz Z) (I : InvM m h Z) (v : Int32) : MOk m Z (needAS Z.S v) (F_X3_need n K m v h) h := by
  exact mok_same bz I (m_need hn I.1 v)
theorem ox_most {n : Nat} {K : Nat → Nat} {x : Nat} {h : AH} {Z : Zt} (hn : 20000 < n) (bz : Bz Z) (I : InvX K x h Z) (v w : Int32) : XOk K x 0 0 Z (mostS Z.S v w) (F_X0_most n K x v w h) h := by
  have I0 := I
  obtain ⟨e, c, E, b, _, _, _, _, X, _, _, _, inj, _⟩ := I0
  exact xok_same I (x_most hn X v w)
theorem om_most {n : Nat} {K : Nat → Nat} {m : Nat} {h : AH} {Z : Zt} (hn : 20000 < n) (bz : Bz Z) (I : InvM m h Z) (v w : Int32) : MOk m Z (mostS Z.S v w) (F_X3_most n K m v w h) h := by
  exact mok_same bz I (m_most hn I.1 v w)
theorem ox_between {n : Nat} {K : Nat → Nat} {x : Nat} {h : AH} {Z : Zt} (hn : 20000 < n) (bz : Bz Z) (I : InvX K x h Z) (v w : Int32) : XOk K x 0 0 Z (betwS Z.S v w) (F_X0_between n K x v w h) h := by
  have I0 := I
  obtain ⟨e, c, E, b, _, _, _, _, X, _, _, _, inj, _⟩ := I0
  exact xok_same I (x_between hn X v w)
theorem om_between {n : Nat} {K : Nat → Nat} {m : Nat} {h : AH} {Z : Zt} (hn : 20000 < n) (bz : Bz Z) (I : InvM m h Z) (v w : Int32) : MOk m Z (betwS Z.S v w) (F_X3_between n K m v w h) h := by
  exact mok_same bz I (m_between hn I.1 v w)
theorem ox_peace {n : Nat} {K : Nat → Nat} {x : Nat} {h : AH} {Z : Zt} (hn : 20000 < n) (bz : Bz Z) (I : InvX K x h Z) : XOk K x 0 0 Z (peaceS Z.S) (F_X0_peace n K x h) h := by
  have I0 := I
  obtain ⟨e, c, E, b, _, _, _, _, X, _, _, _, inj, _⟩ := I0
  exact xok_same I (x_peace hn X)
theorem om_peace {n : Nat} {K : Nat → Nat} {m : Nat} {h : AH} {Z : Zt} (hn : 20000 < n) (bz : Bz Z) (I : InvM m h Z) : MOk m Z (peaceS Z.S) (F_X3_peace n K m h) h := by
  exact mok_same bz I (m_peace hn I.1)
theorem ox_make {n : Nat} {K : Nat → Nat} {x : Nat} {h : AH} {Z : Zt} (hn : 20000 < n) (bz : Bz Z) (I : InvX K x h Z) (v : Int32) : XOk K x 0 0 Z (mkS Z.S v) (F_X0_make n K x v h) h := by
  have I0 := I
  obtain ⟨e, c, E, b, _, _, _, _, X, _, _, _, inj, _⟩ := I0
  exact xok_same I (x_make hn X inj v)
theorem om_make {n : Nat} {K : Nat → Nat} {m : Nat} {h : AH} {Z : Zt} (hn : 20000 < n) (bz : Bz Z) (I : InvM m h Z) (v : Int32) : MOk m Z (mkS Z.S v) (F_X3_make n K m v h) h := by
  exact mok_same bz I (m_make hn I.1 v)
theorem ox_doubt {n : Nat} {K : Nat → Nat} {x : Nat} {h : AH} {Z : Zt} (hn : 20000 < n) (bz : Bz Z) (I : InvX K x h Z) (v w : Int32) : XOk K x 0 0 Z (doubtS Z.S v w) (F_X0_doubt n K x v w h) h := by
  have I0 := I
  obtain ⟨e, c, E, b, _, _, _, _, X, _, _, _, inj, _⟩ := I0
  exact xok_same I (x_doubt hn X bz.1 v w)
theorem om_doubt {n : Nat} {K : Nat → Nat} {m : Nat} {h : AH} {Z : Zt} (hn : 20000 < n) (bz : Bz Z) (I : InvM m h Z) (v w : Int32) : MOk m Z (doubtS Z.S v w) (F_X3_doubt n K m v w h) h := by
  obtain ⟨d, f, o, ee⟩ := m_doubt (K := K) hn I.1 bz.1 v w
  exact mok_scr bz I ee (fr_asM h d f o)
theorem ox_led {n : Nat} {K : Nat → Nat} {x : Nat} {h : AH} {Z : Zt} (hn : 20000 < n) (bz : Bz Z) (I : InvX K x h Z) (v w y : Int32) : XOk K x 0 0 Z (ledS Z.S v w y) (F_X0_led n K x v w y h) h := by
  have I0 := I
  obtain ⟨e, c, E, b, _, _, _, _, X, _, _, _, inj, _⟩ := I0
  obtain ⟨st, ee⟩ := x_led hn X v w y
  exact xok_scr I ee (fr_ovX h st)
theorem om_led {n : Nat} {K : Nat → Nat} {m : Nat} {h : AH} {Z : Zt} (hn : 20000 < n) (bz : Bz Z) (I : InvM m h Z) (v w y : Int32) : MOk m Z (ledS Z.S v w y) (F_X3_led n K m v w y h) h := by
  obtain ⟨st, ee⟩ := m_led (K := K) hn I.1 v w y
  exact mok_scr bz I ee (fr_ovM h st)
theorem ox_best {n : Nat} {K : Nat → Nat} {x : Nat} {h : AH} {Z : Zt} (hn : 20000 < n) (bz : Bz Z) (I : InvX K x h Z) (v : Int32) : XOk K x 0 0 Z (bestAS Z.S v) (F_X0_best n K x v h) h := by
  have I0 := I
  obtain ⟨e, c, E, b, _, _, _, _, X, _, _, _, inj, _⟩ := I0
  obtain ⟨st, ee⟩ := x_best hn X v
  exact xok_scr I ee (fr_ovX h st)
theorem om_best {n : Nat} {K : Nat → Nat} {m : Nat} {h : AH} {Z : Zt} (hn : 20000 < n) (bz : Bz Z) (I : InvM m h Z) (v : Int32) : MOk m Z (bestAS Z.S v) (F_X3_best n K m v h) h := by
  obtain ⟨st, ee⟩ := m_best (K := K) hn I.1 (ab_irr bz.1) v
  exact mok_scr bz I ee (fr_ovM h st)
theorem ox_rest {n : Nat} {K : Nat → Nat} {x : Nat} {h : AH} {Z : Zt} (hn : 20000 < n) (bz : Bz Z) (I : InvX K x h Z) : XOk K x 0 0 Z (restS Z.S) (F_X0_rest n K x h) h := by
  have I0 := I
  obtain ⟨e, c, E, b, _, _, _, _, X, _, _, _, inj, _⟩ := I0
  obtain ⟨G, ee⟩ := x_rest hn X
  exact xok_scr I ee (fr_gnX h G)
theorem om_rest {n : Nat} {K : Nat → Nat} {m : Nat} {h : AH} {Z : Zt} (hn : 20000 < n) (bz : Bz Z) (I : InvM m h Z) : MOk m Z (restS Z.S) (F_X3_rest n K m h) h := by
  exact mok_same bz I (m_rest hn I.1)
theorem ox_winSet {n : Nat} {K : Nat → Nat} {x : Nat} {h : AH} {Z : Zt} (hn : 20000 < n) (bz : Bz Z) (I : InvX K x h Z) (v w y : Int32) : XOk K x 0 0 Z (winSetS Z.S v w y) (F_X0_winSet n K x v w y h) h := by
  have I0 := I
  obtain ⟨e, c, E, b, _, _, _, _, X, _, _, _, inj, _⟩ := I0
  obtain ⟨po, pi, pf, ps, pm, wm, ee⟩ := x_winSet hn X v w y
  exact xok_scr I ee (fr_pcX h po pi pf ps pm wm)
theorem om_winSet {n : Nat} {K : Nat → Nat} {m : Nat} {h : AH} {Z : Zt} (hn : 20000 < n) (bz : Bz Z) (I : InvM m h Z) (v w y : Int32) : MOk m Z (winSetS Z.S v w y) (F_X3_winSet n K m v w y h) h := by
  obtain ⟨po, pi, pm, wm, ee⟩ := m_winSet (K := K) hn I.1 v w y
  exact mok_scr bz I ee (fr_pcM h po pi pm wm)
theorem ox_piece {n : Nat} {K : Nat → Nat} {x : Nat} {h : AH} {Z : Zt} (hn : 20000 < n) (bz : Bz Z) (I : InvX K x h Z) (v w y u : Int32) : XOk K x 0 0 Z (pieceS Z.S v w y u) (F_X0_piece n K x v w y u h) h := by
  have I0 := I
  obtain ⟨e, c, E, b, _, _, _, _, X, _, _, _, inj, _⟩ := I0
  obtain ⟨po, pi, pf, ps, pm, wm, ee⟩ := x_piece hn X v w y u
  exact xok_scr I ee (fr_pcX h po pi pf ps pm wm)
theorem om_piece {n : Nat} {K : Nat → Nat} {m : Nat} {h : AH} {Z : Zt} (hn : 20000 < n) (bz : Bz Z) (I : InvM m h Z) (v w y u : Int32) : MOk m Z (pieceS Z.S v w y u) (F_X3_piece n K m v w y u h) h := by
  obtain ⟨po, pi, pm, wm, ee⟩ := m_piece (K := K) hn I.1 v w y u
  exact mok_scr bz I ee (fr_pcM h po pi pm wm)
