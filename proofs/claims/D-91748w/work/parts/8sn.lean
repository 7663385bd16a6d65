/-! PURE PART SN: what a text says: the parser, with and without the check of each new token -/
set_option maxRecDepth 100000
abbrev Tk : Type := Nat × Nat
abbrev PSt : Type := St × (Nat × Int32 × Int32 × Bool)
abbrev Rs (β : Type) : Type := Nat ⊕ (β × Tk)
def PB {β γ : Type} (r : Rs β) (f : β → Tk → Rs γ) : Rs γ := match r with
  | .inl p => .inl p
  | .inr (b, t) => f b t
def adv {β : Type} (c : Bool) (T : Nat → Int32) (tm : Nat) (b : β) (t : Tk) : Rs β := if (c && badT T tm (tkS T tm t.2)) = true then .inl (tkS T tm t.2).1 else .inr (b, tkS T tm t.2)
def passP {β : Type} (c : Bool) (T : Nat → Int32) (tm : Nat) (ok : Bool) (b : β) (t : Tk) : Rs β := if ok = true then adv c T tm b t else .inl t.1
def digT (T : Nat → Int32) (tm : Nat) (t : Tk) : Bool := decide (t.1 < tm) && isDg (T t.1)
def sgT (T : Nat → Int32) (tm : Nat) (v : Int32) (t : Tk) : Bool := decide (t.1 < tm) && decide (T t.1 = v)
def numP (c : Bool) (T : Nat → Int32) (tm : Nat) (lo hi : Int32) (t : Tk) : Rs Int32 := passP c T tm (digT T tm t && inS (nvX T t.1 (t.2 - t.1)) lo hi) (nvX T t.1 (t.2 - t.1)) t
def semiP (c : Bool) (T : Nat → Int32) (tm : Nat) (P : PSt) (t : Tk) : Rs PSt := passP c T tm (sgT T tm 59 t) P t
def St.pushV (S : St) (a b w : Int32) (me : Nat) (wi ta : Int32) : St := ((S.nv + 1, fun v j => if v = S.nv then (if j = 0 then a else if j = 1 then b else if j = 2 then w else if j = 3 then nI me else if j = 4 then wi else ta) else S.V v j), S.2)
def St.pushP (S : St) (a b : Int32) : St := (S.1, (S.np + 1, fun p j => if p = S.np then (if j = 0 then a else b) else S.P p j), S.2.2)
def St.setB (S : St) (k p w : Int32) : St := (S.1, S.2.1, (k, p, w))
def meT (T : Nat → Int32) (tm : Nat) (t : Tk) : Option Nat := findS (fun i => wdS T tm (4 + i) t) 4 0
def nearP (c : Bool) (T : Nat → Int32) (tm : Nat) (P : PSt) (t : Tk) : Rs PSt := PB (passP c T tm (meT T tm t).isSome (P.1, ((meT T tm t).getD 0, P.2.2)) t) (semiP c T tm)
def strP (c : Bool) (T : Nat → Int32) (tm : Nat) (P : PSt) (t : Tk) : Rs PSt := PB (numP c T tm 1 9 t) fun a t => PB (numP c T tm 1 9 t) fun b t => semiP c T tm (P.1, (P.2.1, a, b, P.2.2.2.2)) t
def byP (c : Bool) (T : Nat → Int32) (tm : Nat) (t : Tk) : Rs Int32 := if wdS T tm 11 t = true then PB (adv c T tm () t) fun _ t => numP c T tm 1 9 t else .inr (1, t)
def votP (c : Bool) (T : Nat → Int32) (tm : Nat) (P : PSt) (t : Tk) : Rs PSt := PB (numP c T tm 0 99 t) fun a t => PB (numP c T tm 0 99 t) fun b t => PB (byP c T tm t) fun w t => semiP c T tm (P.1.pushV a b w P.2.1 P.2.2.1 P.2.2.2.1, P.2) t
def plaP (c : Bool) (T : Nat → Int32) (tm : Nat) (P : PSt) (t : Tk) : Rs PSt := PB (numP c T tm 0 99 t) fun a t => PB (numP c T tm 0 99 t) fun b t => semiP c T tm (P.1.pushP a b, P.2) t
def barP (c : Bool) (T : Nat → Int32) (tm : Nat) (k : Int32) (P : PSt) (t : Tk) : Rs PSt := PB (numP c T tm 1 99 t) fun v t => PB (passP c T tm (sgT T tm 47 t) () t) fun _ t => PB (numP c T tm v (if 2 * v < 99 then 2 * v else 99) t) fun w t => semiP c T tm (P.1.setB k v w, P.2) t
def winP (c : Bool) (T : Nat → Int32) (tm : Nat) (P : PSt) (t : Tk) : Rs PSt := if wdS T tm 14 t = true then PB (adv c T tm P t) (semiP c T tm) else PB (passP c T tm (wdS T tm 15 t || wdS T tm 16 t) P t) (barP c T tm (if wdS T tm 15 t = true then 1 else 2))
def wonP (P : PSt) : PSt := (P.1, (P.2.1, P.2.2.1, P.2.2.2.1, true))
def tellP (c : Bool) (T : Nat → Int32) (tm : Nat) (P : PSt) (t : Tk) : Rs PSt :=
  if wdS T tm 8 t = true then PB (adv c T tm P t) (nearP c T tm) else
  if wdS T tm 9 t = true then PB (adv c T tm P t) (strP c T tm) else
  if wdS T tm 10 t = true then PB (passP c T tm (decide (P.1.nv < 15)) P t) (votP c T tm) else
  if wdS T tm 12 t = true then PB (passP c T tm (decide (P.1.np < 20)) P t) (plaP c T tm) else
  PB (passP c T tm (wdS T tm 13 t && !P.2.2.2.2) (wonP P) t) (winP c T tm)
def goP (c : Bool) (T : Nat → Int32) (tm : Nat) : Nat → PSt → Tk → Nat ⊕ PSt
  | 0, _, _ => .inl 0
  | f + 1, P, t => if t.1 = tm then (if P.1.nv = 0 then .inl tm else .inr P) else match tellP c T tm P t with
    | .inl p => .inl p
    | .inr (P', u) => goP c T tm f P' u
def P0 : PSt := (((0, fun _ _ => 0), (0, fun _ _ => 0), (0, 1, 2)), (0, 1, 1, false))
/-- what the text says -/
def textP (T : Nat → Int32) (tm : Nat) : Nat ⊕ PSt := goP false T tm (tm + 1) P0 (tkS T tm 0)
/-! the check -/
def ck {β : Type} (T : Nat → Int32) (tm : Nat) (r : Rs β) : Rs β := match r with
  | .inl p => .inl p
  | .inr (b, u) => if badT T tm u = true then .inl u.1 else .inr (b, u)
theorem ck_adv {β : Type} {T : Nat → Int32} {tm : Nat} (b : β) (t : Tk) : adv true T tm b t = ck T tm (adv false T tm b t) := by
  unfold adv ck
  simp only [Bool.true_and, Bool.false_and, Bool.false_eq_true, if_false]
theorem ck_pass {β : Type} {T : Nat → Int32} {tm : Nat} (o : Bool) (b : β) (t : Tk) : passP true T tm o b t = ck T tm (passP false T tm o b t) := by
  unfold passP
  cases o
  · rfl
  · rw [if_pos rfl, if_pos rfl]; exact ck_adv b t
theorem ck_PB {β γ : Type} {T : Nat → Int32} {tm : Nat} {r1 r0 : Rs β} {f1 f0 : β → Tk → Rs γ} (h : r1 = ck T tm r0) (hf : ∀ b u, f1 b u = ck T tm (f0 b u)) (hb : ∀ b u, badT T tm u = true → f0 b u = .inl u.1) : PB r1 f1 = ck T tm (PB r0 f0) := by
  subst h
  rcases r0 with p | ⟨b, u⟩
  · rfl
  · show PB (if badT T tm u = true then .inl u.1 else .inr (b, u)) f1 = ck T tm (f0 b u)
    by_cases c : badT T tm u = true
    · rw [if_pos c, hb b u c]; rfl
    · rw [if_neg c]; exact hf b u
theorem bad_dg {T : Nat → Int32} {tm : Nat} {t : Tk} (h : badT T tm t = true) : digT T tm t = false ∧ sgT T tm 59 t = false ∧ sgT T tm 47 t = false ∧ t.1 < tm := by
  unfold badT at h
  simp only [Bool.and_eq_true, Bool.not_eq_true', decide_eq_true_eq, decide_eq_false_iff_not] at h
  obtain ⟨h1, h2, h3, h4, h5⟩ := h
  unfold digT sgT
  rw [h3, decide_eq_false h4, decide_eq_false h5, Bool.and_false]
  exact ⟨rfl, rfl, rfl, h1⟩
theorem bad_num {T : Nat → Int32} {tm : Nat} {t : Tk} (h : badT T tm t = true) (lo hi : Int32) : numP false T tm lo hi t = .inl t.1 := by
  unfold numP passP
  rw [(bad_dg h).1]; rfl
theorem bad_semi {T : Nat → Int32} {tm : Nat} {t : Tk} (h : badT T tm t = true) (P : PSt) : semiP false T tm P t = .inl t.1 := by
  unfold semiP passP
  rw [(bad_dg h).2.1]; rfl
theorem bad_me {T : Nat → Int32} {tm : Nat} {t : Tk} (h : badT T tm t = true) : meT T tm t = none := by
  unfold meT
  exact findS_no (fun i _ h2 => bad_word h (by omega) (by omega))
theorem bad_near {T : Nat → Int32} {tm : Nat} {t : Tk} (h : badT T tm t = true) (P : PSt) : nearP false T tm P t = .inl t.1 := by
  unfold nearP passP
  rw [bad_me h]; rfl
theorem bad_str {T : Nat → Int32} {tm : Nat} {t : Tk} (h : badT T tm t = true) (P : PSt) : strP false T tm P t = .inl t.1 := by
  unfold strP
  rw [bad_num h]; rfl
theorem bad_vot {T : Nat → Int32} {tm : Nat} {t : Tk} (h : badT T tm t = true) (P : PSt) : votP false T tm P t = .inl t.1 := by
  unfold votP
  rw [bad_num h]; rfl
theorem bad_pla {T : Nat → Int32} {tm : Nat} {t : Tk} (h : badT T tm t = true) (P : PSt) : plaP false T tm P t = .inl t.1 := by
  unfold plaP
  rw [bad_num h]; rfl
theorem bad_bar {T : Nat → Int32} {tm : Nat} {t : Tk} (h : badT T tm t = true) (k : Int32) (P : PSt) : barP false T tm k P t = .inl t.1 := by
  unfold barP
  rw [bad_num h]; rfl
theorem bad_win {T : Nat → Int32} {tm : Nat} {t : Tk} (h : badT T tm t = true) (P : PSt) : winP false T tm P t = .inl t.1 := by
  unfold winP passP
  rw [bad_word h (by decide) (by decide), bad_word h (by decide) (by decide), bad_word h (by decide) (by decide)]; rfl
theorem bad_tell {T : Nat → Int32} {tm : Nat} {t : Tk} (h : badT T tm t = true) (P : PSt) : tellP false T tm P t = .inl t.1 := by
  unfold tellP passP
  rw [bad_word h (by decide) (by decide), bad_word h (by decide) (by decide), bad_word h (by decide) (by decide), bad_word h (by decide) (by decide), bad_word h (by decide) (by decide)]; rfl
theorem ck_num {T : Nat → Int32} {tm : Nat} (lo hi : Int32) (t : Tk) : numP true T tm lo hi t = ck T tm (numP false T tm lo hi t) := ck_pass _ _ t
theorem ck_semi {T : Nat → Int32} {tm : Nat} (P : PSt) (t : Tk) : semiP true T tm P t = ck T tm (semiP false T tm P t) := ck_pass _ _ t
theorem ck_near {T : Nat → Int32} {tm : Nat} (P : PSt) (t : Tk) : nearP true T tm P t = ck T tm (nearP false T tm P t) := ck_PB (ck_pass _ _ t) ck_semi (fun P u h => bad_semi h P)
theorem ck_str {T : Nat → Int32} {tm : Nat} (P : PSt) (t : Tk) : strP true T tm P t = ck T tm (strP false T tm P t) :=
  ck_PB (ck_num _ _ t) (fun a u => ck_PB (ck_num _ _ u) (fun b v => ck_semi _ v) (fun b v h => bad_semi h _)) (fun a u h => by rw [bad_num h]; rfl)
theorem bad_by {T : Nat → Int32} {tm : Nat} {t : Tk} (h : badT T tm t = true) {γ : Type} (f : Int32 → Tk → Rs γ) (hf : ∀ w, f w t = .inl t.1) : PB (byP false T tm t) f = .inl t.1 := by
  unfold byP
  rw [bad_word h (by decide) (by decide)]
  exact hf 1
theorem ck_vot {T : Nat → Int32} {tm : Nat} (P : PSt) (t : Tk) : votP true T tm P t = ck T tm (votP false T tm P t) := by
  refine ck_PB (ck_num _ _ t) (fun a u => ck_PB (ck_num _ _ u) (fun b v => ?_) (fun b v h => bad_by h _ (fun w => bad_semi h _))) (fun a u h => by rw [bad_num h]; rfl)
  by_cases w : wdS T tm 11 v = true
  · have e : ∀ c, byP c T tm v = PB (adv c T tm () v) fun _ t => numP c T tm 1 9 t := fun c => by unfold byP; rw [if_pos w]
    rw [e, e]
    exact ck_PB (ck_PB (ck_adv _ v) (fun _ z => ck_num _ _ z) (fun _ z h => bad_num h _ _)) (fun b z => ck_semi _ z) (fun b z h => bad_semi h _)
  · have e : ∀ c, byP c T tm v = .inr (1, v) := fun c => by unfold byP; rw [if_neg w]
    rw [e, e]
    exact ck_semi _ v
theorem ck_pla {T : Nat → Int32} {tm : Nat} (P : PSt) (t : Tk) : plaP true T tm P t = ck T tm (plaP false T tm P t) :=
  ck_PB (ck_num _ _ t) (fun a u => ck_PB (ck_num _ _ u) (fun b v => ck_semi _ v) (fun b v h => bad_semi h _)) (fun a u h => by rw [bad_num h]; rfl)
theorem ck_bar {T : Nat → Int32} {tm : Nat} (k : Int32) (P : PSt) (t : Tk) : barP true T tm k P t = ck T tm (barP false T tm k P t) :=
  ck_PB (ck_num _ _ t) (fun a u => ck_PB (ck_pass _ _ u) (fun _ v => ck_PB (ck_num _ _ v) (fun b z => ck_semi _ z) (fun b z h => bad_semi h _)) (fun _ v h => by rw [bad_num h]; rfl)) (fun a u h => by unfold passP; rw [(bad_dg h).2.2.1]; rfl)
theorem ck_win {T : Nat → Int32} {tm : Nat} (P : PSt) (t : Tk) : winP true T tm P t = ck T tm (winP false T tm P t) := by
  unfold winP
  by_cases w : wdS T tm 14 t = true
  · rw [if_pos w, if_pos w]
    exact ck_PB (ck_adv _ t) ck_semi (fun P u h => bad_semi h P)
  · rw [if_neg w, if_neg w]
    exact ck_PB (ck_pass _ _ t) (ck_bar _) (fun P u h => bad_bar h _ P)
theorem ck_tell {T : Nat → Int32} {tm : Nat} (P : PSt) (t : Tk) : tellP true T tm P t = ck T tm (tellP false T tm P t) := by
  unfold tellP
  by_cases w8 : wdS T tm 8 t = true
  · rw [if_pos w8, if_pos w8]; exact ck_PB (ck_adv _ t) ck_near (fun P u h => bad_near h P)
  · rw [if_neg w8, if_neg w8]
    by_cases w9 : wdS T tm 9 t = true
    · rw [if_pos w9, if_pos w9]; exact ck_PB (ck_adv _ t) ck_str (fun P u h => bad_str h P)
    · rw [if_neg w9, if_neg w9]
      by_cases w10 : wdS T tm 10 t = true
      · rw [if_pos w10, if_pos w10]; exact ck_PB (ck_pass _ _ t) ck_vot (fun P u h => bad_vot h P)
      · rw [if_neg w10, if_neg w10]
        by_cases w12 : wdS T tm 12 t = true
        · rw [if_pos w12, if_pos w12]; exact ck_PB (ck_pass _ _ t) ck_pla (fun P u h => bad_pla h P)
        · rw [if_neg w12, if_neg w12]; exact ck_PB (ck_pass _ _ t) ck_win (fun P u h => bad_win h P)
/-! what comes after -/
def Pr {β : Type} (tm q : Nat) (r : Rs β) : Prop := ∀ b u, r = .inr (b, u) → tkOk tm u ∧ q ≤ u.1
theorem pr_adv {β : Type} {T : Nat → Int32} {tm : Nat} {c : Bool} {b : β} {t : Tk} (h : tkOk tm t) : Pr tm t.2 (adv c T tm b t) := by
  intro b' u e
  unfold adv at e
  by_cases z : (c && badT T tm (tkS T tm t.2)) = true
  · rw [if_pos z] at e; cases e
  · rw [if_neg z] at e
    injection e with e
    injection e with e1 e2
    subst e2
    exact tk_ok h.2.1
theorem pr_pass {β : Type} {T : Nat → Int32} {tm : Nat} {c o : Bool} {b : β} {t : Tk} (h : tkOk tm t) : Pr tm t.2 (passP c T tm o b t) := by
  unfold passP
  cases o
  · intro b' u e; cases e
  · exact pr_adv h
theorem pr_PB {β γ : Type} {tm q : Nat} {r : Rs β} {f : β → Tk → Rs γ} (h : Pr tm q r) (hf : ∀ b u, tkOk tm u → Pr tm u.1 (f b u)) : Pr tm q (PB r f) := by
  rcases r with p | ⟨b, u⟩
  · intro b' u' e; cases e
  · intro b' u' e
    have h1 := h b u rfl
    have h2 := hf b u h1.1 b' u' e
    exact ⟨h2.1, by omega⟩
theorem pr_1 {β : Type} {tm : Nat} {t : Tk} {r : Rs β} (h : tkOk tm t) (p : Pr tm t.2 r) : Pr tm t.1 r := by
  intro b u e
  have := p b u e
  exact ⟨this.1, by have := h.1; omega⟩
theorem pr_num {T : Nat → Int32} {tm : Nat} {c : Bool} {lo hi : Int32} {t : Tk} (h : tkOk tm t) : Pr tm t.1 (numP c T tm lo hi t) := pr_1 h (pr_pass h)
theorem pr_semi {T : Nat → Int32} {tm : Nat} {c : Bool} {P : PSt} {t : Tk} (h : tkOk tm t) : Pr tm t.1 (semiP c T tm P t) := pr_1 h (pr_pass h)
theorem pr_by {T : Nat → Int32} {tm : Nat} {c : Bool} {t : Tk} (h : tkOk tm t) : Pr tm t.1 (byP c T tm t) := by
  unfold byP
  by_cases w : wdS T tm 11 t = true
  · rw [if_pos w]; exact pr_PB (pr_1 h (pr_adv h)) (fun _ u h => pr_num h)
  · rw [if_neg w]
    intro b u e
    injection e with e
    injection e with e1 e2
    subst e2
    exact ⟨h, Nat.le_refl _⟩
theorem pr_tell {T : Nat → Int32} {tm : Nat} {c : Bool} {P : PSt} {t : Tk} (h : tkOk tm t) : Pr tm t.2 (tellP c T tm P t) := by
  unfold tellP
  by_cases w8 : wdS T tm 8 t = true
  · rw [if_pos w8]; exact pr_PB (pr_adv h) (fun P u h => pr_PB (pr_1 h (pr_pass h)) (fun P u h => pr_semi h))
  · rw [if_neg w8]
    by_cases w9 : wdS T tm 9 t = true
    · rw [if_pos w9]; exact pr_PB (pr_adv h) (fun P u h => pr_PB (pr_num h) (fun _ u h => pr_PB (pr_num h) (fun _ u h => pr_semi h)))
    · rw [if_neg w9]
      by_cases w10 : wdS T tm 10 t = true
      · rw [if_pos w10]; exact pr_PB (pr_pass h) (fun P u h => pr_PB (pr_num h) (fun _ u h => pr_PB (pr_num h) (fun _ u h => pr_PB (pr_by h) (fun _ u h => pr_semi h))))
      · rw [if_neg w10]
        by_cases w12 : wdS T tm 12 t = true
        · rw [if_pos w12]; exact pr_PB (pr_pass h) (fun P u h => pr_PB (pr_num h) (fun _ u h => pr_PB (pr_num h) (fun _ u h => pr_semi h)))
        · rw [if_neg w12]
          refine pr_PB (pr_pass h) (fun P u h => ?_)
          unfold winP
          by_cases w14 : wdS T tm 14 u = true
          · rw [if_pos w14]; exact pr_PB (pr_1 h (pr_adv h)) (fun P u h => pr_semi h)
          · rw [if_neg w14]
            exact pr_PB (pr_1 h (pr_pass h)) (fun P u h => pr_PB (pr_num h) (fun _ u h => pr_PB (pr_1 h (pr_pass h)) (fun _ u h => pr_PB (pr_num h) (fun _ u h => pr_semi h))))
theorem goP_s (c : Bool) (T : Nat → Int32) (tm f : Nat) (P : PSt) (t : Tk) : goP c T tm (f + 1) P t = if t.1 = tm then (if P.1.nv = 0 then .inl tm else .inr P) else match tellP c T tm P t with
    | .inl p => .inl p
    | .inr (P', u) => goP c T tm f P' u := rfl
/-- the check changes nothing of the whole -/
theorem go_ck {T : Nat → Int32} {tm : Nat} : ∀ f P t, tkOk tm t → tm - t.1 < f → goP true T tm f P t = goP false T tm f P t := by
  intro f
  induction f with
  | zero => intro P t h hf; omega
  | succ f ih =>
    intro P t h hf
    rw [goP_s, goP_s]
    by_cases c : t.1 = tm
    · rw [if_pos c, if_pos c]
    · rw [if_neg c, if_neg c, ck_tell]
      have pr := pr_tell (c := false) (T := T) (P := P) h
      have ht := h.2.2 (by have := h.1; have := h.2.1; omega)
      cases e : tellP false T tm P t with
      | inl p => rfl
      | inr w =>
        obtain ⟨P', u⟩ := w
        obtain ⟨pu, qu⟩ := pr P' u e
        have ec : ck T tm (.inr (P', u) : Rs PSt) = if badT T tm u = true then .inl u.1 else .inr (P', u) := rfl
        rw [ec]
        have hu := pu.1
        have hu2 := pu.2.1
        by_cases b : badT T tm u = true
        · rw [if_pos b]
          have lu := (bad_dg b).2.2.2
          obtain ⟨g, rfl⟩ : ∃ g, f = g + 1 := ⟨f - 1, by omega⟩
          show _ = goP false T tm (g + 1) P' u
          rw [goP_s, if_neg (by omega), bad_tell b]
        · rw [if_neg b]
          exact ih P' u pu (by omega)
