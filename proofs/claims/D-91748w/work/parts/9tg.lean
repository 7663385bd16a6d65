/-! PURE PART TG: bounds of what a text says -/
set_option maxRecDepth 100000
def Hr {β : Type} (S : β → Prop) (r : Rs β) : Prop := ∀ b u, r = .inr (b, u) → S b
theorem hr_PB {β γ : Type} {S : β → Prop} {S' : γ → Prop} {r : Rs β} {f : β → Tk → Rs γ} (h : Hr S r) (hf : ∀ b u, S b → Hr S' (f b u)) : Hr S' (PB r f) := by
  rcases r with p | ⟨b, u⟩
  · intro b' u' e; cases e
  · exact hf b u (h b u rfl)
theorem hr_adv {β : Type} {c : Bool} {T : Nat → Int32} {tm : Nat} {b : β} {t : Tk} : Hr (fun b' => b' = b) (adv c T tm b t) := by
  intro b' u e
  unfold adv at e
  by_cases z : (c && badT T tm (tkS T tm t.2)) = true
  · rw [if_pos z] at e; cases e
  · rw [if_neg z] at e
    injection e with e
    injection e with e1 e2
    exact e1.symm
theorem hr_pass {β : Type} {c ok : Bool} {T : Nat → Int32} {tm : Nat} {b : β} {t : Tk} : Hr (fun b' => b' = b ∧ ok = true) (passP c T tm ok b t) := by
  cases ok
  · intro b' u e; cases e
  · intro b' u e; exact ⟨hr_adv b' u e, rfl⟩
theorem hr_num {c : Bool} {T : Nat → Int32} {tm : Nat} {lo hi : Int32} {t : Tk} : Hr (fun v => inS v lo hi = true) (numP c T tm lo hi t) := fun v u e => num_lo e
theorem hr_semi {c : Bool} {T : Nat → Int32} {tm : Nat} {S : PSt → Prop} {P : PSt} {t : Tk} (h : S P) : Hr S (semiP c T tm P t) := fun P' u e => by
  have := hr_pass P' u e
  rw [this.1]; exact h
theorem in_nI {v : Int32} {lo hi : Nat} (hh : hi < 1000) (h : inS v (nI lo) (nI hi) = true) (hl : lo < 1000) : ∃ a, lo ≤ a ∧ a ≤ hi ∧ v = nI a := by
  have i := in_int h
  rw [nI_toInt (by omega), nI_toInt (by omega)] at i
  refine ⟨v.toInt.toNat, by omega, by omega, ?_⟩
  apply Int32.toInt_inj.1
  rw [nI_toInt (by omega)]
  omega
theorem Bd_pushV {S : St} (B : Bd S) (hn : S.nv < 15) {a b w : Int32} {me : Nat} {wi ta : Int32} (ha : inS a 0 99 = true) (hb : inS b 0 99 = true) (hw : inS w 1 9 = true) : Bd (S.pushV a b w me wi ta) := by
  obtain ⟨b1, b2, b3, b4, b5⟩ := B
  obtain ⟨p, _, p2, p3⟩ := in_nI (lo := 0) (hi := 99) (by omega) ha (by omega)
  obtain ⟨q, _, q2, q3⟩ := in_nI (lo := 0) (hi := 99) (by omega) hb (by omega)
  obtain ⟨r, r1, r2, r3⟩ := in_nI (lo := 1) (hi := 9) (by omega) hw (by omega)
  refine ⟨fun v hv => ?_, b2, b3, by show S.nv + 1 ≤ 15; omega, b5⟩
  have hv' : v < S.nv + 1 := hv
  have e : ∀ j, St.V (S.pushV a b w me wi ta) v j = if v = S.nv then (if j = 0 then a else if j = 1 then b else if j = 2 then w else if j = 3 then nI me else if j = 4 then wi else ta) else S.V v j := fun j => rfl
  show ∃ a' b' w', a' < 100 ∧ b' < 100 ∧ 1 ≤ w' ∧ w' ≤ 9 ∧ St.V (S.pushV a b w me wi ta) v 0 = nI a' ∧ St.V (S.pushV a b w me wi ta) v 1 = nI b' ∧ St.V (S.pushV a b w me wi ta) v 2 = nI w'
  rw [e, e, e]
  by_cases z : v = S.nv
  · simp only [if_pos z]
    exact ⟨p, q, r, by omega, by omega, r1, r2, p3, q3, r3⟩
  · simp only [if_neg z]
    exact b1 v (by omega)
theorem Bd_pushP {S : St} (B : Bd S) (hn : S.np < 20) {a b : Int32} (ha : inS a 0 99 = true) (hb : inS b 0 99 = true) : Bd (S.pushP a b) := by
  obtain ⟨b1, b2, b3, b4, b5⟩ := B
  obtain ⟨p, _, p2, p3⟩ := in_nI (lo := 0) (hi := 99) (by omega) ha (by omega)
  obtain ⟨q, _, q2, q3⟩ := in_nI (lo := 0) (hi := 99) (by omega) hb (by omega)
  refine ⟨b1, fun v hv => ?_, b3, b4, by show S.np + 1 ≤ 20; omega⟩
  have hv' : v < S.np + 1 := hv
  have e : ∀ j, St.P (S.pushP a b) v j = if v = S.np then (if j = 0 then a else b) else S.P v j := fun j => rfl
  show ∃ a' b', a' < 100 ∧ b' < 100 ∧ St.P (S.pushP a b) v 0 = nI a' ∧ St.P (S.pushP a b) v 1 = nI b'
  rw [e, e]
  by_cases z : v = S.np
  · simp only [if_pos z]
    exact ⟨p, q, by omega, by omega, p3, q3⟩
  · simp only [if_neg z]
    exact b2 v (by omega)
theorem Bd_setB {S : St} (B : Bd S) {k p w : Int32} (hp : inS p 1 99 = true) : Bd (S.setB k p w) := by
  obtain ⟨b1, b2, b3, b4, b5⟩ := B
  obtain ⟨q, q1, q2, q3⟩ := in_nI (lo := 1) (hi := 99) (by omega) hp (by omega)
  exact ⟨b1, b2, ⟨q, q1, q2, q3⟩, b4, b5⟩
theorem hr_tell {T : Nat → Int32} {tm : Nat} {P : PSt} {t : Tk} (B : Bd P.1) : Hr (fun P' => Bd P'.1) (tellP false T tm P t) := by
  unfold tellP
  by_cases w8 : wdS T tm 8 t = true
  · rw [if_pos w8]
    refine hr_PB hr_adv (fun P1 u1 e1 => ?_)
    subst e1
    exact hr_PB hr_pass (fun P2 u2 e2 => hr_semi (by rw [e2.1]; exact B))
  · rw [if_neg w8]
    by_cases w9 : wdS T tm 9 t = true
    · rw [if_pos w9]
      refine hr_PB hr_adv (fun P1 u1 e1 => ?_)
      subst e1
      exact hr_PB hr_num (fun a u2 _ => hr_PB hr_num (fun b u3 _ => hr_semi B))
    · rw [if_neg w9]
      by_cases w10 : wdS T tm 10 t = true
      · rw [if_pos w10]
        refine hr_PB hr_pass (fun P1 u1 e1 => ?_)
        obtain ⟨e1, o1⟩ := e1
        subst e1
        have hn : P1.1.nv < 15 := of_decide_eq_true o1
        refine hr_PB hr_num (fun a u2 ha => hr_PB hr_num (fun b u3 hb => hr_PB (S := fun w => inS w 1 9 = true) ?_ (fun w u4 hw => hr_semi (Bd_pushV B hn ha hb hw))))
        unfold byP
        by_cases w11 : wdS T tm 11 u3 = true
        · rw [if_pos w11]; exact hr_PB hr_adv (fun _ u4 _ => hr_num)
        · rw [if_neg w11]
          intro b u e
          injection e with e
          injection e with e1 e2
          rw [← e1]
          decide
      · rw [if_neg w10]
        by_cases w12 : wdS T tm 12 t = true
        · rw [if_pos w12]
          refine hr_PB hr_pass (fun P1 u1 e1 => ?_)
          obtain ⟨e1, o1⟩ := e1
          subst e1
          have hn : P1.1.np < 20 := of_decide_eq_true o1
          exact hr_PB hr_num (fun a u2 ha => hr_PB hr_num (fun b u3 hb => hr_semi (Bd_pushP B hn ha hb)))
        · rw [if_neg w12]
          refine hr_PB hr_pass (fun P1 u1 e1 => ?_)
          have B1 : Bd P1.1 := by rw [e1.1]; exact B
          unfold winP
          by_cases w14 : wdS T tm 14 u1 = true
          · rw [if_pos w14]; exact hr_PB hr_adv (fun P2 u2 e2 => hr_semi (by rw [e2]; exact B1))
          · rw [if_neg w14]
            refine hr_PB hr_pass (fun P2 u2 e2 => ?_)
            have B2 : Bd P2.1 := by rw [e2.1]; exact B1
            exact hr_PB hr_num (fun v u3 hv => hr_PB hr_pass (fun _ u4 _ => hr_PB hr_num (fun w u5 _ => hr_semi (Bd_setB B2 hv))))
theorem go_bd {T : Nat → Int32} {tm : Nat} : ∀ f P t P', Bd P.1 → goP false T tm f P t = .inr P' → Bd P'.1 := by
  intro f
  induction f with
  | zero => intro P t P' B e; cases e
  | succ f ih =>
    intro P t P' B e
    rw [goP_s] at e
    by_cases z : t.1 = tm
    · rw [if_pos z] at e
      by_cases y : P.1.nv = 0
      · rw [if_pos y] at e; cases e
      · rw [if_neg y] at e
        injection e with e
        rw [← e]; exact B
    · rw [if_neg z] at e
      have ht := hr_tell (T := T) (tm := tm) (t := t) B
      cases hq : tellP false T tm P t with
      | inl p => rw [hq] at e; cases e
      | inr w =>
        obtain ⟨P1, u⟩ := w
        rw [hq] at e
        exact ih P1 u P' (ht P1 u hq) e
theorem Bz_sheet {Z : Zt} (bz : Bz Z) : Bz (sheetZ Z) := by
  unfold sheetZ
  cases hq : textP Z.T Z.tm with
  | inl p => exact bz
  | inr P =>
    have B0 : Bd P0.1 := ⟨fun v hv => absurd hv (Nat.not_lt_zero v), fun v hv => absurd hv (Nat.not_lt_zero v), ⟨1, by omega, by omega, rfl⟩, by decide, by decide⟩
    refine ⟨go_bd _ _ _ _ B0 hq, by show (0 : Nat) ≤ 600; omega, by show (0 : Nat) ≤ 40; omega, fun k hk => absurd hk (Nat.not_lt_zero k)⟩
