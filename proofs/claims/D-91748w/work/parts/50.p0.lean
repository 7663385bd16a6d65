/-! PURE PART 0: what a pure program gives; loops -/
set_option maxRecDepth 100000
def Wp {α : Type} (x : Option (α × AH)) (Q : α → AH → Prop) : Prop := ∃ r h, x = some (r, h) ∧ Q r h
theorem Wp_some {α : Type} {r : α} {h : AH} {Q : α → AH → Prop} (q : Q r h) : Wp (some (r, h)) Q := ⟨r, h, rfl, q⟩
theorem Wp_chk {α : Type} {c : Prop} {inst : Decidable c} {f : Option (α × AH)} {Q : α → AH → Prop} (hc : c) (k : Wp f Q) : Wp (@chk _ c inst f) Q := by rw [chk_pos hc]; exact k
theorem Wp_ob {α : Type} {r : Option Nat} {a : Nat} {f : Nat → Option (α × AH)} {Q : α → AH → Prop} (hr : r = some a) (k : Wp (f a) Q) : Wp (ob r f) Q := by rw [hr]; exact k
theorem Wp_hl {α : Type} {x : AH} {f : AH → Option (α × AH)} {Q : α → AH → Prop} (k : Wp (f x) Q) : Wp (hl x f) Q := k
theorem Wp_bnd {α β : Type} {x : Option (α × AH)} {f : α → AH → Option (β × AH)} {P : α → AH → Prop} {Q : β → AH → Prop} (hx : Wp x P) (k : ∀ r h, P r h → Wp (f r h) Q) : Wp (bnd x f) Q := by
  obtain ⟨r, h, e, p⟩ := hx
  rw [e]
  exact k r h p
theorem Wp_imp {α : Type} {x : Option (α × AH)} {P Q : α → AH → Prop} (hx : Wp x P) (k : ∀ r h, P r h → Q r h) : Wp x Q := by
  obtain ⟨r, h, e, p⟩ := hx
  exact ⟨r, h, e, k r h p⟩
theorem Wp_ite {α : Type} {c : Prop} {inst : Decidable c} {a b : Option (α × AH)} {Q : α → AH → Prop} (h1 : c → Wp a Q) (h2 : ¬ c → Wp b Q) : Wp (@ite _ c inst a b) Q := by
  by_cases hc : c
  · rw [if_pos hc]; exact h1 hc
  · rw [if_neg hc]; exact h2 hc
theorem bnd_some {α β : Type} (r : α) (h : AH) (f : α → AH → Option β) : bnd (some (r, h)) f = f r h := rfl
theorem ob_some {α : Type} (a : Nat) (f : Nat → Option α) : ob (some a) f = f a := rfl
theorem oc_some {α : Type} (a : Nat) (g : Option α) (f : Nat → Option α) : oc (some a) g f = f a := rfl
theorem oc_none {α : Type} (g : Option α) (f : Nat → Option α) : oc none g f = g := rfl
theorem hl_eq {α : Type} (x : AH) (f : AH → Option α) : hl x f = f x := rfl
theorem jn_eq {α : Sort _} {β : Type} (k : α) (f : α → Option β) : jn k f = f k := rfl
theorem chk_true {α : Type} {inst : Decidable True} {f : Option α} : @chk α True inst f = f := if_pos trivial
theorem ix_nI {k : Nat} (h : k < 2 ^ 31) : ix (nI k) = k := nI_clamp h
theorem inb_nI {k m : Nat} (h : k < 2 ^ 31) : inb (nI k) m ↔ k < m := by
  unfold inb
  rw [nI_toInt h]
  constructor
  · rintro ⟨_, h2⟩; omega
  · intro h2; exact ⟨by omega, by omega⟩
/-- one induction for every loop with a counter that goes up by one -/
theorem loopU {σ β : Type} (F : Nat → Int32 → σ → Option β) (N : Nat) (Inv : Nat → σ → Prop) (P : Option β → Prop)
    (step : ∀ f k s, k < N → Inv k s → P (F (f + 1) (nI k) s) ∨ ∃ s', Inv (k + 1) s' ∧ F (f + 1) (nI k) s = F f (nI (k + 1)) s')
    (fin : ∀ f s, Inv N s → P (F (f + 1) (nI N) s)) : ∀ r k s fuel, k + r = N → r < fuel → Inv k s → P (F fuel (nI k) s) := by
  intro r
  induction r with
  | zero =>
    intro k s fuel hk hf hI
    obtain ⟨f, rfl⟩ : ∃ f, fuel = f + 1 := ⟨fuel - 1, by omega⟩
    have : k = N := by omega
    subst this
    exact fin f s hI
  | succ r ih =>
    intro k s fuel hk hf hI
    obtain ⟨f, rfl⟩ : ∃ f, fuel = f + 1 := ⟨fuel - 1, by omega⟩
    rcases step f k s (by omega) hI with h | ⟨s', h1, h2⟩
    · exact h
    · rw [h2]; exact ih (k + 1) s' f (by omega) (by omega) h1
