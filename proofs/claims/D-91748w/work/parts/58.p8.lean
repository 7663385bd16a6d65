/-! PURE PART 8: overlays (an int array written over), what they keep -/
set_option maxRecDepth 100000
theorem AH.ext {h h' : AH} (h1 : h.1 = h'.1) (hk : h.kind = h'.kind) (hl : h.len = h'.len) (hI : ∀ b j, h.I b j = h'.I b j) (hL : ∀ b j, h.L b j = h'.L b j) (hR : ∀ b j, h.R b j = h'.R b j) : h = h' := by
  obtain ⟨a, b, c, d, e, f⟩ := h
  obtain ⟨a', b', c', d', e', f'⟩ := h'
  have hd : d = d' := funext fun b => funext fun j => hI b j
  have he : e = e' := funext fun b => funext fun j => hL b j
  have hf : f = f' := funext fun b => funext fun j => hR b j
  have h1' : a = a' := h1
  have hk' : b = b' := hk
  have hl' : c = c' := hl
  rw [hd, he, hf, h1', hk', hl']
def AH.ovI (h : AH) (a N : Nat) (f : Nat → Int32) : AH := (h.1, h.2.1, h.2.2.1, up1 h.2.2.2.1 a (fun j => if j < N then f j else h.2.2.2.1 a j), h.2.2.2.2.1, h.2.2.2.2.2)
theorem AH.fst_ovI (h : AH) (a N : Nat) (f : Nat → Int32) : (h.ovI a N f).1 = h.1 := rfl
theorem AH.n_ovI (h : AH) (a N : Nat) (f : Nat → Int32) : (h.ovI a N f).n = h.n := rfl
theorem AH.sl_ovI (h : AH) (a N : Nat) (f : Nat → Int32) : (h.ovI a N f).sl = h.sl := rfl
theorem AH.kind_ovI (h : AH) (a N : Nat) (f : Nat → Int32) : (h.ovI a N f).kind = h.kind := rfl
theorem AH.len_ovI (h : AH) (a N : Nat) (f : Nat → Int32) : (h.ovI a N f).len = h.len := rfl
theorem AH.L_ovI (h : AH) (a N : Nat) (f : Nat → Int32) : (h.ovI a N f).L = h.L := rfl
theorem AH.R_ovI (h : AH) (a N : Nat) (f : Nat → Int32) : (h.ovI a N f).R = h.R := rfl
theorem I_ov_ne {h : AH} {a N b : Nat} {f : Nat → Int32} (hb : b ≠ a) : (h.ovI a N f).I b = h.I b := if_neg hb
theorem I_ov_a (h : AH) (a N : Nat) (f : Nat → Int32) : (h.ovI a N f).I a = fun j => if j < N then f j else h.I a j := if_pos rfl
theorem I_ov_eq {N j : Nat} (hj : j < N) (h : AH) (a : Nat) (f : Nat → Int32) : (h.ovI a N f).I a j = f j := by rw [I_ov_a]; exact if_pos hj
theorem ov_self (h : AH) (a N : Nat) : h.ovI a N (h.I a) = h := by
  refine AH.ext rfl rfl rfl ?_ (fun _ _ => rfl) (fun _ _ => rfl)
  intro b j
  by_cases c : b = a
  · subst c; rw [I_ov_a]; simp
  · rw [I_ov_ne c]
theorem ov_set {N j : Nat} (hj : j < N) (h : AH) (a : Nat) (f : Nat → Int32) (v : Int32) : (h.ovI a N f).setI a j v = h.ovI a N (up1 f j v) := by
  refine AH.ext rfl rfl rfl ?_ (fun _ _ => rfl) (fun _ _ => rfl)
  intro b k
  rw [AH.I_setI]
  by_cases c : b = a
  · subst c
    rw [I_ov_a, I_ov_a]
    by_cases c2 : k = j
    · subst c2; simp [up1, hj]
    · simp [up1, c2]
  · rw [I_ov_ne c, I_ov_ne c, if_neg (fun z => c z.1)]
theorem ov_congr {h : AH} {a N : Nat} {f g : Nat → Int32} (e : ∀ j, j < N → f j = g j) : h.ovI a N f = h.ovI a N g := by
  refine AH.ext rfl rfl rfl ?_ (fun _ _ => rfl) (fun _ _ => rfl)
  intro b k
  by_cases c : b = a
  · subst c
    rw [I_ov_a, I_ov_a]
    by_cases c2 : k < N
    · simp [c2, e k c2]
    · simp [c2]
  · rw [I_ov_ne c, I_ov_ne c]
theorem ov_ov (h : AH) (a N : Nat) (f g : Nat → Int32) : (h.ovI a N f).ovI a N g = h.ovI a N g := by
  refine AH.ext rfl rfl rfl ?_ (fun _ _ => rfl) (fun _ _ => rfl)
  intro b k
  by_cases c : b = a
  · subst c
    rw [I_ov_a, I_ov_a, I_ov_a]
    by_cases c2 : k < N <;> simp [c2]
  · rw [I_ov_ne c, I_ov_ne c, I_ov_ne c]
theorem set_ov {h : AH} {a b : Nat} (hb : b ≠ a) (N : Nat) (f : Nat → Int32) (j : Nat) (v : Int32) : (h.ovI a N f).setI b j v = (h.setI b j v).ovI a N f := by
  refine AH.ext rfl rfl rfl ?_ (fun _ _ => rfl) (fun _ _ => rfl)
  intro c k
  rw [AH.I_setI]
  by_cases e : c = a
  · subst e
    have hb' : c ≠ b := fun z => hb z.symm
    rw [I_ov_a, I_ov_a, if_neg (fun z => hb' z.1)]
    show (if k < N then f k else h.I c k) = (if k < N then f k else (h.setI b j v).I c k)
    have e2 : (h.setI b j v).I c k = h.I c k := by rw [AH.I_setI]; exact if_neg (fun z => hb' z.1)
    rw [e2]
  · rw [I_ov_ne e, I_ov_ne e, AH.I_setI]
theorem set_set (h : AH) (a j : Nat) (v w : Int32) : (h.setI a j v).setI a j w = h.setI a j w := by
  refine AH.ext rfl rfl rfl ?_ (fun _ _ => rfl) (fun _ _ => rfl)
  intro c k
  rw [AH.I_setI, AH.I_setI, AH.I_setI]
  split <;> simp_all
theorem MSh_ov {m : Nat} {h : AH} (a N : Nat) (f : Nat → Int32) : MSh m (h.ovI a N f) ↔ MSh m h := Iff.rfl
theorem XSh_ov {x : Nat} {h : AH} (a N : Nat) (f : Nat → Int32) : XSh x (h.ovI a N f) ↔ XSh x h := Iff.rfl
/-- only ints are other -/
theorem MA_of {m : Nat} {h h' : AH} {S : St} (M : MA m h S) (hk : h'.kind = h.kind) (hl : h'.len = h.len) (hR : h'.R = h.R) (hI : ∀ b, m < b → b < m + 31 → h'.I b = h.I b) : MA m h' S := by
  obtain ⟨H, HV, HP, HB⟩ := M
  refine ⟨?_, ?_, ?_, ?_⟩
  · unfold MSh; rw [hk, hl, hR]; exact H
  · unfold MV; rw [hI (m + 26) (by omega) (by omega), hI (m + 3) (by omega) (by omega), hI (m + 6) (by omega) (by omega), hI (m + 9) (by omega) (by omega), hI (m + 12) (by omega) (by omega), hI (m + 15) (by omega) (by omega), hI (m + 18) (by omega) (by omega)]; exact HV
  · unfold MP; rw [hI (m + 27) (by omega) (by omega), hI (m + 21) (by omega) (by omega), hI (m + 24) (by omega) (by omega)]; exact HP
  · unfold MB; rw [hI (m + 28) (by omega) (by omega), hI (m + 29) (by omega) (by omega), hI (m + 30) (by omega) (by omega)]; exact HB
theorem Ls_of {K : Nat → Nat} {h h' : AH} {l e c : Nat} {E : Nat → Nat} (H : Ls K h l e c E) (hk : h'.kind = h.kind) (hl : h'.len = h.len) (hR : h'.R = h.R) (hI : h'.I l 2 = h.I l 2) : Ls K h' l e c E := by
  unfold Ls; rw [hk, hl, hR, hI]; exact H
theorem XA_of {K : Nat → Nat} {x : Nat} {h h' : AH} {ev ep b : Nat} {Ev Ep : Nat → Nat} {S : St} (X : XA K x h ev Ev ep Ep b S) (hk : h'.kind = h.kind) (hl : h'.len = h.len) (hR : h'.R = h.R) (hI : ∀ c, 3 ≤ h.kind c → h.kind c ≤ 11 → h.kind c ≠ 5 → h'.I c = h.I c) (hx : h'.I x 7 = h.I x 7) : XA K x h' ev Ev ep Ep b S := by
  obtain ⟨H, HV, HP, HB⟩ := X
  have k5 := HV.1.1
  have k6 := HP.1.1
  refine ⟨?_, ⟨?_, HV.2.1, ?_⟩, ⟨?_, HP.2.1, ?_⟩, ?_⟩
  · unfold XSh; rw [hk, hl, hR]; exact H
  · exact Ls_of HV.1 hk hl hR (by rw [hI _ (by omega) (by omega) (by omega)])
  · intro v hv
    have := HV.2.2 v hv
    rw [hk, hI _ (by omega) (by omega) (by omega)]; exact this
  · exact Ls_of HP.1 hk hl hR (by rw [hI _ (by omega) (by omega) (by omega)])
  · intro p hp
    have := HP.2.2 p hp
    rw [hk, hI _ (by omega) (by omega) (by omega)]; exact this
  · obtain ⟨b1, b2, b3, b4, b5, b6⟩ := HB
    unfold XB
    rw [hk, hR, hx, hI b (by omega) (by omega) (by omega)]
    exact ⟨b1, b2, b3, b4, b5, b6⟩
theorem XA_ov {K : Nat → Nat} {x : Nat} {h : AH} {ev ep b : Nat} {Ev Ep : Nat → Nat} {S : St} (X : XA K x h ev Ev ep Ep b S) {a : Nat} (ha : 12 ≤ h.kind a) (N : Nat) (f : Nat → Int32) : XA K x (h.ovI a N f) ev Ev ep Ep b S := by
  refine XA_of X rfl rfl rfl ?_ ?_
  · intro c _ h2 _
    refine I_ov_ne ?_
    intro e; subst e; omega
  · have hx : x ≠ a := by
      intro e; subst e
      have := xs_k0 X.1
      omega
    rw [I_ov_ne hx]
theorem MA_ov {m : Nat} {h : AH} {S : St} (M : MA m h S) {a : Nat} (ha : a ≤ m ∨ m + 31 ≤ a) (N : Nat) (f : Nat → Int32) : MA m (h.ovI a N f) S :=
  MA_of M rfl rfl rfl (fun b h1 h2 => I_ov_ne (by omega))
theorem XA_setx {K : Nat → Nat} {x : Nat} {h : AH} {ev ep b : Nat} {Ev Ep : Nat → Nat} {S : St} (X : XA K x h ev Ev ep Ep b S) {j : Nat} (hj : j ≠ 7) (v : Int32) : XA K x (h.setI x j v) ev Ev ep Ep b S := by
  refine XA_of X rfl rfl rfl ?_ ?_
  · intro c h1 _ _
    funext k
    rw [AH.I_setI, if_neg]
    intro e
    have := xs_k0 X.1
    rw [e.1] at h1; omega
  · rw [AH.I_setI, if_neg (fun e => hj e.2.symm)]
theorem MA_setm {m : Nat} {h : AH} {S : St} (M : MA m h S) (j : Nat) (v : Int32) : MA m (h.setI m j v) S :=
  MA_of M rfl rfl rfl (fun b h1 h2 => by funext k; rw [AH.I_setI, if_neg (by omega)])
/-! more loops -/
theorem loopG2_aux {β : Type} (F : Nat → Int32 → Option β) (N : Nat) (p : Nat → Bool) (A : Nat → Option β) (B : Option β)
    (step : ∀ f k, 0 < f → k < N → F (f + 1) (nI k) = if p k then A k else F f (nI (k + 1))) (fin : ∀ f, F (f + 1) (nI N) = B) : ∀ r k fuel, k + r = N → r + 1 < fuel → F fuel (nI k) = selS (findS p r k) A B := by
  intro r
  induction r with
  | zero =>
    intro k fuel hk hf
    obtain ⟨f, rfl⟩ : ∃ f, fuel = f + 1 := ⟨fuel - 1, by omega⟩
    have : k = N := by omega
    subst this
    exact fin f
  | succ r ih =>
    intro k fuel hk hf
    obtain ⟨f, rfl⟩ : ∃ f, fuel = f + 1 := ⟨fuel - 1, by omega⟩
    rw [step f k (by omega) (by omega), findS]
    by_cases c : p k = true
    · rw [if_pos c, if_pos c]; rfl
    · rw [if_neg c, if_neg c]; exact ih (k + 1) f (by omega) (by omega)
theorem loopG2 {β : Type} (F : Nat → Int32 → Option β) (N : Nat) (p : Nat → Bool) (A : Nat → Option β) (B : Option β)
    (step : ∀ f k, 0 < f → k < N → F (f + 1) (nI k) = if p k then A k else F f (nI (k + 1))) (fin : ∀ f, F (f + 1) (nI N) = B) (fuel : Nat) (hf : N + 1 < fuel) : F fuel 0 = selS (findS p N 0) A B :=
  loopG2_aux F N p A B step fin N 0 fuel (by omega) hf
/-- a search that is known to end -/
theorem loopE {β : Type} (F : Nat → Int32 → Option β) (p : Nat → Bool) (A : Nat → Option β) (j : Nat) (hj : p j = true) (hb : ∀ i, i < j → p i = false)
    (step : ∀ f k, k ≤ j → F (f + 1) (nI k) = if p k then A k else F f (nI (k + 1))) : ∀ r k fuel, k + r = j → r < fuel → F fuel (nI k) = A j := by
  intro r
  induction r with
  | zero =>
    intro k fuel hk hf
    obtain ⟨f, rfl⟩ : ∃ f, fuel = f + 1 := ⟨fuel - 1, by omega⟩
    have : k = j := by omega
    subst this
    rw [step f k (Nat.le_refl _), if_pos hj]
  | succ r ih =>
    intro k fuel hk hf
    obtain ⟨f, rfl⟩ : ∃ f, fuel = f + 1 := ⟨fuel - 1, by omega⟩
    rw [step f k (by omega), hb k (by omega), if_neg (by decide)]
    exact ih (k + 1) f (by omega) (by omega)
def anyS (p : Nat → Bool) : Nat → Bool
  | 0 => false
  | k + 1 => anyS p k || p k
theorem anyS_iff {p : Nat → Bool} : ∀ {N : Nat}, anyS p N = true ↔ ∃ i, i < N ∧ p i = true := by
  intro N
  induction N with
  | zero => simp [anyS]
  | succ N ih =>
    rw [anyS, Bool.or_eq_true, ih]
    constructor
    · rintro (⟨i, h1, h2⟩ | h)
      · exact ⟨i, by omega, h2⟩
      · exact ⟨N, by omega, h⟩
    · rintro ⟨i, h1, h2⟩
      rcases Nat.lt_or_ge i N with h3 | h3
      · exact Or.inl ⟨i, h3, h2⟩
      · have : i = N := by omega
        subst this; exact Or.inr h2
theorem findS_any {p : Nat → Bool} {N : Nat} : (findS p N 0).isSome = anyS p N := by
  cases hf : findS p N 0 with
  | none =>
    have := findS_none hf
    cases ha : anyS p N
    · rfl
    · obtain ⟨i, h1, h2⟩ := anyS_iff.1 ha
      rw [this i (by omega) (by omega)] at h2; cases h2
  | some j =>
    obtain ⟨_, h2, h3, _⟩ := findS_some hf
    rw [anyS_iff.2 ⟨j, by omega, h3⟩]; rfl
theorem fold_any {σ : Type} {p : Nat → Bool} {c s : σ} : ∀ {N : Nat}, foldS (fun i a => if p i then c else a) s N = if anyS p N then c else s := by
  intro N
  induction N with
  | zero => rfl
  | succ N ih =>
    rw [foldS, ih, anyS]
    cases p N <;> cases anyS p N <;> simp
theorem fold_up {α : Type} {g : Nat → α} {s : Nat → α} : ∀ {N j : Nat}, foldS (fun j st => up1 st j (g j)) s N j = if j < N then g j else s j := by
  intro N
  induction N with
  | zero => intro j; rfl
  | succ N ih =>
    intro j
    rw [foldS]
    by_cases c : j = N
    · subst c; rw [if_pos (Nat.lt_succ_self j)]; exact if_pos rfl
    · refine (if_neg c).trans ?_
      rw [ih]
      by_cases c2 : j < N
      · rw [if_pos c2, if_pos (by omega)]
      · rw [if_neg c2, if_neg (by omega)]
