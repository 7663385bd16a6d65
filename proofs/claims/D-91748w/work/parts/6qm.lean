/-! PURE PART QM: what lines, middles, proofs and rounds are; the invariant -/
set_option maxRecDepth 100000
abbrev T3 : Type := Int × Int × Int
abbrev TL : Type := Nat × (Nat → T3)
def vX (S : St) (v : Nat) : Int := (S.V v 0).toInt
def vY (S : St) (v : Nat) : Int := (S.V v 1).toInt
def sgL (p q : Int) : Int := if p < 0 ∨ (p = 0 ∧ q < 0) then -(Int.gcd p q : Int) else (Int.gcd p q : Int)
def mkLine (x1 y1 x2 y2 : Int) : T3 := ((y2 - y1).tdiv (sgL (y2 - y1) (x1 - x2)), (x1 - x2).tdiv (sgL (y2 - y1) (x1 - x2)), (y2 - y1).tdiv (sgL (y2 - y1) (x1 - x2)) * x1 + (x1 - x2).tdiv (sgL (y2 - y1) (x1 - x2)) * y1)
def aheadL (s t : T3) : Bool := if s.1 = 0 ∨ t.1 = 0 then (!decide (s.1 = 0) || (decide (t.1 = 0) && decide (s.2.2 < t.2.2))) else if s.2.1 * t.1 - t.2.1 * s.1 = 0 then decide (s.2.2 < t.2.2) else decide (s.2.1 * t.1 - t.2.1 * s.1 < 0)
def insF {α : Type} (k : Nat) (t : α) (F : Nat → α) : Nat → α := fun i => if i < k then F i else if i = k then t else F (i - 1)
def posS (ah : T3 → T3 → Bool) (t : T3) (l : TL) : Nat := (findS (fun k => !ah (l.2 k) t) l.1 0).getD l.1
def memS (t : T3) (l : TL) : Bool := anyS (fun k => decide (l.2 k = t)) l.1
def putS (ah : T3 → T3 → Bool) (t : T3) (l : TL) : TL := if memS t l = true then l else (l.1 + 1, insF (posS ah t l) t l.2)
/-- weights on a side: w = false below, w = true above -/
def sideW (S : St) (t : T3) (w : Bool) : Nat → Int32
  | 0 => 0
  | k + 1 => sideW S t w k + if (if w then decide (t.2.2 < t.1 * vX S k + t.2.1 * vY S k) else decide (t.1 * vX S k + t.2.1 * vY S k < t.2.2)) = true then S.V k 2 else 0
def halvS (S : St) (t : T3) : Bool := !decide (totS S.V S.nv < 2 * sideW S t false S.nv) && !decide (totS S.V S.nv < 2 * sideW S t true S.nv)
def lnT (S : St) (i j : Nat) : T3 := mkLine (vX S i) (vY S i) (vX S j) (vY S j)
def lnStep (S : St) (i j : Nat) (l : TL) : TL := if S.V i 0 = S.V j 0 ∧ S.V i 1 = S.V j 1 then l else if halvS S (lnT S i j) = true then putS aheadL (lnT S i j) l else l
def linesS (S : St) : TL := foldS (fun i l => foldS (lnStep S i) l i) (0, fun _ => (0, 0, 0)) S.nv
def sgM (x y n : Int) : Int := if n < 0 then -(Int.gcd (Int.gcd x y) n : Int) else (Int.gcd (Int.gcd x y) n : Int)
def mkSpot (x y n : Int) : T3 := (x.tdiv (sgM x y n), y.tdiv (sgM x y n), n.tdiv (sgM x y n))
def aheadM (s t : T3) : Bool := if s.1 * t.2.2 - t.1 * s.2.2 = 0 then decide (s.2.1 * t.2.2 < t.2.1 * s.2.2) else decide (s.1 * t.2.2 - t.1 * s.2.2 < 0)
/-- a spot's weights by voter k's direction: 0 left of it 1 right of it 2 behind 3 ahead -/
def arW (S : St) (t : T3) (k : Nat) (w : Nat) : Nat → Int32
  | 0 => 0
  | u + 1 => arW S t k w u + if (
      let ux := vX S k * t.2.2 - t.1
      let uy := vY S k * t.2.2 - t.2.1
      let ex := vX S u * t.2.2 - t.1
      let ey := vY S u * t.2.2 - t.2.1
      let side := ux * ey - uy * ex
      let ray := ux * ex + uy * ey
      if w = 0 then decide (side < 0) else if w = 1 then decide (0 < side) else if w = 2 then (decide (side = 0) && decide (ray < 0)) else (decide (side = 0) && decide (0 < ray))) = true then S.V u 2 else 0
def midP (S : St) (t : T3) (k : Nat) : Bool := !(decide (vX S k * t.2.2 - t.1 = 0) && decide (vY S k * t.2.2 - t.2.1 = 0)) && decide (totS S.V S.nv < 2 * (maxS (arW S t k 0 S.nv) (arW S t k 1 S.nv) + maxS (arW S t k 2 S.nv) (arW S t k 3 S.nv)))
def midS (S : St) (t : T3) : Bool := !anyS (midP S t) S.nv
def comeS (S : St) (t : T3) (l : TL) : TL := if midS S t = true then putS aheadM t l else l
def crN (s t : T3) : Int := s.1 * t.2.1 - t.1 * s.2.1
def crT (s t : T3) : T3 := mkSpot (s.2.2 * t.2.1 - t.2.2 * s.2.1) (s.1 * t.2.2 - t.1 * s.2.2) (crN s t)
def middlesS (S : St) : TL := foldS (fun i l => foldS (fun j l => if crN ((linesS S).2 i) ((linesS S).2 j) = 0 then l else comeS S (crT ((linesS S).2 i) ((linesS S).2 j)) l) l i) (foldS (fun v l => comeS S (mkSpot (vX S v) (vY S v) 1) l) (0, fun _ => (0, 0, 0)) S.nv) (linesS S).1
/-- three lines that do not meet -/
def noMeet (s t u : T3) : Bool := decide (crN s t = 0) || !decide (u.1 * (s.2.2 * t.2.1 - t.2.2 * s.2.1) + u.2.1 * (s.1 * t.2.2 - t.1 * s.2.2) = u.2.2 * crN s t)
def prK (S : St) (i j : Nat) : Option Nat := findS (fun k => noMeet ((linesS S).2 i) ((linesS S).2 j) ((linesS S).2 k)) ((linesS S).1 - (j + 1)) (j + 1)
def prJ (S : St) (i : Nat) : Option Nat := findS (fun j => (prK S i j).isSome) ((linesS S).1 - (i + 1)) (i + 1)
def prI (S : St) : Option Nat := findS (fun i => (prJ S i).isSome) (linesS S).1 0
/-- the proof's number w: none if there are middles or no three such lines -/
def prS (S : St) (w : Nat) : Int32 := if (middlesS S).1 = 0 then selS (prI S) (fun i => selS (prJ S i) (fun j => selS (prK S i j) (fun k => if w = 0 then nI i else if w = 1 then nI j else nI k) (-1)) (-1)) (-1) else -1
def l64 (S : St) (k : Nat) : Int64 × Int64 × Int64 := (Int64.ofInt ((linesS S).2 k).1, Int64.ofInt ((linesS S).2 k).2.1, Int64.ofInt ((linesS S).2 k).2.2)
def farG (S : St) (x y : Int64) (k : Nat) (s : Int64 × Int64) : Int64 × Int64 :=
  let d := (l64 S k).1 * x + (l64 S k).2.1 * y - (l64 S k).2.2
  let q := (l64 S k).1 * (l64 S k).1 + (l64 S k).2.1 * (l64 S k).2.1
  if d * d * s.2 ≤ s.1 * q then s else (d * d, q)
def farS (S : St) (p : Nat) : Int64 × Int64 := foldS (farG S (Int64.ofInt ((p / 100 : Nat) : Int)) (Int64.ofInt ((p % 100 : Nat) : Int))) (0, 1) (linesS S).1
def rdG (S : St) (p : Nat) (s : Nat × Int64 × Int64) : Nat × Int64 × Int64 := if s.2.1 * (farS S (p + 1)).2 ≤ (farS S (p + 1)).1 * s.2.2 then s else (p + 1, farS S (p + 1))
def rdS (S : St) : Nat × Int64 × Int64 := foldS (rdG S) (0, farS S 0) 9999
def gcdL (a b : Int64) : Int64 := Int64.ofInt (Int.gcd a.toInt b.toInt : Int)
/-! the invariant -/
/-- state, text (count, bytes), moves (count, numbers) -/
abbrev Zt : Type := St × (Nat × (Nat → Int32)) × (Nat × (Nat → Nat → Int32))
def Zt.S (Z : Zt) : St := Z.1
def Zt.tm (Z : Zt) : Nat := Z.2.1.1
def Zt.T (Z : Zt) : Nat → Int32 := Z.2.1.2
def Zt.nm (Z : Zt) : Nat := Z.2.2.1
def Zt.Mo (Z : Zt) : Nat → Nat → Int32 := Z.2.2.2
def Bz (Z : Zt) : Prop := Bd Z.S ∧ Z.tm ≤ 600 ∧ Z.nm ≤ 40 ∧ ∀ k, k < Z.nm → ∃ v a b, v < Z.S.nv ∧ a < 100 ∧ b < 100 ∧ Z.Mo k 0 = nI v ∧ Z.Mo k 1 = nI a ∧ Z.Mo k 2 = nI b
/-- the sheet's moves -/
def XMo (h : AH) (c : Nat) (E : Nat → Nat) (Mo : Nat → Nat → Int32) : Prop := ∀ k, k < c → h.kind (E k) = 14 ∧ h.I (E k) 0 = Mo k 0 ∧ h.I (E k) 1 = Mo k 1 ∧ h.I (E k) 2 = Mo k 2 ∧ h.I (E k) 3 = Mo k 3 ∧ h.I (E k) 4 = Mo k 4 ∧ h.I (E k) 5 = Mo k 5 ∧ h.I (E k) 7 = Mo k 6 ∧ h.I (E k) 6 = Mo k 7 ∧ h.I (E k) 8 = Mo k 8
def XTx (x : Nat) (h : AH) (tm : Nat) (T : Nat → Int32) : Prop := h.I x 6 = nI tm ∧ ∀ j, j < tm → h.I (x + 1) j = T j
/-- three longs of list elements -/
def X3L (h : AH) (kd c : Nat) (E : Nat → Nat) (F : Nat → T3) : Prop := ∀ k, k < c → h.kind (E k) = kd ∧ h.L (E k) 0 = Int64.ofInt (F k).1 ∧ h.L (E k) 1 = Int64.ofInt (F k).2.1 ∧ h.L (E k) 2 = Int64.ofInt (F k).2.2
def XCl (x : Nat) (h : AH) (c : Nat → Nat) (E : Nat → Nat → Nat) (S : St) : Prop := h.I x 11 = 0 ∨ (h.I x 11 = 1 ∧ c 5 = (linesS S).1 ∧ X3L h 12 (c 5) (E 5) (linesS S).2)
def XCm (x : Nat) (h : AH) (c : Nat → Nat) (E : Nat → Nat → Nat) (S : St) : Prop := h.I x 12 = 0 ∨ (h.I x 12 = 1 ∧ h.I x 11 = 1 ∧ c 6 = (middlesS S).1 ∧ X3L h 13 (c 6) (E 6) (middlesS S).2 ∧ h.I (x + 11) 0 = prS S 0 ∧ (prS S 0 ≠ -1 → h.I (x + 11) 1 = prS S 1 ∧ h.I (x + 11) 2 = prS S 2))
def XCr (x : Nat) (h : AH) (S : St) : Prop := h.I x 13 = 0 ∨ (h.I x 13 = 1 ∧ h.I x 14 = nI ((rdS S).1 / 100) ∧ h.I x 15 = nI ((rdS S).1 % 100) ∧ h.L x 16 = (rdS S).2.1 / gcdL (rdS S).2.1 (rdS S).2.2 ∧ h.L x 17 = (rdS S).2.2 / gcdL (rdS S).2.1 (rdS S).2.2)
def XIn (K : Nat → Nat) (x : Nat) (h : AH) (e c : Nat → Nat) (E : Nat → Nat → Nat) (b : Nat) (Z : Zt) : Prop :=
  Wf h ∧ MSh (x + 29) h ∧ LL K h x e c E ∧ (∀ i, i < 7 → c i ≤ 6000) ∧ XA K x h (e 2) (E 2) (e 3) (E 3) b Z.S ∧ c 2 = Z.S.nv ∧ c 3 = Z.S.np ∧ c 4 = Z.nm ∧ (∀ v w, v < Z.S.nv → w < Z.S.nv → E 2 v = E 2 w → v = w) ∧ XMo h Z.nm (E 4) Z.Mo ∧ XTx x h Z.tm Z.T ∧ XCl x h c E Z.S ∧ XCm x h c E Z.S ∧ XCr x h Z.S
def InvX (K : Nat → Nat) (x : Nat) (h : AH) (Z : Zt) : Prop := ∃ e c E b, XIn K x h e c E b Z
def MMo (m : Nat) (h : AH) (nm : Nat) (Mo : Nat → Nat → Int32) : Prop := h.I m 48 = nI nm ∧ ∀ k, k < nm → ∀ j, j < 9 → h.I (m + 54 + k) j = Mo k j
def MTx (m : Nat) (h : AH) (tm : Nat) (T : Nat → Int32) : Prop := h.I m 1 = nI tm ∧ ∀ j, j < tm → h.I (m + 1) j = T j
def M3I (m : Nat) (h : AH) (l : TL) : Prop := h.I m 27 = nI l.1 ∧ ∀ k, k < l.1 → h.I (m + 32) k = Int32.ofInt (l.2 k).1 ∧ h.I (m + 33) k = Int32.ofInt (l.2 k).2.1 ∧ h.I (m + 34) k = Int32.ofInt (l.2 k).2.2
def M3L (m : Nat) (h : AH) (l : TL) : Prop := h.I m 28 = nI l.1 ∧ ∀ k, k < l.1 → h.L (m + 35) k = Int64.ofInt (l.2 k).1 ∧ h.L (m + 36) k = Int64.ofInt (l.2 k).2.1 ∧ h.L (m + 37) k = Int64.ofInt (l.2 k).2.2
def MCa (m : Nat) (h : AH) (S : St) : Prop := h.I m 29 = 0 ∨ (h.I m 29 = 1 ∧ M3I m h (linesS S) ∧ M3L m h (middlesS S))
def InvM (m : Nat) (h : AH) (Z : Zt) : Prop := MA m h Z.S ∧ MMo m h Z.nm Z.Mo ∧ MTx m h Z.tm Z.T ∧ MCa m h Z.S
/-! frames of the invariant -/
/-- the sheet's scratch; the model's cells (no reference's place) -/
def ScX (x a j : Nat) : Prop := ((x + 12 ≤ a ∧ a ≤ x + 28) ∨ (a = x ∧ (j = 23 ∨ j = 24))) ∧ ∀ p, p ∈ xRs → ¬ (a = x + p.1 ∧ j = p.2.1)
def RgM (m a : Nat) : Prop := m ≤ a ∧ a < m + 94
def RgW (m a j : Nat) : Prop := RgM m a ∧ ∀ p, p ∈ mRs → ¬ (a = m + p.1 ∧ j = p.2.1)
/-- the model's scratch -/
def ScM (m a j : Nat) : Prop := ((m + 38 ≤ a ∧ a ≤ m + 52) ∨ (a = m ∧ (j = 33 ∨ j = 34 ∨ j = 37 ∨ j = 38 ∨ j = 44 ∨ j = 45 ∨ j = 46))) ∧ ∀ p, p ∈ mRs → ¬ (a = m + p.1 ∧ j = p.2.1)
theorem mKs_kind {m : Nat} {h : AH} (H : MSh m h) {a : Nat} (ha : RgM m a) : h.kind a = 5 ∨ (31 ≤ h.kind a ∧ h.kind a ≤ 37 ∧ h.kind a ≠ 34) := by
  have h1 : ∀ i, i < 94 → mKs.getD i 0 = 5 ∨ (31 ≤ mKs.getD i 0 ∧ mKs.getD i 0 ≤ 37 ∧ mKs.getD i 0 ≠ 34) := by decide
  have h2 := H.1 (a - m) (by have := ha.1; have := ha.2; omega)
  rw [show m + (a - m) = a by have := ha.1; omega] at h2
  rw [h2]
  exact h1 (a - m) (by have := ha.1; have := ha.2; omega)
theorem xKs_kind {x : Nat} {h : AH} (H : XSh x h) {a : Nat} (h1 : x + 12 ≤ a) (h2 : a ≤ x + 28) : h.kind a = 32 ∨ h.kind a = 33 ∨ h.kind a = 35 := by
  have g1 : ∀ i, i < 29 → 12 ≤ i → xKs.getD i 0 = 32 ∨ xKs.getD i 0 = 33 ∨ xKs.getD i 0 = 35 := by decide
  have g2 := H.1 (a - x) (by omega)
  rw [show x + (a - x) = a by omega] at g2
  rw [g2]
  exact g1 (a - x) (by omega) (by omega)
theorem MSh_fr {m : Nat} {h h' : AH} {c s : Nat} {W : Nat → Nat → Prop} (H : MSh m h) (F : Fr c s W h h') (hW : ∀ p, p ∈ mRs → ¬ W (m + p.1) p.2.1) : MSh m h' := by
  have nz : ∀ a, a < 94 → h.kind (m + a) ≠ 0 := by
    intro a ha
    have := mKs_kind H (a := m + a) ⟨by omega, by omega⟩
    omega
  refine ⟨fun a ha => ?_, fun a ha => ?_, fun p hp => ?_⟩
  · rw [(F.2.2.2.2.2 _ (nz a ha)).1]; exact H.1 a ha
  · rw [(F.2.2.2.2.2 _ (nz a ha)).2.1]; exact H.2.1 a ha
  · have h1 : ∀ p, p ∈ mRs → p.1 < 94 := by decide
    rw [((F.2.2.2.2.2 _ (nz p.1 (h1 p hp))).2.2 _ (hW p hp)).2.2]; exact H.2.2 p hp
theorem XSh_fr {x : Nat} {h h' : AH} {c s : Nat} {W : Nat → Nat → Prop} (H : XSh x h) (F : Fr c s W h h') (hW : ∀ p, p ∈ xRs → ¬ W (x + p.1) p.2.1) : XSh x h' := by
  have nz : ∀ a, a < 29 → h.kind (x + a) ≠ 0 := by
    intro a ha
    have h1 : ∀ i, i < 29 → xKs.getD i 0 ≠ 0 := by decide
    rw [H.1 a ha]; exact h1 a ha
  refine ⟨fun a ha => ?_, fun a ha => ?_, fun p hp => ?_⟩
  · rw [(F.2.2.2.2.2 _ (nz a ha)).1]; exact H.1 a ha
  · rw [(F.2.2.2.2.2 _ (nz a ha)).2.1]; exact H.2.1 a ha
  · have h1 : ∀ p, p ∈ xRs → p.1 < 29 := by decide
    rw [((F.2.2.2.2.2 _ (nz p.1 (h1 p hp))).2.2 _ (hW p hp)).2.2]; exact H.2.2 p hp
theorem safeX {x : Nat} {h : AH} {W : Nat → Nat → Prop} (XS : XSh x h) (MS : MSh (x + 29) h) (hW : ∀ a j, h.kind a ≠ 0 → W a j → ScX x a j ∨ RgW (x + 29) a j) {a : Nat} (ha : (2 ≤ h.kind a ∧ h.kind a ≤ 14 ∧ h.kind a ≠ 5) ∨ h.kind a = 34 ∨ h.kind a = 44) (j : Nat) : ¬ W a j := by
  intro w
  rcases hW a j (by omega) w with ⟨(⟨h1, h2⟩ | ⟨h1, _⟩), _⟩ | ⟨h1, _⟩
  · have := xKs_kind XS h1 h2; omega
  · have := xs_k0 XS; rw [← h1] at this; omega
  · have := mKs_kind MS h1; omega
theorem safeF {x : Nat} {h : AH} {W : Nat → Nat → Prop} (XS : XSh x h) (hW : ∀ a j, h.kind a ≠ 0 → W a j → ScX x a j ∨ RgW (x + 29) a j) {i : Nat} (hi : i ≤ 11) (j : Nat) (hj : i = 0 → j ≠ 23 ∧ j ≠ 24) : ¬ W (x + i) j := by
  intro w
  have h1 : ∀ i, i < 29 → xKs.getD i 0 ≠ 0 := by decide
  rcases hW (x + i) j (by rw [XS.1 i (by omega)]; exact h1 i (by omega)) w with ⟨(⟨h1, h2⟩ | ⟨h1, h2⟩), _⟩ | ⟨h1, _⟩
  · omega
  · have := hj (by omega); omega
  · unfold RgM at h1; omega
theorem XA_fr {K : Nat → Nat} {x : Nat} {h h' : AH} {ev ep b : Nat} {Ev Ep : Nat → Nat} {S : St} {cc ss : Nat} {W : Nat → Nat → Prop} (X : XA K x h ev Ev ep Ep b S) (F : Fr cc ss W h h') (MS : MSh (x + 29) h) (hW : ∀ a j, h.kind a ≠ 0 → W a j → ScX x a j ∨ RgW (x + 29) a j) : XA K x h' ev Ev ep Ep b S := by
  obtain ⟨H, HV, HP, HB⟩ := X
  have k0 := xs_k0 H
  have rd : ∀ a, (2 ≤ h.kind a ∧ h.kind a ≤ 14 ∧ h.kind a ≠ 5) ∨ h.kind a = 34 ∨ h.kind a = 44 → h'.kind a = h.kind a ∧ ∀ j, h'.I a j = h.I a j := by
    intro a ha
    obtain ⟨f1, f2, f3⟩ := F.2.2.2.2.2 a (by omega)
    exact ⟨f1, fun j => (f3 j (safeX H MS hW ha j)).1⟩
  have k5 := HV.1.1
  have k6 := HP.1.1
  refine ⟨?_, ⟨?_, HV.2.1, ?_⟩, ⟨?_, HP.2.1, ?_⟩, ?_⟩
  · refine XSh_fr H F (fun p hp w => ?_)
    have nz : h.kind (x + p.1) ≠ 0 := by
      have h1 : ∀ p, p ∈ xRs → p.1 < 29 ∧ xKs.getD p.1 0 ≠ 0 := by decide
      rw [H.1 p.1 (h1 p hp).1]; exact (h1 p hp).2
    rcases hW _ _ nz w with z | z
    · exact z.2 p hp ⟨rfl, rfl⟩
    · have h1 : ∀ p, p ∈ xRs → p.1 < 29 := by decide
      have := h1 p hp
      have := z.1.1
      omega
  · exact Ls_fr HV.1 F (fun j _ => safeX H MS hW (by omega) j) (fun j _ => safeX H MS hW (by have := (Ls_kinds HV.1).2; omega) j)
  · intro v hv
    have g := HV.2.2 v hv
    obtain ⟨r1, r2⟩ := rd (Ev v) (by omega)
    rw [r1]
    simp only [r2]
    exact g
  · exact Ls_fr HP.1 F (fun j _ => safeX H MS hW (by omega) j) (fun j _ => safeX H MS hW (by have := (Ls_kinds HP.1).2; omega) j)
  · intro p hp
    have g := HP.2.2 p hp
    obtain ⟨r1, r2⟩ := rd (Ep p) (by omega)
    rw [r1]
    simp only [r2]
    exact g
  · obtain ⟨b1, b2, b3, b4, b5, b6⟩ := HB
    obtain ⟨r1, r2⟩ := rd b (by omega)
    obtain ⟨f1, f2, f3⟩ := F.2.2.2.2.2 x (by omega)
    refine ⟨?_, by rw [r1]; exact b2, by rw [r2]; exact b3, by rw [r2]; exact b4, by rw [r2]; exact b5, ?_⟩
    · rw [(f3 5 (safeF H hW (i := 0) (by omega) 5 (fun _ => by omega))).2.2]; exact b1
    · rw [(f3 7 (safeF H hW (i := 0) (by omega) 7 (fun _ => by omega))).1]; exact b6
theorem XIn_fr {K : Nat → Nat} {x : Nat} {h h' : AH} {e c : Nat → Nat} {E : Nat → Nat → Nat} {b : Nat} {Z : Zt} {cc ss : Nat} {W : Nat → Nat → Prop} (I : XIn K x h e c E b Z) (F : Fr cc ss W h h') (hW : ∀ a j, h.kind a ≠ 0 → W a j → ScX x a j ∨ RgW (x + 29) a j) : XIn K x h' e c E b Z := by
  obtain ⟨i1, MS, i3, i4, i5, i6, i7, i8, i9, i10, i11, i12, i13, i14⟩ := I
  have H := i5.1
  have k0 := xs_k0 H
  have rd : ∀ a, (2 ≤ h.kind a ∧ h.kind a ≤ 14 ∧ h.kind a ≠ 5) ∨ h.kind a = 34 ∨ h.kind a = 44 → h'.kind a = h.kind a ∧ (∀ j, h'.I a j = h.I a j) ∧ ∀ j, h'.L a j = h.L a j := by
    intro a ha
    obtain ⟨f1, f2, f3⟩ := F.2.2.2.2.2 a (by omega)
    exact ⟨f1, fun j => (f3 j (safeX H MS hW ha j)).1, fun j => (f3 j (safeX H MS hW ha j)).2.1⟩
  obtain ⟨f1, f2, f3⟩ := F.2.2.2.2.2 x (by omega)
  have fx : ∀ j, j ≠ 23 → j ≠ 24 → h'.I x j = h.I x j ∧ h'.L x j = h.L x j := fun j j1 j2 => ⟨(f3 j (safeF H hW (i := 0) (by omega) j (fun _ => ⟨j1, j2⟩))).1, (f3 j (safeF H hW (i := 0) (by omega) j (fun _ => ⟨j1, j2⟩))).2.1⟩
  have fi : ∀ i, 0 < i → i ≤ 11 → ∀ j, h'.I (x + i) j = h.I (x + i) j := by
    intro i i0 i1 j
    have h1 : ∀ i, i < 29 → xKs.getD i 0 ≠ 0 := by decide
    obtain ⟨_, _, g3⟩ := F.2.2.2.2.2 (x + i) (by rw [H.1 i (by omega)]; exact h1 i (by omega))
    exact (g3 j (safeF H hW (i := i) i1 j (fun z => by omega))).1
  have rd3 : ∀ {kd c : Nat} {E : Nat → Nat} {G : Nat → T3}, (kd = 12 ∨ kd = 13) → X3L h kd c E G → X3L h' kd c E G := by
    intro kd c E G hkd g k hk
    obtain ⟨g1, g2, g3, g4⟩ := g k hk
    obtain ⟨r1, r2, r3⟩ := rd (E k) (by omega)
    exact ⟨by rw [r1]; exact g1, by rw [r3]; exact g2, by rw [r3]; exact g3, by rw [r3]; exact g4⟩
  refine ⟨F.1 i1, ?_, ?_, i4, XA_fr i5 F MS hW, i6, i7, i8, i9, ?_, ?_, ?_, ?_, ?_⟩
  · refine MSh_fr MS F (fun p hp w => ?_)
    have h1 : ∀ p, p ∈ mRs → p.1 < 94 := by decide
    have hp1 := h1 p hp
    have nz : h.kind (x + 29 + p.1) ≠ 0 := by
      have := mKs_kind MS (a := x + 29 + p.1) ⟨by omega, by omega⟩
      omega
    rcases hW _ _ nz w with ⟨(⟨_, z⟩ | ⟨z, _⟩), _⟩ | z
    · omega
    · omega
    · exact z.2 p hp ⟨rfl, rfl⟩
  · refine LL_fr i3 F (fun i j hi _ => safeX H MS hW (by have := (i3.1 i hi).1.1; omega) j) (fun i j hi _ => safeX H MS hW (by have := (Ls_kinds (i3.1 i hi).1).2; omega) j)
  · intro k hk
    have g := i10 k hk
    obtain ⟨r1, r2, _⟩ := rd (E 4 k) (by omega)
    rw [r1]
    simp only [r2]
    exact g
  · refine ⟨by rw [(fx 6 (by omega) (by omega)).1]; exact i11.1, fun j hj => ?_⟩
    rw [fi 1 (by omega) (by omega)]; exact i11.2 j hj
  · unfold XCl
    rw [(fx 11 (by omega) (by omega)).1]
    rcases i12 with z | ⟨z1, z2, z3⟩
    · exact Or.inl z
    · exact Or.inr ⟨z1, z2, rd3 (Or.inl rfl) z3⟩
  · unfold XCm
    rw [(fx 11 (by omega) (by omega)).1, (fx 12 (by omega) (by omega)).1, fi 11 (by omega) (by omega), fi 11 (by omega) (by omega), fi 11 (by omega) (by omega)]
    rcases i13 with z | ⟨z1, z2, z3, z4, z5⟩
    · exact Or.inl z
    · exact Or.inr ⟨z1, z2, z3, rd3 (Or.inr rfl) z4, z5⟩
  · unfold XCr
    rw [(fx 13 (by omega) (by omega)).1, (fx 14 (by omega) (by omega)).1, (fx 15 (by omega) (by omega)).1, (fx 16 (by omega) (by omega)).2, (fx 17 (by omega) (by omega)).2]
    exact i14
theorem InvX_fr {K : Nat → Nat} {x : Nat} {h h' : AH} {Z : Zt} {cc ss : Nat} {W : Nat → Nat → Prop} (I : InvX K x h Z) (F : Fr cc ss W h h') (hW : ∀ a j, h.kind a ≠ 0 → W a j → ScX x a j ∨ RgW (x + 29) a j) : InvX K x h' Z := by
  obtain ⟨e, c, E, b, I⟩ := I
  exact ⟨e, c, E, b, XIn_fr I F hW⟩
theorem InvM_fr {m : Nat} {h h' : AH} {Z : Zt} {cc ss : Nat} {W : Nat → Nat → Prop} (I : InvM m h Z) (bz : Z.nm ≤ 40) (F : Fr cc ss W h h') (hW : ∀ a j, h.kind a ≠ 0 → W a j → ScM m a j ∨ ¬ RgM m a) : InvM m h' Z := by
  obtain ⟨M, m2, m3, m4⟩ := I
  have MS := M.1
  have nz : ∀ i, i < 94 → h.kind (m + i) ≠ 0 := by
    intro i hi
    have := mKs_kind MS (a := m + i) ⟨by omega, by omega⟩
    omega
  have rd : ∀ i, i < 94 → (i = 0 ∨ i < 38 ∨ 53 ≤ i) → ∀ j, (i = 0 → j ≠ 33 ∧ j ≠ 34 ∧ j ≠ 37 ∧ j ≠ 38 ∧ j ≠ 44 ∧ j ≠ 45 ∧ j ≠ 46) → h'.I (m + i) j = h.I (m + i) j ∧ h'.L (m + i) j = h.L (m + i) j := by
    intro i hi h1 j hj
    obtain ⟨_, _, f3⟩ := F.2.2.2.2.2 (m + i) (nz i hi)
    have : ¬ W (m + i) j := by
      intro w
      rcases hW _ _ (nz i hi) w with ⟨(z | ⟨z1, z2⟩), _⟩ | z
      · omega
      · have := hj (by omega); omega
      · exact z ⟨by omega, by omega⟩
    exact ⟨(f3 j this).1, (f3 j this).2.1⟩
  have rI : ∀ i, 0 < i → i < 38 → h'.I (m + i) = h.I (m + i) := fun i i0 i1 => funext fun j => (rd i (by omega) (by omega) j (fun z => by omega)).1
  have rL : ∀ i, 0 < i → i < 38 → h'.L (m + i) = h.L (m + i) := fun i i0 i1 => funext fun j => (rd i (by omega) (by omega) j (fun z => by omega)).2
  have r0 : ∀ j, j ≠ 33 → j ≠ 34 → j ≠ 37 → j ≠ 38 → j ≠ 44 → j ≠ 45 → j ≠ 46 → h'.I m j = h.I m j := fun j j1 j2 j3 j4 j5 j6 j7 => (rd 0 (by omega) (by omega) j (fun _ => ⟨j1, j2, j3, j4, j5, j6, j7⟩)).1
  refine ⟨⟨?_, ?_, ?_, ?_⟩, ⟨?_, ?_⟩, ⟨?_, ?_⟩, ?_⟩
  · refine MSh_fr MS F (fun p hp w => ?_)
    have h1 : ∀ p, p ∈ mRs → p.1 < 94 := by decide
    rcases hW _ _ (nz p.1 (h1 p hp)) w with z | z
    · exact z.2 p hp ⟨rfl, rfl⟩
    · exact z ⟨by omega, by have := h1 p hp; omega⟩
  · unfold MV; rw [rI 26 (by omega) (by omega), rI 3 (by omega) (by omega), rI 6 (by omega) (by omega), rI 9 (by omega) (by omega), rI 12 (by omega) (by omega), rI 15 (by omega) (by omega), rI 18 (by omega) (by omega)]; exact M.2.1
  · unfold MP; rw [rI 27 (by omega) (by omega), rI 21 (by omega) (by omega), rI 24 (by omega) (by omega)]; exact M.2.2.1
  · unfold MB; rw [rI 28 (by omega) (by omega), rI 29 (by omega) (by omega), rI 30 (by omega) (by omega)]; exact M.2.2.2
  · rw [r0 48 (by omega) (by omega) (by omega) (by omega) (by omega) (by omega) (by omega)]; exact m2.1
  · intro k hk j hj
    rw [show m + 54 + k = m + (54 + k) by omega, (rd (54 + k) (by omega) (by omega) j (fun z => by omega)).1, show m + (54 + k) = m + 54 + k by omega]
    exact m2.2 k hk j hj
  · rw [r0 1 (by omega) (by omega) (by omega) (by omega) (by omega) (by omega) (by omega)]; exact m3.1
  · intro j hj; rw [rI 1 (by omega) (by omega)]; exact m3.2 j hj
  · unfold MCa M3I M3L
    rw [r0 29 (by omega) (by omega) (by omega) (by omega) (by omega) (by omega) (by omega), r0 27 (by omega) (by omega) (by omega) (by omega) (by omega) (by omega) (by omega), r0 28 (by omega) (by omega) (by omega) (by omega) (by omega) (by omega) (by omega), rI 32 (by omega) (by omega), rI 33 (by omega) (by omega), rI 34 (by omega) (by omega), rL 35 (by omega) (by omega), rL 36 (by omega) (by omega), rL 37 (by omega) (by omega)]
    exact m4
