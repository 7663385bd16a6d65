/-! ABSTRACT HEAPS: next address, slots used; kind and length of a cell; its ints, longs, references by place -/
abbrev AH : Type := (Nat × Nat) × (Nat → Nat) × (Nat → Nat) × (Nat → Nat → Int32) × (Nat → Nat → Int64) × (Nat → Nat → Option Nat)
def AH.n (h : AH) : Nat := h.1.1
def AH.sl (h : AH) : Nat := h.1.2
def AH.kind (h : AH) : Nat → Nat := h.2.1
def AH.len (h : AH) : Nat → Nat := h.2.2.1
def AH.I (h : AH) : Nat → Nat → Int32 := h.2.2.2.1
def AH.L (h : AH) : Nat → Nat → Int64 := h.2.2.2.2.1
def AH.R (h : AH) : Nat → Nat → Option Nat := h.2.2.2.2.2
def up2 {α : Type} (f : Nat → Nat → α) (a j : Nat) (v : α) : Nat → Nat → α := fun b k => if b = a ∧ k = j then v else f b k
def up1 {α : Type} (f : Nat → α) (a : Nat) (v : α) : Nat → α := fun b => if b = a then v else f b
def AH.setI (h : AH) (a j : Nat) (v : Int32) : AH := (h.1, h.2.1, h.2.2.1, up2 h.2.2.2.1 a j v, h.2.2.2.2.1, h.2.2.2.2.2)
def AH.setL (h : AH) (a j : Nat) (v : Int64) : AH := (h.1, h.2.1, h.2.2.1, h.2.2.2.1, up2 h.2.2.2.2.1 a j v, h.2.2.2.2.2)
def AH.setR (h : AH) (a j : Nat) (v : Option Nat) : AH := (h.1, h.2.1, h.2.2.1, h.2.2.2.1, h.2.2.2.2.1, up2 h.2.2.2.2.2 a j v)
/-- a new cell of kind k, length m, that costs w slots -/
def AH.new (h : AH) (k m w : Nat) : AH := ((h.1.1 + 1, h.1.2 + w), up1 h.2.1 h.1.1 k, up1 h.2.2.1 h.1.1 m, up1 h.2.2.2.1 h.1.1 (fun _ => 0), up1 h.2.2.2.2.1 h.1.1 (fun _ => 0), up1 h.2.2.2.2.2 h.1.1 (fun _ => none))
/-- rows of references that are copied (arraycopy) -/
def AH.cpyR (h : AH) (a sp b dp m : Nat) : AH := (h.1, h.2.1, h.2.2.1, h.2.2.2.1, h.2.2.2.2.1, up1 h.2.2.2.2.2 b (va_cpy (h.2.2.2.2.2 a) (h.2.2.2.2.2 b) sp dp m))
theorem AH.n_setI (h : AH) (a j : Nat) (v : Int32) : (h.setI a j v).n = h.n := rfl
theorem AH.n_setL (h : AH) (a j : Nat) (v : Int64) : (h.setL a j v).n = h.n := rfl
theorem AH.n_setR (h : AH) (a j : Nat) (v : Option Nat) : (h.setR a j v).n = h.n := rfl
theorem AH.sl_setI (h : AH) (a j : Nat) (v : Int32) : (h.setI a j v).sl = h.sl := rfl
theorem AH.sl_setL (h : AH) (a j : Nat) (v : Int64) : (h.setL a j v).sl = h.sl := rfl
theorem AH.sl_setR (h : AH) (a j : Nat) (v : Option Nat) : (h.setR a j v).sl = h.sl := rfl
theorem AH.kind_setI (h : AH) (a j : Nat) (v : Int32) : (h.setI a j v).kind = h.kind := rfl
theorem AH.kind_setL (h : AH) (a j : Nat) (v : Int64) : (h.setL a j v).kind = h.kind := rfl
theorem AH.kind_setR (h : AH) (a j : Nat) (v : Option Nat) : (h.setR a j v).kind = h.kind := rfl
theorem AH.len_setI (h : AH) (a j : Nat) (v : Int32) : (h.setI a j v).len = h.len := rfl
theorem AH.len_setL (h : AH) (a j : Nat) (v : Int64) : (h.setL a j v).len = h.len := rfl
theorem AH.len_setR (h : AH) (a j : Nat) (v : Option Nat) : (h.setR a j v).len = h.len := rfl
theorem AH.I_setI (h : AH) (a j : Nat) (v : Int32) (b k : Nat) : (h.setI a j v).I b k = if b = a ∧ k = j then v else h.I b k := rfl
theorem AH.I_setL (h : AH) (a j : Nat) (v : Int64) : (h.setL a j v).I = h.I := rfl
theorem AH.I_setR (h : AH) (a j : Nat) (v : Option Nat) : (h.setR a j v).I = h.I := rfl
theorem AH.L_setI (h : AH) (a j : Nat) (v : Int32) : (h.setI a j v).L = h.L := rfl
theorem AH.L_setL (h : AH) (a j : Nat) (v : Int64) (b k : Nat) : (h.setL a j v).L b k = if b = a ∧ k = j then v else h.L b k := rfl
theorem AH.L_setR (h : AH) (a j : Nat) (v : Option Nat) : (h.setR a j v).L = h.L := rfl
theorem AH.R_setI (h : AH) (a j : Nat) (v : Int32) : (h.setI a j v).R = h.R := rfl
theorem AH.R_setL (h : AH) (a j : Nat) (v : Int64) : (h.setL a j v).R = h.R := rfl
theorem AH.R_setR (h : AH) (a j : Nat) (v : Option Nat) (b k : Nat) : (h.setR a j v).R b k = if b = a ∧ k = j then v else h.R b k := rfl
theorem AH.n_new (h : AH) (k m w : Nat) : (h.new k m w).n = h.n + 1 := rfl
theorem AH.sl_new (h : AH) (k m w : Nat) : (h.new k m w).sl = h.sl + w := rfl
theorem AH.kind_new (h : AH) (k m w b : Nat) : (h.new k m w).kind b = if b = h.n then k else h.kind b := rfl
theorem AH.len_new (h : AH) (k m w b : Nat) : (h.new k m w).len b = if b = h.n then m else h.len b := rfl
theorem AH.I_new (h : AH) (k m w b j : Nat) : (h.new k m w).I b j = if b = h.n then 0 else h.I b j := by
  show (up1 h.2.2.2.1 h.1.1 (fun _ => 0)) b j = _
  unfold up1 AH.n AH.I
  split <;> rfl
theorem AH.L_new (h : AH) (k m w b j : Nat) : (h.new k m w).L b j = if b = h.n then 0 else h.L b j := by
  show (up1 h.2.2.2.2.1 h.1.1 (fun _ => 0)) b j = _
  unfold up1 AH.n AH.L
  split <;> rfl
theorem AH.R_new (h : AH) (k m w b j : Nat) : (h.new k m w).R b j = if b = h.n then none else h.R b j := by
  show (up1 h.2.2.2.2.2 h.1.1 (fun _ => none)) b j = _
  unfold up1 AH.n AH.R
  split <;> rfl
/-! PURE CODE: checks, references, calls, joins -/
def chk {α : Type} (c : Prop) [Decidable c] (f : Option α) : Option α := if c then f else none
def ob {α : Type} (r : Option Nat) (f : Nat → Option α) : Option α := match r with
  | none => none
  | some a => f a
def oc {α : Type} (r : Option Nat) (g : Option α) (f : Nat → Option α) : Option α := match r with
  | none => g
  | some a => f a
def hl {α : Type} (x : AH) (f : AH → Option α) : Option α := f x
def bnd {α β : Type} (x : Option (α × AH)) (f : α → AH → Option β) : Option β := match x with
  | none => none
  | some (r, h) => f r h
def jn {α : Sort _} {β : Type} (k : α) (f : α → Option β) : Option β := f k
abbrev inb (i : Int32) (n : Nat) : Prop := 0 ≤ i.toInt ∧ i.toInt < (n : Int)
def ix (i : Int32) : Nat := i.toNatClampNeg
theorem chk_pos {α : Type} {c : Prop} {inst : Decidable c} {f : Option α} (h : c) : @chk α c inst f = f := if_pos h
theorem chk_some {α : Type} {c : Prop} {inst : Decidable c} {f : Option α} {o : α} (h : @chk α c inst f = some o) : c ∧ f = some o := by
  unfold chk at h
  by_cases hc : c
  · rw [if_pos hc] at h; exact ⟨hc, h⟩
  · rw [if_neg hc] at h; cases h
