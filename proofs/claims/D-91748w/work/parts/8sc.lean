/-! PURE PART SC: bits -/
set_option maxRecDepth 100000
def bcI (a : Int32) : Int32 := match F_J15_bitCount 0 (fun _ => 0) a ((0, 0), (fun _ => 0), (fun _ => 0), (fun _ _ => 0), (fun _ _ => 0), (fun _ _ => none)) with
  | some (r, _) => r
  | none => 0
theorem bc_eq (n : Nat) (K : Nat → Nat) (a : Int32) (h : AH) : F_J15_bitCount n K a h = some (bcI a, h) := rfl
def popN (b : Nat) : Nat := foldS (fun k a => a + if b.testBit k = true then 1 else 0) 0 9
theorem bc_pop : ∀ b, b < 512 → bcI (nI b) = nI (popN b) := by decide +kernel
theorem pop_le : ∀ b, b < 512 → ∀ n, n < 10 → b < 2 ^ n → popN b ≤ n := by decide +kernel
theorem bit_all : ∀ b, b < 512 → ∀ k, k < 9 → ((nI b >>> (nI k &&& 31)) &&& (1 : Int32)) = if b.testBit k = true then 1 else 0 := by decide +kernel
theorem shl_all : ∀ n, n < 10 → ((1 : Int32) <<< (nI n &&& 31)) = nI (2 ^ n) := by decide +kernel
theorem pow_le {n : Nat} (h : n ≤ 9) : 2 ^ n ≤ 512 := Nat.pow_le_pow_right (by omega) h
theorem min9 {k : Nat} (h : k ≤ 15) : (if nI k < (9 : Int32) then nI k else (9 : Int32)) = nI (min k 9) := by
  have : ∀ k, k < 16 → (if nI k < (9 : Int32) then nI k else (9 : Int32)) = nI (min k 9) := by decide +kernel
  exact this k (by omega)
