/-! PURE PART RE: ints and longs as integers -/
set_option maxRecDepth 100000
theorem l_of {z : Int} (h1 : -(2 ^ 62) ≤ z) (h2 : z ≤ 2 ^ 62) : (Int64.ofInt z).toInt = z := by
  rw [Int64.toInt_ofInt, show Int64.size = 18446744073709551616 from rfl]
  exact Int.bmod_eq_of_le (by omega) (by omega)
theorem i_of {z : Int} (h1 : -(2 ^ 30) ≤ z) (h2 : z ≤ 2 ^ 30) : (Int32.ofInt z).toInt = z := by
  rw [Int32.toInt_ofInt, show Int32.size = 4294967296 from rfl]
  exact Int.bmod_eq_of_le (by omega) (by omega)
theorem l_mul {a b : Int64} (h1 : -(2 ^ 62) ≤ a.toInt * b.toInt) (h2 : a.toInt * b.toInt ≤ 2 ^ 62) : (a * b).toInt = a.toInt * b.toInt := by
  rw [Int64.toInt_mul]
  exact Int.bmod_eq_of_le (by omega) (by omega)
theorem l_add {a b : Int64} (h1 : -(2 ^ 62) ≤ a.toInt + b.toInt) (h2 : a.toInt + b.toInt ≤ 2 ^ 62) : (a + b).toInt = a.toInt + b.toInt := by
  rw [Int64.toInt_add]
  exact Int.bmod_eq_of_le (by omega) (by omega)
theorem l_sub {a b : Int64} (h1 : -(2 ^ 62) ≤ a.toInt - b.toInt) (h2 : a.toInt - b.toInt ≤ 2 ^ 62) : (a - b).toInt = a.toInt - b.toInt := by
  rw [Int64.toInt_sub]
  exact Int.bmod_eq_of_le (by omega) (by omega)
theorem l_eq {a b : Int64} : a = b ↔ a.toInt = b.toInt := Int64.toInt_inj.symm
theorem i_mul {a b : Int32} (h1 : -(2 ^ 30) ≤ a.toInt * b.toInt) (h2 : a.toInt * b.toInt ≤ 2 ^ 30) : (a * b).toInt = a.toInt * b.toInt := by
  rw [Int32.toInt_mul]
  exact Int.bmod_eq_of_le (by omega) (by omega)
theorem i_add {a b : Int32} (h1 : -(2 ^ 30) ≤ a.toInt + b.toInt) (h2 : a.toInt + b.toInt ≤ 2 ^ 30) : (a + b).toInt = a.toInt + b.toInt := by
  rw [Int32.toInt_add]
  exact Int.bmod_eq_of_le (by omega) (by omega)
theorem i_sub {a b : Int32} (h1 : -(2 ^ 30) ≤ a.toInt - b.toInt) (h2 : a.toInt - b.toInt ≤ 2 ^ 30) : (a - b).toInt = a.toInt - b.toInt := by
  rw [Int32.toInt_sub]
  exact Int.bmod_eq_of_le (by omega) (by omega)
