/-! PURE PART RH: how great a line's numbers are -/
set_option maxRecDepth 100000
theorem tdiv_bd {p s : Int} {k : Nat} (h : p.natAbs ≤ k) : (p.tdiv s).natAbs ≤ k := by
  rw [Int.natAbs_tdiv]
  exact Nat.le_trans (Nat.div_le_self _ _) h
theorem mul_bd {a x : Int} {k l : Nat} (h1 : a.natAbs ≤ k) (h2 : x.natAbs ≤ l) : (a * x).natAbs ≤ k * l := by
  rw [Int.natAbs_mul]
  exact Nat.mul_le_mul h1 h2
theorem line_bd {x1 y1 x2 y2 : Int} (h1 : 0 ≤ x1 ∧ x1 ≤ 99) (h2 : 0 ≤ y1 ∧ y1 ≤ 99) (h3 : 0 ≤ x2 ∧ x2 ≤ 99) (h4 : 0 ≤ y2 ∧ y2 ≤ 99) : (mkLine x1 y1 x2 y2).1.natAbs ≤ 99 ∧ (mkLine x1 y1 x2 y2).2.1.natAbs ≤ 99 ∧ (mkLine x1 y1 x2 y2).2.2.natAbs ≤ 19602 := by
  have a : (mkLine x1 y1 x2 y2).1.natAbs ≤ 99 := tdiv_bd (by omega)
  have b : (mkLine x1 y1 x2 y2).2.1.natAbs ≤ 99 := tdiv_bd (by omega)
  refine ⟨a, b, ?_⟩
  have c1 := mul_bd a (x := x1) (l := 99) (by omega)
  have c2 := mul_bd b (x := y1) (l := 99) (by omega)
  show ((mkLine x1 y1 x2 y2).1 * x1 + (mkLine x1 y1 x2 y2).2.1 * y1).natAbs ≤ 19602
  omega
