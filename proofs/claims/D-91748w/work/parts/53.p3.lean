/-! PURE PART 3: lists as they are read; the sheet's voters -/
set_option maxRecDepth 100000
/-- a list at l of c elements E 0 .. E (c-1), whose array is e -/
def Ls (K : Nat → Nat) (h : AH) (l e c : Nat) (E : Nat → Nat) : Prop :=
  h.kind l = 3 ∧ h.I l 2 = nI c ∧ c < 1000000 ∧ h.R l 1 = some e ∧ ((c = 0 ∧ e = K 0 ∧ h.kind e = 44 ∧ h.len e = 0) ∨ (h.kind e = 34 ∧ c ≤ h.len e ∧ h.len e < 1000000 ∧ ∀ i, i < c → h.R e i = some (E i)))
theorem l_size {n : Nat} {K : Nat → Nat} {h : AH} {l e c : Nat} {E : Nat → Nat} (H : Ls K h l e c E) : F_J2_size n K l h = some (nI c, h) := by
  simp only [F_J2_size, H.1, H.2.1, chk_true, bnd_some, ob_some, oc_some, oc_none, hl_eq, jn_eq, ix_0, ix_1, if_true, if_false, inb0_2, inb1_2, not_true_eq_false, not_false_eq_true, ite_true, ite_false, true_or, or_true, or_self, zero_eq_one_I, one_eq_zero_I]
theorem l_isEmpty {n : Nat} {K : Nat → Nat} {h : AH} {l e c : Nat} {E : Nat → Nat} (H : Ls K h l e c E) : F_J2_isEmpty n K l h = some (if c = 0 then 1 else 0, h) := by
  have e1 : (nI c = 0) = (c = 0) := by rw [← nI_0]; exact propext (nI_eq (by have := H.2.2.1; omega) (by omega))
  simp only [F_J2_isEmpty, H.1, H.2.1, e1, chk_true, bnd_some, ob_some, oc_some, oc_none, hl_eq, jn_eq, ix_0, ix_1, if_true, if_false, inb0_2, inb1_2, not_true_eq_false, not_false_eq_true, ite_true, ite_false, true_or, or_true, or_self, zero_eq_one_I, one_eq_zero_I]
  by_cases hc : c = 0 <;> simp [hc]
theorem l_get {n : Nat} {K : Nat → Nat} {h : AH} {l e c : Nat} {E : Nat → Nat} (H : Ls K h l e c E) {i : Nat} (hi : i < c) : F_J2_get n K l (nI i) h = some (some (E i), h) := by
  obtain ⟨h1, h2, h3, h4, h5⟩ := H
  rcases h5 with ⟨h5, _⟩ | ⟨h5, h6, h6', h7⟩
  · omega
  have e1 : (nI i < 0) = False := eq_false (nI_pos (by omega))
  have e2 : (nI i < nI c) = True := eq_true (nI_lt hi (by omega))
  have e3 : ix (nI i) = i := ix_nI (by omega)
  have e4 : inb (nI i) (h.len e) = True := eq_true ((inb_nI (by omega)).2 (by omega))
  simp only [F_J2_get, F_J14_checkIndex, F_J10_checkIndex, F_J2_elementData, chk_true, bnd_some, ob_some, oc_some, oc_none, hl_eq, jn_eq, ix_0, ix_1, if_true, if_false, inb0_2, inb1_2, not_true_eq_false, not_false_eq_true, ite_true, ite_false, true_or, or_true, or_self, zero_eq_one_I, one_eq_zero_I, h1, h2, h4, h5, e1, e2, e3, e4, h7 i hi]
/-- the sheet's voters -/
def XV (K : Nat → Nat) (x : Nat) (h : AH) (e nv : Nat) (E : Nat → Nat) (V : Nat → Nat → Int32) : Prop := Ls K h (x + 5) e nv E ∧ nv ≤ 15 ∧ ∀ v, v < nv → (7 ≤ h.kind (E v) ∧ h.kind (E v) ≤ 10) ∧ V v 3 = nI (h.kind (E v) - 7) ∧ h.I (E v) 3 = V v 0 ∧ h.I (E v) 4 = V v 1 ∧ h.I (E v) 0 = V v 2 ∧ h.I (E v) 1 = V v 4 ∧ h.I (E v) 2 = V v 5
theorem nI_1c : nI 1 = 1 := rfl
theorem nI_2c : nI 2 = 2 := rfl
theorem nI_3c : nI 3 = 3 := rfl
theorem x_wayFrom {n : Nat} {K : Nat → Nat} {x : Nat} {h : AH} {e nv : Nat} {E : Nat → Nat} {V : Nat → Nat → Int32} (HV : XV K x h e nv E V) {v : Nat} (hv : v < nv) (fx fy px py : Int32) : F_X5_wayFrom n K (E v) fx fy px py h = some (wayS (V v 3) (V v 4) (V v 5) fx fy px py, h) := by
  obtain ⟨gk, g3, g0, g1, g2, g4, g5⟩ := HV.2.2 v hv
  have hk := eq_true gk
  have : h.kind (E v) = 7 ∨ h.kind (E v) = 8 ∨ h.kind (E v) = 9 ∨ h.kind (E v) = 10 := by omega
  rcases this with ek | ek | ek | ek <;> rw [ek] at g3 <;>
    simp [F_X5_wayFrom, dV, F_X6_joined, F_X7_joined, F_X8_joined, F_X9_joined, chk_true, bnd_some, ob_some, oc_some, oc_none, hl_eq, jn_eq, ix_0, ix_1, if_true, if_false, inb0_2, inb1_2, not_true_eq_false, not_false_eq_true, ite_true, ite_false, true_or, or_true, or_self, zero_eq_one_I, one_eq_zero_I, g4, g5, ek, wayS, g3, nI_0, nI_1c, nI_2c, nI_3c, absS, maxS, Int32.mul_comm]
theorem x_way {n : Nat} {K : Nat → Nat} {x : Nat} {h : AH} {e nv : Nat} {E : Nat → Nat} {V : Nat → Nat → Int32} (HV : XV K x h e nv E V) {v : Nat} (hv : v < nv) (px py : Int32) : F_X5_way n K (E v) px py h = some (wayS (V v 3) (V v 4) (V v 5) (V v 0) (V v 1) px py, h) := by
  obtain ⟨gk, g3, g0, g1, g2, g4, g5⟩ := HV.2.2 v hv
  simp only [F_X5_way, gk, and_self, chk_true, bnd_some, ob_some, oc_some, oc_none, hl_eq, jn_eq, ix_0, ix_1, if_true, if_false, inb0_2, inb1_2, not_true_eq_false, not_false_eq_true, ite_true, ite_false, true_or, or_true, or_self, zero_eq_one_I, one_eq_zero_I, g0, g1, x_wayFrom HV hv]
