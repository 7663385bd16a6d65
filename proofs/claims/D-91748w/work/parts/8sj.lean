/-! PURE PART SJ: lot() of the sheet, whole -/
set_option maxRecDepth 100000
theorem x_fl14 {n : Nat} {K : Nat → Nat} {x : Nat} {g : AH} {S : St} (hn : 20000 < n) (B : Bd S) (G : GX x g S) {many : Nat} (hm : many < 100) (f0 : Nat → Int64) (k : AH → Option (Int32 × AH)) : ∃ f, F_X0_findLots_L14 n K (nI many) (nI (ncS S)) x n 1 (g.ovL (x + 28) 8 f0) k = selS (loI S many) (fun b => some (1, g.ovL (x + 28) 8 (fnS S b))) (k (g.ovL (x + 28) 8 f)) := by
  have c8 := nc8 S
  have p8 := pow8 c8
  have p1 : 0 < 2 ^ ncS S := Nat.pow_pos (by omega)
  have sh := shl_all (ncS S) (by omega)
  have k0 := xs_k0 G.1
  refine loopU (fun q i (f : Nat → Int64) => F_X0_findLots_L14 n K (nI many) (nI (ncS S)) x q i (g.ovL (x + 28) 8 f) k) (2 ^ ncS S) (fun b _ => 1 ≤ b ∧ ∀ q, 1 ≤ q → q < b → (decide (popN q = many) && lotB S q) = false) (fun o => ∃ f, o = selS (loI S many) (fun b => some (1, g.ovL (x + 28) 8 (fnS S b))) (k (g.ovL (x + 28) 8 f))) ?_ ?_ (2 ^ ncS S - 1) 1 f0 n (by omega) (by omega) ⟨Nat.le_refl _, fun q h1 h2 => by omega⟩
  · rintro q b f hb ⟨hb1, hn1⟩
    have e3 : (nI (2 ^ ncS S) ≤ nI b) = False := eq_false (nI_ge hb (by omega))
    have bc1 := bc_pop b (by omega)
    have pl1 := pop_le b (by omega) 9 (by omega) (by omega)
    by_cases cp : popN b = many
    · have e5 : (nI (popN b) = nI many) = True := eq_true (by rw [cp])
      obtain ⟨f', q1, q2⟩ := x_isLots (K := K) hn B G hb (by omega) f
      cases hu : lotB S b
      · right
        refine ⟨f', ⟨by omega, fun i h1 h2 => ?_⟩, ?_⟩
        · rcases Nat.lt_or_ge i b with z | z
          · exact hn1 i h1 z
          · rw [show i = b by omega, hu, Bool.and_false]
        · show F_X0_findLots_L14 n K (nI many) (nI (ncS S)) x (q + 1) (nI b) (g.ovL (x + 28) 8 f) k = _
          rw [hu] at q1
          rw [F_X0_findLots_L14, sh]
          simp only [chk_true, bnd_some, ob_some, oc_some, oc_none, hl_eq, jn_eq, ix_0, ix_1, if_true, if_false, inb0_2, inb1_2, not_true_eq_false, not_false_eq_true, ite_true, ite_false, true_or, or_true, or_self, zero_eq_one_I, one_eq_zero_I, e3, bc_eq, bc1, e5, kind_ovL, k0, q1, bI_0, nI_1]
      · left
        refine ⟨f', ?_⟩
        have fi : loI S many = some b := findS_is hb1 (by omega) (by rw [hu, decide_eq_true cp]; rfl) (fun i h1 h2 => hn1 i h1 h2)
        rw [fi]
        show F_X0_findLots_L14 n K (nI many) (nI (ncS S)) x (q + 1) (nI b) (g.ovL (x + 28) 8 f) k = some (1, g.ovL (x + 28) 8 (fnS S b))
        rw [hu, q2 hu] at q1
        rw [F_X0_findLots_L14, sh]
        simp only [chk_true, bnd_some, ob_some, oc_some, oc_none, hl_eq, jn_eq, ix_0, ix_1, if_true, if_false, inb0_2, inb1_2, not_true_eq_false, not_false_eq_true, ite_true, ite_false, true_or, or_true, or_self, zero_eq_one_I, one_eq_zero_I, e3, bc_eq, bc1, e5, kind_ovL, k0, q1, bI_0, Bool.true_eq_false]
    · have e5 : (nI (popN b) = nI many) = False := eq_false (fun z => cp ((nI_eq (by omega) (by omega)).1 z))
      right
      refine ⟨f, ⟨by omega, fun i h1 h2 => ?_⟩, ?_⟩
      · rcases Nat.lt_or_ge i b with z | z
        · exact hn1 i h1 z
        · rw [show i = b by omega, decide_eq_false cp, Bool.false_and]
      · show F_X0_findLots_L14 n K (nI many) (nI (ncS S)) x (q + 1) (nI b) (g.ovL (x + 28) 8 f) k = _
        rw [F_X0_findLots_L14, sh]
        simp only [chk_true, bnd_some, ob_some, oc_some, oc_none, hl_eq, jn_eq, ix_0, ix_1, if_true, if_false, inb0_2, inb1_2, not_true_eq_false, not_false_eq_true, ite_true, ite_false, true_or, or_true, or_self, zero_eq_one_I, one_eq_zero_I, e3, bc_eq, bc1, e5, nI_1]
  · rintro q f ⟨hb1, hn1⟩
    have e3 : (nI (2 ^ ncS S) ≤ nI (2 ^ ncS S)) = True := eq_true (nI_le (Nat.le_refl _) (by omega))
    refine ⟨f, ?_⟩
    have fi : loI S many = none := findS_no (fun i h1 h2 => hn1 i h1 (by omega))
    rw [fi]
    show F_X0_findLots_L14 n K (nI many) (nI (ncS S)) x (q + 1) (nI (2 ^ ncS S)) (g.ovL (x + 28) 8 f) k = k (g.ovL (x + 28) 8 f)
    rw [F_X0_findLots_L14, sh]
    simp only [e3, if_true]
theorem dbl (t : Nat) : nI t + nI t + 1 = nI (2 * t + 1) := by
  rw [nI_add, nI_1]; congr 1; omega
theorem dbl2 (t : Nat) : nI (2 * t + 1) + 2 = nI (2 * (t + 1) + 1) := by
  rw [show (2 : Int32) = nI 2 from rfl, nI_add]; congr 1
theorem x_fl7 {n : Nat} {K : Nat → Nat} {x : Nat} {g : AH} {S : St} (hn : 20000 < n) (B : Bd S) (G : GX x g S) (f0 : Nat → Int64) : ∃ f, F_X0_findLots_L7 n K (nI (ncS S)) x n 1 (g.ovL (x + 28) 8 f0) = selS (loS S) (fun b => some (1, g.ovL (x + 28) 8 (fnS S b))) (some (0, g.ovL (x + 28) 8 f)) := by
  have c8 := nc8 S
  refine loopU (fun q i (f : Nat → Int64) => F_X0_findLots_L7 n K (nI (ncS S)) x q (i + i + 1) (g.ovL (x + 28) 8 f)) ((ncS S + 1) / 2) (fun t _ => ∀ q, q < t → (loI S (2 * q + 1)).isSome = false) (fun o => ∃ f, o = selS (loS S) (fun b => some (1, g.ovL (x + 28) 8 (fnS S b))) (some (0, g.ovL (x + 28) 8 f))) ?_ ?_ ((ncS S + 1) / 2) 0 f0 n (by omega) (by omega) (fun q hq => absurd hq (Nat.not_lt_zero q))
  · intro q t f ht hn1
    have e3 : (nI (ncS S) < nI (2 * t + 1)) = False := eq_false (nI_nlt (by omega) (by omega))
    obtain ⟨f', q1⟩ := x_fl14 (K := K) hn B G (many := 2 * t + 1) (by omega) f (fun h22 => F_X0_findLots_L7 n K (nI (ncS S)) x q (nI (2 * (t + 1) + 1)) h22)
    have st : F_X0_findLots_L7 n K (nI (ncS S)) x (q + 1) (nI (2 * t + 1)) (g.ovL (x + 28) 8 f) = selS (loI S (2 * t + 1)) (fun b => some (1, g.ovL (x + 28) 8 (fnS S b))) (F_X0_findLots_L7 n K (nI (ncS S)) x q (nI (2 * (t + 1) + 1)) (g.ovL (x + 28) 8 f')) := by
      rw [← q1, F_X0_findLots_L7]
      simp only [chk_true, bnd_some, ob_some, oc_some, oc_none, hl_eq, jn_eq, ix_0, ix_1, if_true, if_false, inb0_2, inb1_2, not_true_eq_false, not_false_eq_true, ite_true, ite_false, true_or, or_true, or_self, zero_eq_one_I, one_eq_zero_I, e3, dbl2]
    cases hl : loI S (2 * t + 1) with
    | none =>
      right
      refine ⟨f', fun i hi => ?_, ?_⟩
      · rcases Nat.lt_or_ge i t with z | z
        · exact hn1 i z
        · rw [show i = t by omega, hl]; rfl
      · show F_X0_findLots_L7 n K (nI (ncS S)) x (q + 1) (nI t + nI t + 1) (g.ovL (x + 28) 8 f) = F_X0_findLots_L7 n K (nI (ncS S)) x q (nI (t + 1) + nI (t + 1) + 1) (g.ovL (x + 28) 8 f')
        rw [dbl, dbl, st, hl]; rfl
    | some b =>
      left
      refine ⟨f', ?_⟩
      have fi : loT S = some t := findS_is (by omega) (by omega) (by rw [hl]; rfl) (fun i _ hi => hn1 i hi)
      have fs : loS S = some b := by
        unfold loS; rw [fi]; exact hl
      rw [fs]
      show F_X0_findLots_L7 n K (nI (ncS S)) x (q + 1) (nI t + nI t + 1) (g.ovL (x + 28) 8 f) = some (1, g.ovL (x + 28) 8 (fnS S b))
      rw [dbl, st, hl]; rfl
  · intro q f hn1
    have e3 : (nI (ncS S) < nI (2 * ((ncS S + 1) / 2) + 1)) = True := eq_true (nI_lt (by omega) (by omega))
    refine ⟨f, ?_⟩
    have fi : loT S = none := findS_no (fun i _ hi => hn1 i (by omega))
    have fs : loS S = none := by unfold loS; rw [fi]; rfl
    rw [fs]
    show F_X0_findLots_L7 n K (nI (ncS S)) x (q + 1) (nI ((ncS S + 1) / 2) + nI ((ncS S + 1) / 2) + 1) (g.ovL (x + 28) 8 f) = some (0, g.ovL (x + 28) 8 f)
    rw [dbl, F_X0_findLots_L7]
    simp only [e3, if_true]
theorem in_m1 {c : Nat} (hc : c < 1000000) {v : Int32} (h : inS v (-1) (nI c - 1) = true) (hv : v ≠ -1) : ∃ k, k < c ∧ v = nI k := by
  refine (inS_nI hc).1 ?_
  unfold inS at h ⊢
  rw [Bool.and_eq_true, Bool.not_eq_true', Bool.not_eq_true', decide_eq_false_iff_not, decide_eq_false_iff_not] at h ⊢
  refine ⟨?_, h.2⟩
  have h1 := h.1
  rw [Int32.lt_iff_toInt_lt] at h1 ⊢
  have e : ((-1 : Int32)).toInt = -1 := by decide
  have z : v.toInt ≠ -1 := fun y => hv (Int32.toInt_inj.1 (by rw [y, e]))
  rw [e] at h1
  have e0 : (0 : Int32).toInt = 0 := rfl
  omega
theorem ox_lot {n : Nat} {K : Nat → Nat} {x : Nat} {h : AH} {Z : Zt} (hn : 20000 < n) (bz : Bz Z) (I : InvX K x h Z) (v : Int32) : XOk K x 0 0 Z (lotS Z.S v) (F_X0_lot n K x v h) h := by
  have I0 := I
  obtain ⟨e, c, E, b, wf, MS, _, _, X, _⟩ := I0
  have H := X.1
  have B := bz.1
  have h20 := xnp hn X
  have c8 := nc8 Z.S
  have k0 := xs_k0 H
  unfold lotS
  cases hv : inS v (-1) (nI (ncS Z.S) - 1)
  · rw [if_neg (by decide)]
    refine xok_same I ?_
    simp only [F_X0_lot, chk_true, bnd_some, ob_some, oc_some, oc_none, hl_eq, jn_eq, ix_0, ix_1, if_true, if_false, inb0_2, inb1_2, not_true_eq_false, not_false_eq_true, ite_true, ite_false, true_or, or_true, or_self, zero_eq_one_I, one_eq_zero_I, xs_k0, xs_k1, xs_n1, xs_k2, xs_k3, xs_k4, xs_k5, xs_k6, xs_k7, xs_k8, xs_k9, xs_k10, xs_k11, xs_n11, xs_k12, xs_n12, xs_k13, xs_n13, xs_k14, xs_n14, xs_k15, xs_n15, xs_k16, xs_n16, xs_k17, xs_n17, xs_k18, xs_n18, xs_k27, xs_n27, xs_k28, xs_n28, xs_r0_0, xs_r0_1, xs_r2_8, xs_r2_9, xs_r0_2, xs_r0_3, xs_r0_4, xs_r0_8, xs_r0_9, xs_r0_10, xs_r0_18, xs_r0_19, xs_r0_20, xs_r0_21, xs_r0_22, xs_r0_25, xs_r0_26, xs_r0_27, xs_r0_28, H, x_psize hn X, nc_if h20, x_in, hv, bI_0]
  · rw [if_pos rfl]
    have gn := x_gains (K := K) hn X
    have G : GX x (h.ov2I (x + 19) 8 8 (gnF Z.S (fun i j => h.I (x + 19 + i) j))) Z.S := by
      refine ⟨H, fun i j hi hj => ?_⟩
      rw [I_ov2_eq (by omega) (by omega)]
      unfold gnF
      rw [if_pos ⟨hi, hj⟩]
    have Fg := fr_gnX (x := x) h (gnF Z.S (fun i j => h.I (x + 19 + i) j))
    generalize h.ov2I (x + 19) 8 8 (gnF Z.S (fun i j => h.I (x + 19 + i) j)) = g at *
    have HG := G.1
    have kg := xs_k0 HG
    obtain ⟨f, q1⟩ := x_fl7 (K := K) hn B G (g.L (x + 28))
    rw [ovL_self] at q1
    have Fo : ∀ f, Fr 0 0 (ScX x) g (g.ovL (x + 28) 8 f) := by
      intro f
      refine ⟨id, Nat.le_refl _, Nat.le_refl _, Nat.le_refl _, Nat.le_refl _, fun p _ => ⟨rfl, rfl, fun j hj => ⟨rfl, ?_, rfl⟩⟩⟩
      by_cases z : p = x + 28
      · exact absurd (z ▸ ScX_arr (i := 28) (by omega) (by omega) (by decide)) hj
      · rw [L_ov_ne z]
    have fl : F_X0_findLots n K x h = selS (loS Z.S) (fun b => some (1, g.ovL (x + 28) 8 (fnS Z.S b))) (some (0, g.ovL (x + 28) 8 f)) := by
      rw [← q1]
      simp only [F_X0_findLots, chk_true, bnd_some, ob_some, oc_some, oc_none, hl_eq, jn_eq, ix_0, ix_1, if_true, if_false, inb0_2, inb1_2, not_true_eq_false, not_false_eq_true, ite_true, ite_false, true_or, or_true, or_self, zero_eq_one_I, one_eq_zero_I, k0, gn]
    cases hl : loS Z.S with
    | none =>
      rw [hl] at fl
      have fl' : F_X0_findLots n K x h = some (0, g.ovL (x + 28) 8 f) := fl
      refine xok_scr I ?_ (Fr_trans (W := ScX x) Fg (Fo f) (fun _ _ _ z => z) (fun _ _ _ z => z))
      simp only [F_X0_lot, chk_true, bnd_some, ob_some, oc_some, oc_none, hl_eq, jn_eq, ix_0, ix_1, if_true, if_false, inb0_2, inb1_2, not_true_eq_false, not_false_eq_true, ite_true, ite_false, true_or, or_true, or_self, zero_eq_one_I, one_eq_zero_I, xs_k0, xs_k1, xs_n1, xs_k2, xs_k3, xs_k4, xs_k5, xs_k6, xs_k7, xs_k8, xs_k9, xs_k10, xs_k11, xs_n11, xs_k12, xs_n12, xs_k13, xs_n13, xs_k14, xs_n14, xs_k15, xs_n15, xs_k16, xs_n16, xs_k17, xs_n17, xs_k18, xs_n18, xs_k27, xs_n27, xs_k28, xs_n28, xs_r0_0, xs_r0_1, xs_r2_8, xs_r2_9, xs_r0_2, xs_r0_3, xs_r0_4, xs_r0_8, xs_r0_9, xs_r0_10, xs_r0_18, xs_r0_19, xs_r0_20, xs_r0_21, xs_r0_22, xs_r0_25, xs_r0_26, xs_r0_27, xs_r0_28, H, x_psize hn X, nc_if h20, x_in, hv, bI_0, Bool.true_eq_false, fl']
      rfl
    | some b =>
      rw [hl] at fl
      have fl' : F_X0_findLots n K x h = some (1, g.ovL (x + 28) 8 (fnS Z.S b)) := fl
      refine xok_scr I ?_ (Fr_trans (W := ScX x) Fg (Fo (fnS Z.S b)) (fun _ _ _ z => z) (fun _ _ _ z => z))
      have k28 := xs_k28 HG
      have n28 := xs_n28 HG
      have key := loopF (fun f i (a : Int64) => F_X0_lot_L36 n K x v (g.ovL (x + 28) 8 (fnS Z.S b)) f i a) 8 (fun j a => a + fnS Z.S b j) (fun a => some (if v = -1 then a.toInt32 else (fnS Z.S b (ix v)).toInt32, g.ovL (x + 28) 8 (fnS Z.S b))) 0
        (by
          intro f j a hj
          have e3 : ((8 : Int32) ≤ nI j) = False := eq_false (nI_ge (b := 8) hj (by omega))
          have e4 : ix (nI j) = j := ix_nI (by omega)
          have e5 : inb (nI j) 8 = True := eq_true ((inb_nI (by omega)).2 (by omega))
          have L1 : (g.ovL (x + 28) 8 (fnS Z.S b)).L (x + 28) j = fnS Z.S b j := L_ov_eq (by omega) ..
          simp only [F_X0_lot_L36, chk_true, bnd_some, ob_some, oc_some, oc_none, hl_eq, jn_eq, ix_0, ix_1, if_true, if_false, inb0_2, inb1_2, not_true_eq_false, not_false_eq_true, ite_true, ite_false, true_or, or_true, or_self, zero_eq_one_I, one_eq_zero_I, kind_ovL, len_ovL, R_ovL, xs_k0, xs_k1, xs_n1, xs_k2, xs_k3, xs_k4, xs_k5, xs_k6, xs_k7, xs_k8, xs_k9, xs_k10, xs_k11, xs_n11, xs_k12, xs_n12, xs_k13, xs_n13, xs_k14, xs_n14, xs_k15, xs_n15, xs_k16, xs_n16, xs_k17, xs_n17, xs_k18, xs_n18, xs_k27, xs_n27, xs_k28, xs_n28, xs_r0_0, xs_r0_1, xs_r2_8, xs_r2_9, xs_r0_2, xs_r0_3, xs_r0_4, xs_r0_8, xs_r0_9, xs_r0_10, xs_r0_18, xs_r0_19, xs_r0_20, xs_r0_21, xs_r0_22, xs_r0_25, xs_r0_26, xs_r0_27, xs_r0_28, HG, e3, e4, e5, L1, nI_1])
        (by
          intro f a
          have e3 : ((8 : Int32) ≤ nI 8) = True := eq_true (by decide)
          by_cases vm : v = -1
          · simp only [F_X0_lot_L36, chk_true, bnd_some, ob_some, oc_some, oc_none, hl_eq, jn_eq, ix_0, ix_1, if_true, if_false, inb0_2, inb1_2, not_true_eq_false, not_false_eq_true, ite_true, ite_false, true_or, or_true, or_self, zero_eq_one_I, one_eq_zero_I, e3, vm]
          · obtain ⟨k, hk, rfl⟩ := in_m1 (by omega) hv vm
            have e4 : ix (nI k) = k := ix_nI (by omega)
            have e5 : inb (nI k) 8 = True := eq_true ((inb_nI (by omega)).2 (by omega))
            have L1 : (g.ovL (x + 28) 8 (fnS Z.S b)).L (x + 28) k = fnS Z.S b k := L_ov_eq (by omega) ..
            have vm' := eq_false vm
            simp only [F_X0_lot_L36, chk_true, bnd_some, ob_some, oc_some, oc_none, hl_eq, jn_eq, ix_0, ix_1, if_true, if_false, inb0_2, inb1_2, not_true_eq_false, not_false_eq_true, ite_true, ite_false, true_or, or_true, or_self, zero_eq_one_I, one_eq_zero_I, kind_ovL, len_ovL, R_ovL, xs_k0, xs_k1, xs_n1, xs_k2, xs_k3, xs_k4, xs_k5, xs_k6, xs_k7, xs_k8, xs_k9, xs_k10, xs_k11, xs_n11, xs_k12, xs_n12, xs_k13, xs_n13, xs_k14, xs_n14, xs_k15, xs_n15, xs_k16, xs_n16, xs_k17, xs_n17, xs_k18, xs_n18, xs_k27, xs_n27, xs_k28, xs_n28, xs_r0_0, xs_r0_1, xs_r2_8, xs_r2_9, xs_r0_2, xs_r0_3, xs_r0_4, xs_r0_8, xs_r0_9, xs_r0_10, xs_r0_18, xs_r0_19, xs_r0_20, xs_r0_21, xs_r0_22, xs_r0_25, xs_r0_26, xs_r0_27, xs_r0_28, HG, e3, e4, e5, L1, vm']) n (by omega)
      have key' : F_X0_lot_L36 n K x v (g.ovL (x + 28) 8 (fnS Z.S b)) n 0 0 = some (if v = -1 then (foldS (fun j a => a + fnS Z.S b j) 0 8).toInt32 else (fnS Z.S b (ix v)).toInt32, g.ovL (x + 28) 8 (fnS Z.S b)) := key
      simp only [F_X0_lot, chk_true, bnd_some, ob_some, oc_some, oc_none, hl_eq, jn_eq, ix_0, ix_1, if_true, if_false, inb0_2, inb1_2, not_true_eq_false, not_false_eq_true, ite_true, ite_false, true_or, or_true, or_self, zero_eq_one_I, one_eq_zero_I, xs_k0, xs_k1, xs_n1, xs_k2, xs_k3, xs_k4, xs_k5, xs_k6, xs_k7, xs_k8, xs_k9, xs_k10, xs_k11, xs_n11, xs_k12, xs_n12, xs_k13, xs_n13, xs_k14, xs_n14, xs_k15, xs_n15, xs_k16, xs_n16, xs_k17, xs_n17, xs_k18, xs_n18, xs_k27, xs_n27, xs_k28, xs_n28, xs_r0_0, xs_r0_1, xs_r2_8, xs_r2_9, xs_r0_2, xs_r0_3, xs_r0_4, xs_r0_8, xs_r0_9, xs_r0_10, xs_r0_18, xs_r0_19, xs_r0_20, xs_r0_21, xs_r0_22, xs_r0_25, xs_r0_26, xs_r0_27, xs_r0_28, H, x_psize hn X, nc_if h20, x_in, hv, bI_0, Bool.true_eq_false, fl', key']
      rfl
