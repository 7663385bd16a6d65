/-! PURE PART SI: lot() of the sheet -/
set_option maxRecDepth 100000
theorem kind_ovL (h : AH) (a N : Nat) (f : Nat → Int64) : (h.ovL a N f).kind = h.kind := rfl
theorem len_ovL (h : AH) (a N : Nat) (f : Nat → Int64) : (h.ovL a N f).len = h.len := rfl
theorem R_ovL (h : AH) (a N : Nat) (f : Nat → Int64) : (h.ovL a N f).R = h.R := rfl
theorem I_ovL (h : AH) (a N : Nat) (f : Nat → Int64) : (h.ovL a N f).I = h.I := rfl
theorem neg_s (b k : Nat) : negB b (k + 1) = if b.testBit k = true then !negB b k else negB b k := rfl
theorem gc_s (S : St) (b k : Nat) : gcN S b (k + 1) = if b.testBit k = true then Nat.gcd (gcN S b k) (shZ S b k).natAbs else gcN S b k := rfl
theorem sh_of {S : St} (B : Bd S) {b : Nat} (hb : b < 256) (k : Nat) : (Int64.ofInt (shZ S b k)).toInt = shZ S b k := by
  have := sh_bd B hb k
  exact l_of (by omega) (by omega)
theorem gc_of {S : St} (B : Bd S) {b : Nat} (hb : b < 256) (k : Nat) : (lN (gcN S b k)).toInt = (gcN S b k : Int) := by
  have := gc_bd B hb k
  exact pk_lT (by omega)
theorem gc_step {S : St} (B : Bd S) {b : Nat} (hb : b < 256) (k : Nat) : Int.gcd (lN (gcN S b k)).toInt (Int64.ofInt (shZ S b k)).toInt = Nat.gcd (gcN S b k) (shZ S b k).natAbs := by
  rw [gc_of B hb, sh_of B hb]
  rfl
theorem gc_sm {S : St} (B : Bd S) {b : Nat} (hb : b < 256) (k : Nat) : sm (lN (gcN S b k)) ∧ sm (Int64.ofInt (shZ S b k)) := by
  have h1 := gc_bd B hb k
  have h2 := sh_bd B hb k
  unfold sm
  rw [gc_of B hb, sh_of B hb]
  omega
theorem x_hs14 {n : Nat} {K : Nat → Nat} {x : Nat} {g : AH} {S : St} (hn : 20000 < n) (B : Bd S) (G : GX x g S) {b : Nat} (hb : b < 2 ^ ncS S) (f0 : Nat → Int64) (kk : Int32 → Int32 → Int64 → AH → Option (Int32 × AH)) : F_X0_hasShares_L14 n K x (nI b) n 0 0 0 0 1 (g.ovL (x + 28) 8 f0) kk = kk (nI (mnN S b 8)) (nI (psN S b 8)) (lN (gcN S b 8)) (g.ovL (x + 28) 8 (fun j => Int64.ofInt (shZ S b j))) := by
  have c8 := nc8 S
  have p8 := pow8 c8
  have hb2 : b < 256 := by omega
  have H := G.1
  have k28 := xs_k28 H
  have n28 := xs_n28 H
  have key := loopU (fun f i (s : Int32 × Int32 × Int64 × Int64 × AH) => F_X0_hasShares_L14 n K x (nI b) f i s.1 s.2.1 s.2.2.1 s.2.2.2.1 s.2.2.2.2 kk) 8 (fun k s => s = (nI (mnN S b k), nI (psN S b k), lN (gcN S b k), Int64.ofInt (sgB (negB b k)), g.ovL (x + 28) 8 (fun j => if j < k then Int64.ofInt (shZ S b j) else f0 j))) (fun o => o = kk (nI (mnN S b 8)) (nI (psN S b 8)) (lN (gcN S b 8)) (g.ovL (x + 28) 8 (fun j => Int64.ofInt (shZ S b j))))
    (by
      intro f k s hk hs
      right
      refine ⟨_, rfl, ?_⟩
      subst hs
      have e1 : ix (nI k) = k := ix_nI (by omega)
      have e2 : inb (nI k) 8 = True := eq_true ((inb_nI (by omega)).2 hk)
      have e3 : ((8 : Int32) ≤ nI k) = False := eq_false (nI_ge (b := 8) hk (by omega))
      have bt := bit_all b (by omega) k (by omega)
      obtain ⟨fk, hfk⟩ : ∃ fk : Nat → Int64, fk = fun j => if j < k then Int64.ofInt (shZ S b j) else f0 j := ⟨_, rfl⟩
      rw [← hfk]
      have e14 : (g.ovL (x + 28) 8 fk).setL (x + 28) k 0 = g.ovL (x + 28) 8 (up1 fk k 0) := ovL_set hk ..
      show F_X0_hasShares_L14 n K x (nI b) (f + 1) (nI k) (nI (mnN S b k)) (nI (psN S b k)) (lN (gcN S b k)) (Int64.ofInt (sgB (negB b k))) (g.ovL (x + 28) 8 fk) kk = F_X0_hasShares_L14 n K x (nI b) f (nI (k + 1)) (nI (mnN S b (k + 1))) (nI (psN S b (k + 1))) (lN (gcN S b (k + 1))) (Int64.ofInt (sgB (negB b (k + 1)))) (g.ovL (x + 28) 8 (fun j => if j < k + 1 then Int64.ofInt (shZ S b j) else f0 j)) kk
      have fin : ∀ v, v = Int64.ofInt (shZ S b k) → ∀ w, g.ovL (x + 28) 8 (up1 (up1 fk k w) k v) = g.ovL (x + 28) 8 (fun j => if j < k + 1 then Int64.ofInt (shZ S b j) else f0 j) := by
        intro v hv w
        refine ovL_congr (fun j hj => ?_)
        unfold up1
        by_cases z : j = k
        · rw [if_pos z, if_pos (by omega), hv, z]
        · rw [if_neg z, if_neg z, hfk]
          show (if j < k then Int64.ofInt (shZ S b j) else f0 j) = _
          by_cases z2 : j < k
          · rw [if_pos z2, if_pos (by omega)]
          · rw [if_neg z2, if_neg (by omega)]
      rw [show mnN S b (k + 1) = mnN S b k + if (b.testBit k && decide (shZ S b k < 0)) = true then 1 else 0 from rfl, show psN S b (k + 1) = psN S b k + if (b.testBit k && decide (0 < shZ S b k)) = true then 1 else 0 from rfl, neg_s, gc_s]
      cases ht : b.testBit k
      · rw [ht] at bt
        have bt' : ((nI b >>> (nI k &&& 31)) &&& (1 : Int32)) = 0 := bt
        have s0 : shZ S b k = 0 := by unfold shZ; rw [ht]; rfl
        have fin0 := fin 0 (by rw [s0]; rfl) 0
        rw [← fin0]
        have e15 : g.ovL (x + 28) 8 (up1 (up1 fk k 0) k 0) = g.ovL (x + 28) 8 (up1 fk k 0) := ovL_congr (fun j hj => by unfold up1; split <;> rfl)
        rw [e15]
        simp only [F_X0_hasShares_L14, chk_true, bnd_some, ob_some, oc_some, oc_none, hl_eq, jn_eq, ix_0, ix_1, if_true, if_false, inb0_2, inb1_2, not_true_eq_false, not_false_eq_true, ite_true, ite_false, true_or, or_true, or_self, zero_eq_one_I, one_eq_zero_I, kind_ovL, len_ovL, R_ovL, xs_k0, xs_k1, xs_n1, xs_k2, xs_k3, xs_k4, xs_k5, xs_k6, xs_k7, xs_k8, xs_k9, xs_k10, xs_k11, xs_n11, xs_k12, xs_n12, xs_k13, xs_n13, xs_k14, xs_n14, xs_k15, xs_n15, xs_k16, xs_n16, xs_k17, xs_n17, xs_k18, xs_n18, xs_k27, xs_n27, xs_k28, xs_n28, xs_r0_0, xs_r0_1, xs_r2_8, xs_r2_9, xs_r0_2, xs_r0_3, xs_r0_4, xs_r0_8, xs_r0_9, xs_r0_10, xs_r0_18, xs_r0_19, xs_r0_20, xs_r0_21, xs_r0_22, xs_r0_25, xs_r0_26, xs_r0_27, xs_r0_28, H, e1, e2, e3, e14, bt', nI_1, Bool.false_and, Bool.false_eq_true, Nat.add_zero]
      · rw [ht] at bt
        have bt' : ((nI b >>> (nI k &&& 31)) &&& (1 : Int32)) = 1 := bt
        have cl := t8_clr b hb2 k hk
        have cp := t8_clr2 b hb2 k hk ht
        have cle := clr_le b k
        have pb := pop_le b (by omega) 8 (by omega) (by omega)
        have G2 : GX x (g.ovL (x + 28) 8 (up1 fk k 0)) S := G
        have pr := x_pairs (K := K) hn G2 8 (clrN b k) (by omega) (by omega)
        have hsh : Int64.ofInt (sgB (negB b k)) * Int64.ofInt (prZ (gnZ S) 8 (clrN b k)) = Int64.ofInt (shZ S b k) := by
          unfold shZ; rw [ht, if_pos rfl, l_pp]
        have e22 : (g.ovL (x + 28) 8 (up1 fk k 0)).setL (x + 28) k (Int64.ofInt (shZ S b k)) = g.ovL (x + 28) 8 (fun j => if j < k + 1 then Int64.ofInt (shZ S b j) else f0 j) := by
          rw [ovL_set hk]; exact fin _ rfl 0
        have L22 : (g.ovL (x + 28) 8 (fun j => if j < k + 1 then Int64.ofInt (shZ S b j) else f0 j)).L (x + 28) k = Int64.ofInt (shZ S b k) := by
          rw [L_ov_eq hk]; exact if_pos (by omega)
        obtain ⟨sm1, sm2⟩ := gc_sm B hb2 k
        have gc := x_common (n := n) (K := K) (h := g.ovL (x + 28) 8 (fun j => if j < k + 1 then Int64.ofInt (shZ S b j) else f0 j)) hn sm1 sm2
        rw [gc_step B hb2 k] at gc
        have so := sh_of B hb2 k
        have z0 : (0 : Int64).toInt = 0 := rfl
        simp only [F_X0_hasShares_L14, chk_true, bnd_some, ob_some, oc_some, oc_none, hl_eq, jn_eq, ix_0, ix_1, if_true, if_false, inb0_2, inb1_2, not_true_eq_false, not_false_eq_true, ite_true, ite_false, true_or, or_true, or_self, zero_eq_one_I, one_eq_zero_I, kind_ovL, len_ovL, R_ovL, xs_k0, xs_k1, xs_n1, xs_k2, xs_k3, xs_k4, xs_k5, xs_k6, xs_k7, xs_k8, xs_k9, xs_k10, xs_k11, xs_n11, xs_k12, xs_n12, xs_k13, xs_n13, xs_k14, xs_n14, xs_k15, xs_n15, xs_k16, xs_n16, xs_k17, xs_n17, xs_k18, xs_n18, xs_k27, xs_n27, xs_k28, xs_n28, xs_r0_0, xs_r0_1, xs_r2_8, xs_r2_9, xs_r0_2, xs_r0_3, xs_r0_4, xs_r0_8, xs_r0_9, xs_r0_10, xs_r0_18, xs_r0_19, xs_r0_20, xs_r0_21, xs_r0_22, xs_r0_25, xs_r0_26, xs_r0_27, xs_r0_28, H, e1, e2, e3, e14, bt', cl, pr, hsh, e22, L22, c_le, c_ge0, so, z0, gc, sgB_neg, nI_1, Bool.true_and]
        rcases Int.lt_trichotomy (shZ S b k) 0 with z | z | z
        · have z1 : ¬ (0 < shZ S b k) := by omega
          simp [z, z1, nI_1]
        · simp [z]
        · have z1 : ¬ (shZ S b k < 0) := by omega
          simp [z, z1, nI_1])
    (by
      intro f s hs
      have e3 : ((8 : Int32) ≤ nI 8) = True := eq_true (by decide)
      subst hs
      simp only [F_X0_hasShares_L14, chk_true, bnd_some, ob_some, oc_some, oc_none, hl_eq, jn_eq, ix_0, ix_1, if_true, if_false, inb0_2, inb1_2, not_true_eq_false, not_false_eq_true, ite_true, ite_false, true_or, or_true, or_self, zero_eq_one_I, one_eq_zero_I, e3]
      congr 1
      exact ovL_congr (fun j hj => if_pos hj))
  have e0 : g.ovL (x + 28) 8 f0 = g.ovL (x + 28) 8 (fun j => if j < 0 then Int64.ofInt (shZ S b j) else f0 j) := ovL_congr (fun j _ => (if_neg (by omega)).symm)
  rw [e0]
  exact key 8 0 _ n (by omega) (by omega) rfl
theorem x_hs152 {n : Nat} {K : Nat → Nat} {x : Nat} {g : AH} {S : St} (hn : 20000 < n) (B : Bd S) (G : GX x g S) {b : Nat} (hb : b < 2 ^ ncS S) (hg : 0 < gcN S b 8) : F_X0_hasShares_L152 n K (lN (gcN S b 8)) x n 0 (g.ovL (x + 28) 8 (fun j => Int64.ofInt (shZ S b j))) = some (1, g.ovL (x + 28) 8 (fnS S b)) := by
  have c8 := nc8 S
  have p8 := pow8 c8
  have hb2 : b < 256 := by omega
  have H := G.1
  have gb := gc_bd B hb2 8
  have key := loopU (fun f i (s : AH) => F_X0_hasShares_L152 n K (lN (gcN S b 8)) x f i s) 8 (fun k s => s = g.ovL (x + 28) 8 (fun j => if j < k then fnS S b j else Int64.ofInt (shZ S b j))) (fun o => o = some (1, g.ovL (x + 28) 8 (fnS S b)))
    (by
      intro f k s hk hs
      right
      refine ⟨_, rfl, ?_⟩
      subst hs
      have e1 : ix (nI k) = k := ix_nI (by omega)
      have e2 : inb (nI k) 8 = True := eq_true ((inb_nI (by omega)).2 hk)
      have e3 : ((8 : Int32) ≤ nI k) = False := eq_false (nI_ge (b := 8) hk (by omega))
      have g0 : (lN (gcN S b 8) = 0) = False := (lN_eq0 (by omega)).trans (eq_false (by omega))
      have sb := sh_bd B hb2 k
      have so := sh_of B hb2 k
      have L1 : (g.ovL (x + 28) 8 (fun j => if j < k then fnS S b j else Int64.ofInt (shZ S b j))).L (x + 28) k = Int64.ofInt (shZ S b k) := by
        rw [L_ov_eq hk]; exact if_neg (by omega)
      have ab := absL (a := Int64.ofInt (shZ S b k)) (by rw [so]; omega) (by rw [so]; omega)
      rw [so] at ab
      have dv : lN (shZ S b k).natAbs / lN (gcN S b 8) = fnS S b k := pk_lDiv (by omega) hg (by omega)
      have st : (g.ovL (x + 28) 8 (fun j => if j < k then fnS S b j else Int64.ofInt (shZ S b j))).setL (x + 28) k (fnS S b k) = g.ovL (x + 28) 8 (fun j => if j < k + 1 then fnS S b j else Int64.ofInt (shZ S b j)) := by
        rw [ovL_set hk]
        refine ovL_congr (fun j hj => ?_)
        unfold up1
        by_cases z : j = k
        · rw [if_pos z, if_pos (by omega), z]
        · rw [if_neg z]
          show (if j < k then fnS S b j else Int64.ofInt (shZ S b j)) = _
          by_cases z2 : j < k
          · rw [if_pos z2, if_pos (by omega)]
          · rw [if_neg z2, if_neg (by omega)]
      simp only [F_X0_hasShares_L152, chk_true, bnd_some, ob_some, oc_some, oc_none, hl_eq, jn_eq, ix_0, ix_1, if_true, if_false, inb0_2, inb1_2, not_true_eq_false, not_false_eq_true, ite_true, ite_false, true_or, or_true, or_self, zero_eq_one_I, one_eq_zero_I, kind_ovL, len_ovL, R_ovL, xs_k0, xs_k1, xs_n1, xs_k2, xs_k3, xs_k4, xs_k5, xs_k6, xs_k7, xs_k8, xs_k9, xs_k10, xs_k11, xs_n11, xs_k12, xs_n12, xs_k13, xs_n13, xs_k14, xs_n14, xs_k15, xs_n15, xs_k16, xs_n16, xs_k17, xs_n17, xs_k18, xs_n18, xs_k27, xs_n27, xs_k28, xs_n28, xs_r0_0, xs_r0_1, xs_r2_8, xs_r2_9, xs_r0_2, xs_r0_3, xs_r0_4, xs_r0_8, xs_r0_9, xs_r0_10, xs_r0_18, xs_r0_19, xs_r0_20, xs_r0_21, xs_r0_22, xs_r0_25, xs_r0_26, xs_r0_27, xs_r0_28, H, e1, e2, e3, g0, L1, ab, dv, st, nI_1])
    (by
      intro f s hs
      have e3 : ((8 : Int32) ≤ nI 8) = True := eq_true (by decide)
      subst hs
      simp only [F_X0_hasShares_L152, chk_true, bnd_some, ob_some, oc_some, oc_none, hl_eq, jn_eq, ix_0, ix_1, if_true, if_false, inb0_2, inb1_2, not_true_eq_false, not_false_eq_true, ite_true, ite_false, true_or, or_true, or_self, zero_eq_one_I, one_eq_zero_I, e3]
      rw [ovL_congr (fun j hj => if_pos hj)])
  have e0 : g.ovL (x + 28) 8 (fun j => Int64.ofInt (shZ S b j)) = g.ovL (x + 28) 8 (fun j => if j < 0 then fnS S b j else Int64.ofInt (shZ S b j)) := ovL_congr (fun j _ => (if_neg (by omega)).symm)
  rw [e0]
  exact key 8 0 _ n (by omega) (by omega) rfl
theorem x_isLots {n : Nat} {K : Nat → Nat} {x : Nat} {g : AH} {S : St} (hn : 20000 < n) (B : Bd S) (G : GX x g S) {b : Nat} (hb : b < 2 ^ ncS S) (b0 : 0 < b) (f0 : Nat → Int64) : ∃ f, F_X0_isLots n K x (nI b) (nI (ncS S)) (g.ovL (x + 28) 8 f0) = some (bI (lotB S b), g.ovL (x + 28) 8 f) ∧ (lotB S b = true → f = fnS S b) := by
  have c8 := nc8 S
  have p8 := pow8 c8
  have hb2 : b < 256 := by omega
  have H := G.1
  have k0 := xs_k0 H
  have bc := bc_pop b (by omega)
  have pl := pop_le b (by omega) 8 (by omega) (by omega)
  have pm := cn_le b (fun j => decide (shZ S b j < 0)) 8
  have pp := cn_le b (fun j => decide (0 < shZ S b j)) 8
  have q1 : (nI (psN S b 8) = nI (popN b)) = (psN S b 8 = popN b) := propext (nI_eq (by show cnN b _ 8 < _; omega) (by omega))
  have q2 : (nI (mnN S b 8) = nI (popN b)) = (mnN S b 8 = popN b) := propext (nI_eq (by show cnN b _ 8 < _; omega) (by omega))
  have hs : F_X0_hasShares n K x (nI b) (g.ovL (x + 28) 8 f0) = if okB S b = true then some (1, g.ovL (x + 28) 8 (fnS S b)) else some (0, g.ovL (x + 28) 8 (fun j => Int64.ofInt (shZ S b j))) := by
    unfold F_X0_hasShares
    rw [x_hs14 hn B G hb]
    simp only [bnd_some, bc_eq, bc, jn_eq, q1, q2]
    by_cases c : okB S b = true
    · rw [if_pos c, x_hs152 hn B G hb (ok_gc hb2 b0 c)]
      unfold okB at c
      rw [Bool.or_eq_true, decide_eq_true_iff, decide_eq_true_iff] at c
      by_cases c1 : psN S b 8 = popN b
      · rw [if_pos c1]
      · rw [if_neg c1, if_pos (c.resolve_left c1)]
    · rw [if_neg c]
      unfold okB at c
      rw [Bool.or_eq_true, decide_eq_true_iff, decide_eq_true_iff] at c
      rw [if_neg (fun z => c (Or.inl z)), if_neg (fun z => c (Or.inr z))]
  unfold lotB
  cases hok : okB S b
  · refine ⟨fun j => Int64.ofInt (shZ S b j), ?_, fun z => absurd z (by simp)⟩
    rw [hok] at hs
    have hs' : F_X0_hasShares n K x (nI b) (g.ovL (x + 28) 8 f0) = some (0, g.ovL (x + 28) 8 (fun j => Int64.ofInt (shZ S b j))) := hs
    simp only [F_X0_isLots, chk_true, bnd_some, ob_some, oc_some, oc_none, hl_eq, jn_eq, ix_0, ix_1, if_true, if_false, inb0_2, inb1_2, not_true_eq_false, not_false_eq_true, ite_true, ite_false, true_or, or_true, or_self, zero_eq_one_I, one_eq_zero_I, kind_ovL, k0, hs', Bool.false_and]
    rfl
  · refine ⟨fnS S b, ?_, fun _ => rfl⟩
    rw [hok] at hs
    have hs' : F_X0_hasShares n K x (nI b) (g.ovL (x + 28) 8 f0) = some (1, g.ovL (x + 28) 8 (fnS S b)) := hs
    have inner : ∀ i, i < ncS S → ∀ k, F_X0_isLots_L23 n K (nI i) x (nI (ncS S)) (g.ovL (x + 28) 8 (fnS S b)) n 0 0 k = k (lsS S b i) := by
      intro i hi k
      obtain ⟨r1, r2, r3⟩ := xs_row H (i := i) (by omega)
      have e1 : ix (nI i) = i := ix_nI (by omega)
      have e2 : inb (nI i) 8 = True := eq_true ((inb_nI (by omega)).2 (by omega))
      exact loopF (fun f j (a : Int64) => F_X0_isLots_L23 n K (nI i) x (nI (ncS S)) (g.ovL (x + 28) 8 (fnS S b)) f j a k) (ncS S) (fun j a => a + fnS S b j * Int64.ofInt (gnZ S i j)) k 0
        (by
          intro f j a hj
          have e3 : (nI (ncS S) ≤ nI j) = False := eq_false (nI_ge hj (by omega))
          have e4 : ix (nI j) = j := ix_nI (by omega)
          have e5 : inb (nI j) 8 = True := eq_true ((inb_nI (by omega)).2 (by omega))
          have L1 : (g.ovL (x + 28) 8 (fnS S b)).L (x + 28) j = fnS S b j := L_ov_eq (by omega) ..
          have gv := G.2 i j hi hj
          simp only [F_X0_isLots_L23, chk_true, bnd_some, ob_some, oc_some, oc_none, hl_eq, jn_eq, ix_0, ix_1, if_true, if_false, inb0_2, inb1_2, not_true_eq_false, not_false_eq_true, ite_true, ite_false, true_or, or_true, or_self, zero_eq_one_I, one_eq_zero_I, kind_ovL, len_ovL, R_ovL, I_ovL, xs_k0, xs_k1, xs_n1, xs_k2, xs_k3, xs_k4, xs_k5, xs_k6, xs_k7, xs_k8, xs_k9, xs_k10, xs_k11, xs_n11, xs_k12, xs_n12, xs_k13, xs_n13, xs_k14, xs_n14, xs_k15, xs_n15, xs_k16, xs_n16, xs_k17, xs_n17, xs_k18, xs_n18, xs_k27, xs_n27, xs_k28, xs_n28, xs_r0_0, xs_r0_1, xs_r2_8, xs_r2_9, xs_r0_2, xs_r0_3, xs_r0_4, xs_r0_8, xs_r0_9, xs_r0_10, xs_r0_18, xs_r0_19, xs_r0_20, xs_r0_21, xs_r0_22, xs_r0_25, xs_r0_26, xs_r0_27, xs_r0_28, H, e1, e2, e3, e4, e5, r1, r2, r3, L1, gv, gn_l, nI_1])
        (by
          intro f a
          have e3 : (nI (ncS S) ≤ nI (ncS S)) = True := eq_true (nI_le (Nat.le_refl _) (by omega))
          simp only [F_X0_isLots_L23, chk_true, bnd_some, ob_some, oc_some, oc_none, hl_eq, jn_eq, ix_0, ix_1, if_true, if_false, inb0_2, inb1_2, not_true_eq_false, not_false_eq_true, ite_true, ite_false, true_or, or_true, or_self, zero_eq_one_I, one_eq_zero_I, e3]) n (by omega)
    have key := loopG (fun f i => F_X0_isLots_L12 n K x (nI (ncS S)) (g.ovL (x + 28) 8 (fnS S b)) f i) (ncS S) (fun i => decide (0 < lsS S b i)) (fun _ => some (0, g.ovL (x + 28) 8 (fnS S b))) (some (1, g.ovL (x + 28) 8 (fnS S b)))
      (by
        intro f i hi
        have e3 : (nI (ncS S) ≤ nI i) = False := eq_false (nI_ge hi (by omega))
        have cl : (lg_cmp (lsS S b i) 0 ≤ 0) = ¬ (0 < lsS S b i) := by
          rw [c_le, Int64.lt_iff_toInt_lt]
        simp only [F_X0_isLots_L12, chk_true, bnd_some, ob_some, oc_some, oc_none, hl_eq, jn_eq, ix_0, ix_1, if_true, if_false, inb0_2, inb1_2, not_true_eq_false, not_false_eq_true, ite_true, ite_false, true_or, or_true, or_self, zero_eq_one_I, one_eq_zero_I, e3, inner i hi, cl, nI_1]
        by_cases c : 0 < lsS S b i
        · simp [c]
        · simp [c])
      (by
        intro f
        have e3 : (nI (ncS S) ≤ nI (ncS S)) = True := eq_true (nI_le (Nat.le_refl _) (by omega))
        simp only [F_X0_isLots_L12, chk_true, bnd_some, ob_some, oc_some, oc_none, hl_eq, jn_eq, ix_0, ix_1, if_true, if_false, inb0_2, inb1_2, not_true_eq_false, not_false_eq_true, ite_true, ite_false, true_or, or_true, or_self, zero_eq_one_I, one_eq_zero_I, e3]) n (by omega)
    have key' : F_X0_isLots_L12 n K x (nI (ncS S)) (g.ovL (x + 28) 8 (fnS S b)) n 0 = selS (findS (fun i => decide (0 < lsS S b i)) (ncS S) 0) (fun _ => some (0, g.ovL (x + 28) 8 (fnS S b))) (some (1, g.ovL (x + 28) 8 (fnS S b))) := key
    simp only [F_X0_isLots, chk_true, bnd_some, ob_some, oc_some, oc_none, hl_eq, jn_eq, ix_0, ix_1, if_true, if_false, inb0_2, inb1_2, not_true_eq_false, not_false_eq_true, ite_true, ite_false, true_or, or_true, or_self, zero_eq_one_I, one_eq_zero_I, kind_ovL, k0, hs', key', Bool.true_and]
    cases findS (fun i => decide (0 < lsS S b i)) (ncS S) 0 <;> rfl
