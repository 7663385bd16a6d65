/-! arraycopy of objects; class objects -/
theorem AH.R_cpyR (h : AH) (a sp b dp m c j : Nat) : (h.cpyR a sp b dp m).R c j = if c = b then va_cpy (h.R a) (h.R b) sp dp m j else h.R c j := by
  show (up1 h.2.2.2.2.2 b (va_cpy (h.2.2.2.2.2 a) (h.2.2.2.2.2 b) sp dp m)) c j = _
  unfold up1 AH.R
  split <;> rfl
theorem AH.n_cpyR (h : AH) (a sp b dp m : Nat) : (h.cpyR a sp b dp m).n = h.n := rfl
theorem AH.sl_cpyR (h : AH) (a sp b dp m : Nat) : (h.cpyR a sp b dp m).sl = h.sl := rfl
theorem AH.kind_cpyR (h : AH) (a sp b dp m : Nat) : (h.cpyR a sp b dp m).kind = h.kind := rfl
theorem AH.len_cpyR (h : AH) (a sp b dp m : Nat) : (h.cpyR a sp b dp m).len = h.len := rfl
theorem AH.I_cpyR (h : AH) (a sp b dp m : Nat) : (h.cpyR a sp b dp m).I = h.I := rfl
theorem AH.L_cpyR (h : AH) (a sp b dp m : Nat) : (h.cpyR a sp b dp m).L = h.L := rfl
theorem fv_cpyR (h : AH) (a sp b dp m : Nat) {c : Nat} (hc : c ≠ b) (i : Nat) (ty : FieldType) : fv (h.cpyR a sp b dp m) c i ty = fv h c i ty := by
  have e : (h.cpyR a sp b dp m).R c i = h.R c i := by rw [AH.R_cpyR, if_neg hc]
  cases ty <;> simp only [fv] <;> first | rfl | rw [e]
/-- an element that may stand in an array of objects here -/
def okE (h : AH) (r : Option Nat) : Bool := match r with
  | none => true
  | some y => decide (7 ≤ h.kind y ∧ h.kind y ≤ 14)
section CPY
variable {G : Gl} {own nm : String} {cc : ByteArray} {nL : Nat} {rt : Option FieldType} {d : Nat} {α : Type} {cv : α → Outcome} {pc : Nat} {L : List (Nat × Value)} {st stk : List Value} {h : AH} {f : Option (α × AH)}
theorem s_ldcM {K : Nat → Nat} {idx : Nat} (hd : decode cc pc = .ok (.ldc idx, 2)) (hw : Cond.classLink own idx "[Ljava/lang/Object;" ∈ lw_all) (hK : K = G.ad) (k : Sim G own nm cc nL rt d cv (pc + 2) L (.ref (K 203) :: st) h f) : Sim G own nm cc nL rt d cv pc L st h f :=
  Sim.rd k (fun C hR kw => va_ldcM C.hx C.hb C.ow (C.ts _ hw) (by rw [hK]; exact C.gl.2.2.2.2.2.2.2.2.2.2.2) hd kw)
theorem s_getC {K : Nat → Nat} {idx a : Nat} (hd : decode cc pc = .ok (.invokevirtual idx, 3)) (hd1 : 1 ≤ d) (w1 : Cond.methodLink own idx ⟨"java/lang/Object", "getClass", "()Ljava/lang/Class;"⟩ ∈ lw_all) (w2 : Cond.instanceMethod ⟨"java/lang/Object", "getClass", "()Ljava/lang/Class;"⟩ ∈ lw_all) (w3 : Cond.native ⟨"java/lang/Object", "getClass", "()Ljava/lang/Class;"⟩ ∈ lw_all) (hK : K = G.ad) (hk : h.kind a = 34) (h8 : (st.map fun v => v.category).sum ≤ 8)
    (k : Sim G own nm cc nL rt d cv (pc + 3) L (.ref (K 203) :: st) h f) : Sim G own nm cc nL rt d cv pc L (.ref a :: st) h f := by
  subst hK
  intro r h' hf
  obtain ⟨g1, g2⟩ := k r h' hf
  refine ⟨g1, fun p e s m args below meth c R C a1 a2 n0 s0 b1 b2 b3 b4 H locs ls hR hlo hL => ?_⟩
  have hK2 : aTy (h.kind a) = some (.object "java/lang/Object") := by rw [hk]; rfl
  obtain ⟨cell, q1, q2, q3, q4, q5, q6⟩ := hR.arr hK2
  have hfs := q4 rfl
  rw [← (C.alike).findClass] at hfs
  exact va_getC C.hx C.hb (C.2.2.2.1.trans hL.1.1.symm) C.ow (C.ts _ w1) (va_Nw.use rfl (C.gl.2.2.2.2.2.1 _ q1788)) (C.ts _ q1787) (C.ts _ w2) (C.ts _ w3) (mi := G.ad 203) C.gl.2.2.2.2.2.2.2.2.2.2.2 ⟨cell, q1, (by cases hv : cell.vm <;> first | rfl | exact absurd hv (q2.1 _)), hfs⟩ (by omega) (by omega) hd (g2 p e s m args below meth c R C a1 a2 n0 s0 b1 b2 b3 b4 H locs ls hR hlo hL)
theorem s_acopy {idx a b : Nat} {sp dp n : Int32} (hd : decode cc pc = .ok (.invokestatic idx, 3)) (hd1 : 1 ≤ d) (w1 : Cond.methodLink own idx arraycopyName ∈ lw_all) (w2 : Cond.native arraycopyName ∈ lw_all) (w3 : Cond.static arraycopyName ∈ lw_all) (w4 : Cond.initialized "java/lang/System" ∈ lw_all) (ha : h.kind a = 34) (hb : h.kind b = 34)
    (hc : (0 ≤ sp.toInt ∧ 0 ≤ dp.toInt ∧ 0 ≤ n.toInt) ∧ ix sp + ix n ≤ h.len a ∧ ix dp + ix n ≤ h.len b) (he : ∀ i, i < ix n → okE h (h.R a (ix sp + i)) = true) (h8 : (st.map fun v => v.category).sum ≤ 8)
    (k : Sim G own nm cc nL rt d cv (pc + 3) L st (h.cpyR a (ix sp) b (ix dp) (ix n)) f) : Sim G own nm cc nL rt d cv pc L (.int n :: .int dp :: .ref b :: .int sp :: .ref a :: st) h f := by
  obtain ⟨⟨p1, p2, p3⟩, p4, p5⟩ := hc
  have nl : ∀ z : Int32, 0 ≤ z.toInt → ¬ z < 0 := fun z hz => by rw [Int32.lt_iff_toInt_lt, Int32.toInt_zero]; omega
  have nn : ∀ z : Int32, 0 ≤ z.toInt → z.toInt = (ix z : Int) := fun z hz => by
    show z.toInt = ((z.toInt.toNat : Nat) : Int)
    omega
  have hKa : aTy (h.kind a) = some (.object "java/lang/Object") := by rw [ha]; rfl
  have hKb : aTy (h.kind b) = some (.object "java/lang/Object") := by rw [hb]; rfl
  intro r h' hf
  obtain ⟨g1, g2⟩ := k r h' hf
  refine ⟨g1, fun p e s m args below meth c R C a1 a2 n0 s0 b1 b2 b3 b4 H locs ls hR hlo hL => ?_⟩
  obtain ⟨cs, c1, c2, c3, c4, c5, c6⟩ := hR.arr hKa
  obtain ⟨cd, e1, e2, e3, e4, e5, e6⟩ := hR.arr hKb
  obtain ⟨comp, cA, kA, f1, -, f3, f4, f5⟩ := Cond.arrayOver_spec (C.gl.2.2.2.2.2.2.2.1 _ q690)
  have hfa := c4 rfl
  rw [← (C.alike).findClass] at hfa
  have hfb := e4 rfl
  rw [← (C.alike).findClass] at hfb
  have ea : cA = cs.cls := Option.some.inj (f5.symm.trans hfa)
  have eb : cs.cls = cd.cls := Option.some.inj (hfa.symm.trans hfb)
  intro T hT X
  have hsl : ∀ i, i < ix n → cs.slots.getD (ix sp + i) .null = va_rf (h.R a (ix sp + i)) := fun i hi => by
    rw [Array.getD_eq_getD_getElem?, c6 _ (by omega)]
    rfl
  obtain ⟨vm', X', step⟩ := X.arraycopy C.hx C.ow (C.ts _ w1) (C.ts _ w2) (C.ts _ w3) (C.ts _ w4) (src := a) (dst := b) (cs := cs) (cd := cd) (srcPos := sp) (destPos := dp) (n := n) (by rw [hT]; exact c1) (by rw [hT]; exact e1)
    c2.1 e2.1 c3 e3 (by rw [← ea]; exact f3) (by rw [← eb, ← ea]; exact f3) f4 f4 rfl (nl _ p1) (nl _ p2) (nl _ p3)
    (by rw [nn sp p1, nn n p3]; have := c5.1; omega) (by rw [nn dp p2, nn n p3]; have := e5.1; omega)
    (fun vm₁ hal i hi => by
      have hsl2 : cs.slots.getD (sp.toNatClampNeg + i) .null = va_rf (h.R a (ix sp + i)) := hsl i hi
      rw [hsl2]
      have hoe := he i hi
      cases hy : h.R a (ix sp + i) with
      | none => exact ⟨rfl, trivial⟩
      | some y =>
        rw [hy] at hoe
        have hv : 7 ≤ h.kind y ∧ h.kind y ≤ 14 := of_decide_eq_true hoe
        obtain ⟨kk, ek⟩ : ∃ kk, h.kind y = kk + 1 := ⟨h.kind y - 1, by omega⟩
        obtain ⟨q, hcq⟩ : ∃ q, cT[kk]? = some q := ⟨cT[kk]'(by show kk < 14; omega), List.getElem?_eq_getElem _⟩
        obtain ⟨cellV, v1, v2, v3⟩ := hR.recv C ek hcq
        obtain ⟨x1, x2, y1, y2, y3⟩ := Cond.castable_spec (va_Nw.use (A := #[]) rfl (C.gl.2.2.2.2.1 _ _ (castO (by omega) hcq)))
        have z1 : x2 = comp := Option.some.inj (y2.symm.trans f1)
        have z2 : x1 = cellV.cls := Option.some.inj (y1.symm.trans v3)
        obtain ⟨kC, hkC⟩ := Vm.classAt_of_findClass v3
        obtain ⟨kE, hkE⟩ := Vm.classAt_of_findClass f1
        obtain ⟨kC', hkC', -⟩ := hal.2.2 _ _ hkC
        obtain ⟨kE', hkE', -⟩ := hal.2.2 _ _ hkE
        refine ⟨rfl, cellV, (show T.heap[y]? = some cellV by rw [hT]; exact v1), (fun q h => by rw [h] at v2; cases v2), ⟨kC', hkC'⟩, ⟨kE', hkE'⟩, ?_⟩
        show vm₁.assignable _ _ = true
        rw [hal.assignable, ← z1, ← z2]
        exact y3)
    (g := F0 m pc ls (.int n :: .int dp :: .ref b :: .int sp :: .ref a :: st)) rfl (by rw [C.2.2.2.1]; exact hL.1.1) (rest := st) rfl (by rw [C.hb]; exact hd) (by omega) (by
      have hw : nativeFrameWords "java/lang/System" "arraycopy" 5 ≤ 40 := by decide
      show 2 * 0 + _ + _ ≤ _
      omega)
  have hlb : b < H.size := (Array.getElem?_eq_some_iff.mp e1).1
  have hbase : G.base ≤ b := hR.base (by omega) (by omega) (by omega)
  have hlen : (cs.stretch sp.toNatClampNeg n.toNatClampNeg).length = ix n := by
    unfold Cell.stretch
    rw [List.length_map, List.length_range]
    rfl
  have hcop : copied cs cd sp dp n = cd.storeRun (ix dp) (cs.stretch (ix sp) (ix n)) := rfl
  obtain ⟨k1, k2, k3, -, -⟩ := cd.storeRun_facts (ix dp) (cs.stretch (ix sp) (ix n))
  have hR' : Rep G (h.cpyR a (ix sp) b (ix dp) (ix n)) (H.setIfInBounds b (copied cs cd sp dp n)) := by
    refine hR.upd hbase rfl rfl rfl (fun c hc i ty => fv_cpyR h a _ b _ _ hc i ty) (by simp) (fun q hq => by simp [Array.getElem?_setIfInBounds, Ne.symm hq]) (by omega) (fun k' q' hk' hc' => ?_) (fun ty hty => ?_)
    · have := cT_lt hc'
      omega
    · cases hKb.symm.trans hty
      refine ⟨copied cs cd sp dp n, by simp [Array.getElem?_setIfInBounds, hlb], ?_, ?_, ?_, ?_, fun j hj => ?_⟩
      · refine ⟨fun q => ?_, ?_⟩
        · rw [hcop, k2]; exact e2.1 q
        · rw [hcop, k1]; exact e2.2
      · rw [hcop, k2]; exact e3
      · intro _
        rw [hcop, k1]; exact e4 rfl
      · rw [hcop, k3]; exact e5
      · have hj : j < h.len b := hj
        have hlen' : (cs.stretch (ix sp) (ix n)).length = ix n := hlen
        rw [hcop, cd.storeRun_get (ix dp) _ j (by rw [hlen']; have := e5.1; omega)]
        show _ = some (va_rf ((h.cpyR a (ix sp) b (ix dp) (ix n)).R b j))
        rw [AH.R_cpyR, if_pos rfl, hlen']
        unfold va_cpy
        by_cases hin : ix dp ≤ j ∧ j < ix dp + ix n
        · rw [if_pos hin, if_pos hin]
          unfold Cell.stretch
          rw [List.getElem?_map, List.getElem?_range (by omega)]
          show some (cs.slots.getD (ix sp + (j - ix dp)) .null) = _
          rw [hsl _ (by omega)]
        · rw [if_neg hin, if_neg hin]
          exact e6 j hj
  obtain ⟨t, t1, t2⟩ := g2 p e s m args below meth c R C a1 a2 n0 s0 b1 b2 b3 b4 _ _ ls hR' (fun q hq => by
      rcases List.mem_append.mp hq with z | z
      · exact hlo q z
      · obtain ⟨w, -, hw⟩ := List.mem_map.mp z
        rw [← hw]
        exact hbase) hL _ (by rw [← hT]; rfl) X'
  exact ⟨t, step t t1, t2⟩
end CPY
