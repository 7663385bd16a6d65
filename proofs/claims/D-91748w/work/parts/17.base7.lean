/-! FURTHER ROWS: shifts of longs, compares of references, arrays of references, Strings -/
theorem catI (v : Int32) : (Value.int v).category = 1 := rfl
theorem catL (v : Int64) : (Value.long v).category = 2 := rfl
theorem catA (v : Nat) : (Value.ref v).category = 1 := rfl
theorem nar_ok {ty : FieldType} {v : Int32} (hy : ∃ y, narrow ty (.int v) = .int y) (h : vp_nar ty v = v) : narrow ty (.int v) = .int v := by
  obtain ⟨y, e⟩ := hy
  unfold vp_nar at h
  rw [e] at h ⊢
  exact congrArg _ h
section MORE
variable {G : Gl} {own nm : String} {cc : ByteArray} {nL : Nat} {rt : Option FieldType} {d : Nat} {α : Type} {cv : α → Outcome} {pc : Nat} {L : List (Nat × Value)} {st stk : List Value} {h : AH} {f : Option (α × AH)}
theorem s_lshr {x : Int64} {y : Int32} (hd : decode cc pc = .ok (.lshr, 1)) (k : Sim G own nm cc nL rt d cv (pc + 1) L (.long (x >>> (y.toInt64 &&& 63)) :: st) h f) : Sim G own nm cc nL rt d cv pc L (.int y :: .long x :: st) h f :=
  Sim.lift k (fun C hL kk => lv_lshr C.1 C.2.1 hd rfl (kk _ hL))
theorem s_lushr {x : Int64} {y : Int32} (hd : decode cc pc = .ok (.lushr, 1)) (k : Sim G own nm cc nL rt d cv (pc + 1) L (.long ((x.toUInt64 >>> (y.toInt64.toUInt64 &&& Int64.toUInt64 63)).toInt64) :: st) h f) : Sim G own nm cc nL rt d cv pc L (.int y :: .long x :: st) h f :=
  Sim.lift k (fun C hL kk => lv_lushr C.1 C.2.1 hd rfl (kk _ hL))
theorem s_acmp_eq {rx ry : Option Nat} {off : Int} {f1 f2 : Option (α × AH)} (tgt : Nat) {inst : Decidable (rx = ry)} (hd : decode cc pc = .ok (.if_acmp .eq off, 3)) (ht : (pc : Int) + off = (tgt : Int)) (k1 : (rx = ry) → Sim G own nm cc nL rt d cv tgt L st h f1) (k2 : ¬ (rx = ry) → Sim G own nm cc nL rt d cv (pc + 3) L st h f2) : Sim G own nm cc nL rt d cv pc L (va_rf ry :: va_rf rx :: st) h (@ite _ (rx = ry) inst f1 f2) := by
  by_cases hc : rx = ry
  · rw [if_pos hc]
    exact Sim.lift (k1 hc) (fun C hL kk => lv_acmp_eq C.1 C.2.1 hd ht (fun _ => kk _ hL) (fun q => absurd hc q))
  · rw [if_neg hc]
    exact Sim.lift (k2 hc) (fun C hL kk => lv_acmp_eq C.1 C.2.1 hd ht (fun q => absurd q hc) (fun _ => kk _ hL))
theorem s_acmp_ne {rx ry : Option Nat} {off : Int} {f1 f2 : Option (α × AH)} (tgt : Nat) {inst : Decidable (¬ rx = ry)} (hd : decode cc pc = .ok (.if_acmp .ne off, 3)) (ht : (pc : Int) + off = (tgt : Int)) (k1 : (¬ rx = ry) → Sim G own nm cc nL rt d cv tgt L st h f1) (k2 : ¬ (¬ rx = ry) → Sim G own nm cc nL rt d cv (pc + 3) L st h f2) : Sim G own nm cc nL rt d cv pc L (va_rf ry :: va_rf rx :: st) h (@ite _ (¬ rx = ry) inst f1 f2) := by
  by_cases hc : rx = ry
  · rw [if_neg (fun q => q hc)]
    exact Sim.lift (k2 (fun q => q hc)) (fun C hL kk => lv_acmp_ne C.1 C.2.1 hd ht (fun q => absurd hc q) (fun _ => kk _ hL))
  · rw [if_pos hc]
    exact Sim.lift (k1 hc) (fun C hL kk => lv_acmp_ne C.1 C.2.1 hd ht (fun _ => kk _ hL) (fun q => absurd q hc))
theorem s_alenO {a : Nat} (hd : decode cc pc = .ok (.arraylength, 1)) (hk : h.kind a = 34 ∨ h.kind a = 44) (k : Sim G own nm cc nL rt d cv (pc + 1) L (.int (nI (h.len a)) :: st) h f) : Sim G own nm cc nL rt d cv pc L (.ref a :: st) h f := by
  rcases hk with hk | hk
  · exact s_alen hd hk rfl k
  · exact s_alen hd hk rfl k
theorem s_anewO {idx : Nat} {n : Int32} (hd : decode cc pc = .ok (.anewarray idx, 3)) (hw : Cond.classLink own idx "java/lang/Object" ∈ lw_all) (hn : 0 ≤ n.toInt ∧ n.toInt ≤ 60000000)
    (k : Sim G own nm cc nL rt d cv (pc + 3) L (.ref h.n :: st) (h.new 34 (ix n) (ix n)) f) : Sim G own nm cc nL rt d cv pc L (.int n :: st) h f :=
  s_anew 34 hd rfl (by decide) hw (fun s hg => hg.2.2.2.2.2.2.2.1 _ q690) hn.1 (by have := ix_le hn; omega) k
theorem s_aastN {a : Nat} {i : Int32} (hd : decode cc pc = .ok (.aastore, 1)) (hk : h.kind a = 34) (hi : inb i (h.len a)) (k : Sim G own nm cc nL rt d cv (pc + 1) L st (h.setR a (ix i) none) f) : Sim G own nm cc nL rt d cv pc L (va_rf none :: .int i :: .ref a :: st) h f := by
  have hK : aTy (h.kind a) = some (.object "java/lang/Object") := by rw [hk]; rfl
  refine Sim.wr (a := a) (h1 := h.setR a (ix i) none) rfl rfl k (fun C hR kw => ?_) (fun H hR => hR.base (by omega) (by omega) (by omega))
  obtain ⟨cell, q1, q2, q3, q4, q5, q6⟩ := hR.arr hK
  exact va_WaastN C.hx C.hb q1 (State.isArrayOf_alike C.alike q2) q3 (hi.vp2 q5.1) rfl rfl hd fun H' e1 e2 e3 => kw H' _ (hR.ast hK (by omega) (Upd.r (fun _ => rfl)) hi.lt ⟨q2, q3, q4, q5, q6⟩ e1 e2 e3)
theorem castO {k : Nat} (h1 : 7 ≤ k + 1 ∧ k + 1 ≤ 14) {q : vw_C × (Nat → FieldType)} (hc : cT[k]? = some q) : Cond.castable q.1.1 "java/lang/Object" ∈ lw_tbl := by
  have hk : k = 6 ∨ k = 7 ∨ k = 8 ∨ k = 9 ∨ k = 10 ∨ k = 11 ∨ k = 12 ∨ k = 13 := by omega
  rcases hk with rfl | rfl | rfl | rfl | rfl | rfl | rfl | rfl
  · have e := Option.some.inj hc
    subst e
    exact q1777
  · have e := Option.some.inj hc
    subst e
    exact q1778
  · have e := Option.some.inj hc
    subst e
    exact q1779
  · have e := Option.some.inj hc
    subst e
    exact q1780
  · have e := Option.some.inj hc
    subst e
    exact q1781
  · have e := Option.some.inj hc
    subst e
    exact q1782
  · have e := Option.some.inj hc
    subst e
    exact q1783
  · have e := Option.some.inj hc
    subst e
    exact q1784
theorem s_aast {a v : Nat} {i : Int32} (hd : decode cc pc = .ok (.aastore, 1)) (hk : h.kind a = 34) (hi : inb i (h.len a)) (hv : 7 ≤ h.kind v ∧ h.kind v ≤ 14) (k : Sim G own nm cc nL rt d cv (pc + 1) L st (h.setR a (ix i) (some v)) f) : Sim G own nm cc nL rt d cv pc L (.ref v :: .int i :: .ref a :: st) h f := by
  have hK : aTy (h.kind a) = some (.object "java/lang/Object") := by rw [hk]; rfl
  refine Sim.wr (a := a) (h1 := h.setR a (ix i) (some v)) rfl rfl k (fun C hR kw => ?_) (fun H hR => hR.base (by omega) (by omega) (by omega))
  obtain ⟨cell, q1, q2, q3, q4, q5, q6⟩ := hR.arr hK
  obtain ⟨kk, ek⟩ : ∃ kk, h.kind v = kk + 1 := ⟨h.kind v - 1, by omega⟩
  obtain ⟨q, hc⟩ : ∃ q, cT[kk]? = some q := ⟨cT[kk]'(by show kk < 14; omega), List.getElem?_eq_getElem _⟩
  obtain ⟨cv', c1, c2, c3⟩ := hR.recv C ek hc
  obtain ⟨x1, x2, y1, y2, y3⟩ := Cond.castable_spec (va_Nw.use (A := #[]) rfl (C.gl.2.2.2.2.1 _ _ (castO (by omega) hc)))
  obtain ⟨comp, cA, kA, f1, -, f3, f4, f5⟩ := Cond.arrayOver_spec (C.gl.2.2.2.2.2.2.2.1 _ q690)
  have hfc := q4 rfl
  have hfs := hfc
  rw [← (C.alike).findClass] at hfs
  have hcA : cA = cell.cls := Option.some.inj (f5.symm.trans hfs)
  have hco : x2 = comp := Option.some.inj (y2.symm.trans f1)
  have hcv : x1 = cv'.cls := Option.some.inj (y1.symm.trans c3)
  obtain ⟨kv, hkv⟩ := Vm.classAt_of_findClass c3
  obtain ⟨kcomp, hkc⟩ := Vm.classAt_of_findClass f1
  have hin := hi.vp2 q5.1
  exact W.aast C.hx C.hb q1 q2.1 q3 (by rw [← hcA]; exact f3) f4 rfl hkc ⟨fun q => hin (Or.inl q), Nat.not_le.mp fun q => hin (Or.inr q)⟩ c1 (fun q e => by rw [e] at c2; cases c2) hkv (by rw [← hcv, ← hco]; exact y3) rfl rfl hd fun H' e1 e2 e3 => kw H' _ (hR.ast hK (by omega) (Upd.r (fun _ => rfl)) hi.lt ⟨q2, q3, q4, q5, q6⟩ e1 e2 e3)
/-- a String's own fields -/
theorem s_getStrV {a idx : Nat} (hd : decode cc pc = .ok (.getfield idx, 3)) (hk : h.kind a = 20) (hw : Cond.fieldLink own idx "java/lang/String" "value" "[B" ∈ lw_all) (k : Sim G own nm cc nL rt d cv (pc + 3) L (va_rf (h.R a 0) :: st) h f) : Sim G own nm cc nL rt d cv pc L (.ref a :: st) h f :=
  Sim.rd k (fun C hR kw => by
    obtain ⟨i, i1, rfl, i3, i4⟩ := hR.2.2.2.2.2.2.2 a hk
    obtain ⟨cf, k, fi, fd, cell, g1, g2, g3, g4, g5, g6⟩ := ((C.gl.2.2.2.2.2.2.2.2.2.2.1).1 i i1).2.2.1
    rw [i3] at kw
    exact W.getf C.hx C.hb C.ow (C.ts _ hw) g1 g2 (by rw [hR.2.2.2.1 _ (Nat.not_le.mp g6)]; exact g3) g4 (v := .ref _) g5 rfl rfl hd kw)
theorem s_getStrC {a idx : Nat} (hd : decode cc pc = .ok (.getfield idx, 3)) (hk : h.kind a = 20) (hw : Cond.fieldLink own idx "java/lang/String" "coder" "B" ∈ lw_all) (k : Sim G own nm cc nL rt d cv (pc + 3) L (.int (h.I a 1) :: st) h f) : Sim G own nm cc nL rt d cv pc L (.ref a :: st) h f :=
  Sim.rd k (fun C hR kw => by
    obtain ⟨i, i1, rfl, i3, i4⟩ := hR.2.2.2.2.2.2.2 a hk
    obtain ⟨cf, k, fi, fd, cell, g1, g2, g3, g4, g5, g6⟩ := ((C.gl.2.2.2.2.2.2.2.2.2.2.1).1 i i1).2.1
    rw [i4] at kw
    exact W.getf C.hx C.hb C.ow (C.ts _ hw) g1 g2 (by rw [hR.2.2.2.1 _ (Nat.not_le.mp g6)]; exact g3) g4 (v := .int 0) g5 rfl rfl hd kw)
theorem s_ldcS {K : Nat → Nat} {idx : Nat} {tx : String} (hd : decode cc pc = .ok (.ldc idx, 2)) (i : Nat) (hq : strTab[i]? = some (own, idx, tx)) (hK : K = G.ad) (k : Sim G own nm cc nL rt d cv (pc + 2) L (.ref (K (i + 1)) :: st) h f) : Sim G own nm cc nL rt d cv pc L st h f :=
  Sim.rd k (fun C hR kw => va_ldcS C.hx C.hb C.ow (by rw [hK]; exact C.gl.2.2.2.2.2.2.2.2.2.1 i _ hq) hd kw)
theorem Rep.recvS {p : Program} {s : State} {m : MethodId} {args : Array Value} {meth : Method} {c : Code} (C : Cx G own nm cc nL rt p s m args meth c) {H : Heap} {a : Nat} (hR : Rep G h H) (hk : h.kind a = 20) : ∃ cell : Cell, H[a]? = some cell ∧ cell.vm.isStatics = false ∧ s.vm.findClass "java/lang/String" = some cell.cls := by
  obtain ⟨i, i1, rfl, i3, i4⟩ := hR.2.2.2.2.2.2.2 a hk
  obtain ⟨cell, g1, g2, g3, g4⟩ := ((C.gl.2.2.2.2.2.2.2.2.2.2.1).1 i i1).1
  exact ⟨cell, by rw [hR.2.2.2.1 _ (Nat.not_le.mp g4)]; exact g1, g2, g3⟩
variable {y : MethodName} {cc' : ByteArray} {nL' : Nat} {rt' : Option FieldType} {d' : Nat}
/-- a call through a String -/
theorem s_callStr {fc : Option (Int32 × AH)} {g : Int32 → AH → Option (α × AH)} {idx n a : Nat} {As : List Value} (ok : OkM G y cc' nL' rt' d' cvI (.ref a :: As) h fc) (hd' : d' + 1 ≤ d) (hn' : nL' ≤ 80) (hd : decode cc pc = .ok (.invokevirtual idx, 3)) (hk : h.kind a = 20) (hyc : y.cls = "java/lang/String") (w1 : Cond.methodLink own idx y ∈ lw_all) (w2 : Cond.instanceMethod y ∈ lw_all) (w2' : Cond.selects "java/lang/String" y y ∈ lw_all) (w3 : Cond.initialized "java/lang/String" ∈ lw_all) (w4 : Cond.code y cc' nL' rt' ∈ lw_all)
    (hy : y.cls ≠ "java/lang/invoke/MethodHandle" ∧ y.cls ≠ "java/lang/invoke/VarHandle" ∧ (parseMethodDescriptor y.desc).map (fun d => d.parameters.length) = some n) (hn : As.length = n) (hst : stk = As.reverse ++ .ref a :: st) (h8 : (st.map fun v => v.category).sum ≤ 8)
    (k : ∀ (r : Int32) h1, Sim G own nm cc nL rt d cv (pc + 3) L (.int r :: st) h1 (g r h1)) : Sim G own nm cc nL rt d cv pc L stk h (bnd fc g) :=
  Sim.call (fun r => some (.int r)) (fun _ => rfl) ok hd' k (fun C hR hls hf hl hM hP hc2 => va_runV (cx_fix C) hM (cwV n C.ts (lw_V w1 w2 w2' w3 w4) rfl rfl rfl ⟨hyc, hy⟩ ⟨by show d' + 1 ≤ _; omega, by show 8 + (nL' + 11) + 100 * d' ≤ _; omega⟩) ⟨PcA.blind, hR.recvS C hk, hP⟩ rfl hn hls hst (lv_room h8) hd hc2)
/-- a row that asks for room -/
theorem Sim.lift2 {pc' : Nat} {st' : List Value} (k : Sim G own nm cc nL rt d cv pc' L st' h f)
    (row : ∀ {p : Program} {e : Env} {s : State} {m : MethodId} {args : Array Value} {below : List Frame} {meth : Method} {c : Code} {R : Room} {H : Heap} {locs : List Loc} {cells slots : Nat} {Q : State → Prop} {ls : Array Slot},
      Cx G own nm cc nL rt p s m args meth c → ls.size = nL → d ≤ R.frames → 100 * d ≤ R.locals → cells ≤ R.cells → slots ≤ R.slots → W p G.l e R s m args below meth c H locs cells slots Q (F0 m pc' ls st') → W p G.l e R s m args below meth c H locs cells slots Q (F0 m pc ls st)) :
    Sim G own nm cc nL rt d cv pc L st h f := by
  intro r h' hf
  obtain ⟨h1, h2⟩ := k r h' hf
  exact ⟨h1, fun p e s m args below meth c R C a1 a2 n0 s0 b1 b2 b3 b4 H locs ls hR hlo hL => row C hL.1.1 a1 a2 (by omega) (by omega) (h2 p e s m args below meth c R C a1 a2 n0 s0 b1 b2 b3 b4 H locs ls hR hlo hL)⟩
theorem s_mmax {idx : Nat} {x y : Int32} (hd : decode cc pc = .ok (.invokestatic idx, 3)) (hd1 : 1 ≤ d) (w1 : Cond.methodLink own idx Lib.Math.max.name ∈ lw_all) (w2 : Cond.static Lib.Math.max.name ∈ lw_all) (w3 : Cond.initialized "java/lang/Math" ∈ lw_all) (w4 : Cond.code Lib.Math.max.name Lib.Math.max.code 2 (some .int) ∈ lw_all) (h8 : (st.map fun v => v.category).sum ≤ 8) (k : Sim G own nm cc nL rt d cv (pc + 3) L (.int (if x < y then y else x) :: st) h f) : Sim G own nm cc nL rt d cv pc L (.int y :: .int x :: st) h f :=
  Sim.lift2 k (fun C hls a1 a2 a3 a4 kw => va_mmax C.hx C.hb (C.2.2.2.1.trans hls.symm) C.ow (C.ts _ w1) (C.ts _ w2) (C.ts _ w3) (C.ts _ w4) (by omega) (by omega) a3 a4 hd kw)
theorem s_mmin {idx : Nat} {x y : Int32} (hd : decode cc pc = .ok (.invokestatic idx, 3)) (hd1 : 1 ≤ d) (w1 : Cond.methodLink own idx Lib.Math.min.name ∈ lw_all) (w2 : Cond.static Lib.Math.min.name ∈ lw_all) (w3 : Cond.initialized "java/lang/Math" ∈ lw_all) (w4 : Cond.code Lib.Math.min.name Lib.Math.min.code 2 (some .int) ∈ lw_all) (h8 : (st.map fun v => v.category).sum ≤ 8) (k : Sim G own nm cc nL rt d cv (pc + 3) L (.int (if y < x then y else x) :: st) h f) : Sim G own nm cc nL rt d cv pc L (.int y :: .int x :: st) h f :=
  Sim.lift2 k (fun C hls a1 a2 a3 a4 kw => va_mmin C.hx C.hb (C.2.2.2.1.trans hls.symm) C.ow (C.ts _ w1) (C.ts _ w2) (C.ts _ w3) (C.ts _ w4) (by omega) (by omega) a3 a4 hd kw)
theorem s_mabs {idx : Nat} {x : Int32} (hd : decode cc pc = .ok (.invokestatic idx, 3)) (hd1 : 1 ≤ d) (w1 : Cond.methodLink own idx Lib.Math.abs.name ∈ lw_all) (w2 : Cond.static Lib.Math.abs.name ∈ lw_all) (w3 : Cond.initialized "java/lang/Math" ∈ lw_all) (w4 : Cond.code Lib.Math.abs.name Lib.Math.abs.code 1 (some .int) ∈ lw_all) (h8 : (st.map fun v => v.category).sum ≤ 8) (k : Sim G own nm cc nL rt d cv (pc + 3) L (.int (if 0 ≤ x then x else 0 - x) :: st) h f) : Sim G own nm cc nL rt d cv pc L (.int x :: st) h f :=
  Sim.lift2 k (fun C hls a1 a2 a3 a4 kw => va_mabs C.hx C.hb (C.2.2.2.1.trans hls.symm) C.ow (C.ts _ w1) (C.ts _ w2) (C.ts _ w3) (C.ts _ w4) (by omega) (by omega) a3 a4 hd kw)
theorem s_mabsL {idx : Nat} {x : Int64} (hd : decode cc pc = .ok (.invokestatic idx, 3)) (hd1 : 1 ≤ d) (w1 : Cond.methodLink own idx Lib.MathLoose.abs_long.x ∈ lw_all) (w2 : Cond.static Lib.MathLoose.abs_long.x ∈ lw_all) (w3 : Cond.initialized "java/lang/Math" ∈ lw_all) (w4 : Cond.code Lib.MathLoose.abs_long.x Lib.MathLoose.abs_long.code 2 (some .long) ∈ lw_all) (h8 : (st.map fun v => v.category).sum ≤ 8) (k : Sim G own nm cc nL rt d cv (pc + 3) L (.long (if 0 < x then x else -x) :: st) h f) : Sim G own nm cc nL rt d cv pc L (.long x :: st) h f :=
  Sim.lift2 k (fun C hls a1 a2 a3 a4 kw => va_mabs_long C.hx C.hb (C.2.2.2.1.trans hls.symm) C.ow (C.ts _ w1) (C.ts _ w2) (C.ts _ w3) (C.ts _ w4) (by omega) (by omega) a3 a4 hd kw)
end MORE
