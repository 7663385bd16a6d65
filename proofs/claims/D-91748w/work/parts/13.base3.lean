/-! HEAP ROWS -/
theorem cT_lt {k : Nat} {q : vw_C × (Nat → FieldType)} (h : cT[k]? = some q) : k < 14 := (List.getElem?_eq_some_iff.mp h).1
theorem aTy_obj {k : Nat} (h : k < 14) : aTy (k + 1) = none := by
  have : ∀ k, k < 14 → aTy (k + 1) = none := by decide
  exact this k h
theorem aTy_ge {k : Nat} {ty : FieldType} (h : aTy k = some ty) : 31 ≤ k := by
  rcases Nat.lt_or_ge k 31 with q | q
  · have h2 : ∀ k, k < 31 → aTy k = none := by decide
    rw [h2 k q] at h; cases h
  · exact q
theorem va_rf_inj {r r' : Option Nat} (h : va_rf r = va_rf r') : r = r' := by
  cases r <;> cases r' <;> simp [va_rf] at h ⊢
  exact h
theorem Rep.upd {G : Gl} {h h1 : AH} {H H' : Heap} {a : Nat} (hR : Rep G h H) (hb : G.base ≤ a) (e1 : h1.n = h.n) (ek : h1.kind = h.kind) (el : h1.len = h.len) (ho : ∀ b, b ≠ a → ∀ i ty, fv h1 b i ty = fv h b i ty) (hz : H'.size = H.size) (hq : ∀ q : Nat, q ≠ a → H'[q]? = H[q]?)
    (h20 : h.kind a ≠ 20) (hobj : ∀ (k : Nat) (q : vw_C × (Nat → FieldType)), h.kind a = k + 1 → cT[k]? = some q → t_OB a (G.dC k) q.1.2.2 (G.dI k) H' (fun j => fv h1 a j (q.2 j))) (harr : ∀ ty, aTy (h.kind a) = some ty → ∃ cell, H'[a]? = some cell ∧ aCell G h1 a ty cell) : Rep G h1 H' := by
  obtain ⟨r1, r2, r3, r4, r5, r6, r7, r8⟩ := hR
  refine ⟨by rw [hz, e1]; exact r1, by rw [ek, e1]; exact r2, by rw [ek]; exact r3, fun b hb2 => ?_, by rw [e1]; exact r5, fun b k q h1' hc => ?_, fun b ty hty => ?_, fun b hb3 => ?_⟩
  · rw [hq b (by omega)]; exact r4 b hb2
  · rw [ek] at h1'
    by_cases e : b = a
    · subst e; exact hobj k q h1' hc
    · exact (t_OB.kept (r6 b k q h1' hc) (hq b e)).to (fun j _ => (ho b e j _).symm)
  · rw [ek] at hty
    by_cases e : b = a
    · subst e; exact harr ty hty
    · obtain ⟨cell, g1, g2, g3, g4, g5, g6⟩ := r7 b ty hty
      exact ⟨cell, by rw [hq b e]; exact g1, g2, g3, g4, by rw [el]; exact g5, fun j hj => by rw [ho b e]; exact g6 j (by rw [← el]; exact hj)⟩
  · rw [ek] at hb3
    have e : b ≠ a := fun q => h20 (by rw [← q]; exact hb3)
    obtain ⟨i, i1, i2, i3, i4⟩ := r8 b hb3
    have f1 : va_rf (h1.R b 0) = va_rf (h.R b 0) := ho b e 0 (.array .int)
    have f2 : Value.int (h1.I b 1) = Value.int (h.I b 1) := ho b e 1 .int
    exact ⟨i, i1, i2, by rw [va_rf_inj f1]; exact i3, by rw [Value.int.inj f2]; exact i4⟩
theorem Rep.base {G : Gl} {h : AH} {H : Heap} {a : Nat} (hR : Rep G h H) (h0 : h.kind a ≠ 0) (h1 : h.kind a < 40) (h2 : h.kind a ≠ 20) : G.base ≤ a := hR.2.2.1 a h0 h1 h2
theorem fv_setI (h : AH) (a j : Nat) (v : Int32) {b : Nat} (hb : b ≠ a) (i : Nat) (ty : FieldType) : fv (h.setI a j v) b i ty = fv h b i ty := by
  have e : (h.setI a j v).I b i = h.I b i := by rw [AH.I_setI, if_neg (fun q => hb q.1)]
  cases ty <;> simp only [fv] <;> first | rfl | rw [e]
theorem fv_setL (h : AH) (a j : Nat) (v : Int64) {b : Nat} (hb : b ≠ a) (i : Nat) (ty : FieldType) : fv (h.setL a j v) b i ty = fv h b i ty := by
  have e : (h.setL a j v).L b i = h.L b i := by rw [AH.L_setL, if_neg (fun q => hb q.1)]
  cases ty <;> simp only [fv] <;> first | rfl | rw [e]
theorem fv_setR (h : AH) (a j : Nat) (v : Option Nat) {b : Nat} (hb : b ≠ a) (i : Nat) (ty : FieldType) : fv (h.setR a j v) b i ty = fv h b i ty := by
  have e : (h.setR a j v).R b i = h.R b i := by rw [AH.R_setR, if_neg (fun q => hb q.1)]
  cases ty <;> simp only [fv] <;> first | rfl | rw [e]
theorem fv_setI_o (h : AH) (a j : Nat) (v : Int32) {i : Nat} (hi : i ≠ j) (ty : FieldType) : fv (h.setI a j v) a i ty = fv h a i ty := by
  have e : (h.setI a j v).I a i = h.I a i := by rw [AH.I_setI, if_neg (fun q => hi q.2)]
  cases ty <;> simp only [fv] <;> first | rfl | rw [e]
theorem fv_setL_o (h : AH) (a j : Nat) (v : Int64) {i : Nat} (hi : i ≠ j) (ty : FieldType) : fv (h.setL a j v) a i ty = fv h a i ty := by
  have e : (h.setL a j v).L a i = h.L a i := by rw [AH.L_setL, if_neg (fun q => hi q.2)]
  cases ty <;> simp only [fv] <;> first | rfl | rw [e]
theorem fv_setR_o (h : AH) (a j : Nat) (v : Option Nat) {i : Nat} (hi : i ≠ j) (ty : FieldType) : fv (h.setR a j v) a i ty = fv h a i ty := by
  have e : (h.setR a j v).R a i = h.R a i := by rw [AH.R_setR, if_neg (fun q => hi q.2)]
  cases ty <;> simp only [fv] <;> first | rfl | rw [e]
/-- h1 is h but for place j of a, where a value v of type ty stands -/
def Upd (h h1 : AH) (a j : Nat) (ty : FieldType) (v : Value) : Prop := (h1.n = h.n ∧ h1.sl = h.sl ∧ h1.kind = h.kind ∧ h1.len = h.len) ∧ (∀ b, b ≠ a → ∀ i t, fv h1 b i t = fv h b i t) ∧ (∀ i, i ≠ j → ∀ t, fv h1 a i t = fv h a i t) ∧ fv h1 a j ty = v
theorem Upd.i {h : AH} {a j : Nat} {ty : FieldType} {v : Int32} (hty : ∀ h : AH, fv h a j ty = .int (h.I a j)) : Upd h (h.setI a j v) a j ty (.int v) := ⟨⟨rfl, rfl, rfl, rfl⟩, fun b hb i t => fv_setI h a j v hb i t, fun i hi t => fv_setI_o h a j v hi t, by rw [hty, AH.I_setI, if_pos ⟨rfl, rfl⟩]⟩
theorem Upd.l {h : AH} {a j : Nat} {ty : FieldType} {v : Int64} (hty : ∀ h : AH, fv h a j ty = .long (h.L a j)) : Upd h (h.setL a j v) a j ty (.long v) := ⟨⟨rfl, rfl, rfl, rfl⟩, fun b hb i t => fv_setL h a j v hb i t, fun i hi t => fv_setL_o h a j v hi t, by rw [hty, AH.L_setL, if_pos ⟨rfl, rfl⟩]⟩
theorem Upd.r {h : AH} {a j : Nat} {ty : FieldType} {v : Option Nat} (hty : ∀ h : AH, fv h a j ty = va_rf (h.R a j)) : Upd h (h.setR a j v) a j ty (va_rf v) := ⟨⟨rfl, rfl, rfl, rfl⟩, fun b hb i t => fv_setR h a j v hb i t, fun i hi t => fv_setR_o h a j v hi t, by rw [hty, AH.R_setR, if_pos ⟨rfl, rfl⟩]⟩
section HEAP
variable {G : Gl} {own nm : String} {cc : ByteArray} {nL : Nat} {rt : Option FieldType} {d : Nat} {α : Type} {cv : α → Outcome} {pc : Nat} {L : List (Nat × Value)} {st : List Value} {h : AH} {f : Option (α × AH)}
/-- a row that reads the heap -/
theorem Sim.rd {pc' : Nat} {st' : List Value} (k : Sim G own nm cc nL rt d cv pc' L st' h f)
    (row : ∀ {p : Program} {e : Env} {s : State} {m : MethodId} {args : Array Value} {below : List Frame} {meth : Method} {c : Code} {R : Room} {H : Heap} {locs : List Loc} {cells slots : Nat} {Q : State → Prop} {ls : Array Slot},
      Cx G own nm cc nL rt p s m args meth c → Rep G h H → W p G.l e R s m args below meth c H locs cells slots Q (F0 m pc' ls st') → W p G.l e R s m args below meth c H locs cells slots Q (F0 m pc ls st)) :
    Sim G own nm cc nL rt d cv pc L st h f := by
  intro r h' hf
  obtain ⟨h1, h2⟩ := k r h' hf
  exact ⟨h1, fun p e s m args below meth c R C a1 a2 n0 s0 b1 b2 b3 b4 H locs ls hR hlo hL => row C hR (h2 p e s m args below meth c R C a1 a2 n0 s0 b1 b2 b3 b4 H locs ls hR hlo hL)⟩
/-- a row that writes a cell -/
theorem Sim.wr {pc' a : Nat} {st' : List Value} {h1 : AH} (e1 : h1.n = h.n) (e2 : h1.sl = h.sl) (k : Sim G own nm cc nL rt d cv pc' L st' h1 f)
    (row : ∀ {p : Program} {e : Env} {s : State} {m : MethodId} {args : Array Value} {below : List Frame} {meth : Method} {c : Code} {R : Room} {H : Heap} {locs : List Loc} {cells slots : Nat} {Q : State → Prop} {ls : Array Slot},
      Cx G own nm cc nL rt p s m args meth c → Rep G h H → (∀ (H' : Heap) (x : Nat), Rep G h1 H' → W p G.l e R s m args below meth c H' (locs ++ [⟨a, x⟩]) cells slots Q (F0 m pc' ls st')) → W p G.l e R s m args below meth c H locs cells slots Q (F0 m pc ls st)) (hb : ∀ H, Rep G h H → G.base ≤ a) :
    Sim G own nm cc nL rt d cv pc L st h f := by
  intro r h' hf
  obtain ⟨g1, g2⟩ := k r h' hf
  rw [e1, e2] at g1
  refine ⟨g1, fun p e s m args below meth c R C a1 a2 n0 s0 b1 b2 b3 b4 H locs ls hR hlo hL => row C hR (fun H' x hR' => ?_)⟩
  have g3 := g2 p e s m args below meth c R C a1 a2 n0 s0 (by rw [e1]; exact b1) (by rw [e2]; exact b2) b3 b4 H' (locs ++ [⟨a, x⟩]) ls hR' (fun q hq => by
    rcases List.mem_append.mp hq with z | z
    · exact hlo q z
    · rw [List.mem_singleton.mp z]; exact hb H hR) hL
  rw [e1, e2] at g3
  exact g3
theorem Cx.hx {p : Program} {s : State} {m : MethodId} {args : Array Value} {meth : Method} {c : Code} (C : Cx G own nm cc nL rt p s m args meth c) : p.tables.exec = Jvm.exec := C.1
theorem Cx.hb {p : Program} {s : State} {m : MethodId} {args : Array Value} {meth : Method} {c : Code} (C : Cx G own nm cc nL rt p s m args meth c) : c.code = cc := C.2.1
theorem Cx.ow {p : Program} {s : State} {m : MethodId} {args : Array Value} {meth : Method} {c : Code} (C : Cx G own nm cc nL rt p s m args meth c) : s.vm.findClass own = some m.cls := C.2.2.2.2.1
theorem Cx.ts {p : Program} {s : State} {m : MethodId} {args : Array Value} {meth : Method} {c : Code} (C : Cx G own nm cc nL rt p s m args meth c) : ∀ w ∈ lw_all, w.before args s = true := C.2.2.2.2.2.1
theorem Cx.gl {p : Program} {s : State} {m : MethodId} {args : Array Value} {meth : Method} {c : Code} (C : Cx G own nm cc nL rt p s m args meth c) : Glob G s := C.2.2.2.2.2.2.1
theorem Cx.alike {p : Program} {s : State} {m : MethodId} {args : Array Value} {meth : Method} {c : Code} (C : Cx G own nm cc nL rt p s m args meth c) : G.s0.vm.Alike s.vm := C.gl.1.alike
theorem Cx.name {p : Program} {s : State} {m : MethodId} {args : Array Value} {meth : Method} {c : Code} (C : Cx G own nm cc nL rt p s m args meth c) : meth.name = nm := C.2.2.2.2.2.2.2.2.1
theorem Cx.apart {p : Program} {s : State} {m : MethodId} {args : Array Value} {meth : Method} {c : Code} (C : Cx G own nm cc nL rt p s m args meth c) {k : Nat} {q : vw_C × (Nat → FieldType)} (hc : cT[k]? = some q) : ∀ x y, x < q.1.2.2 → y < q.1.2.2 → x ≠ y → G.dI k x ≠ G.dI k y := by
  intro x y hx hy hne
  obtain ⟨hin, hnm, hty⟩ := cT_ok q (List.mem_of_getElem? hc)
  obtain ⟨hS, -⟩ := C.gl.2.1 k q hc
  obtain ⟨_, _, _, fa, hia, ea⟩ := hS x hx
  obtain ⟨_, _, _, fb, hib, eb⟩ := hS y hy
  rw [← ea, ← eb]
  refine u_apart (u_lays C.ts hin hx) (u_lays C.ts hin hy) hia hib ?_
  rw [(State.fieldFound?_type hia (hty x hx)).1, (State.fieldFound?_type hib (hty y hy)).1]
  exact hnm x hx y hy hne
/-- what the tables say of field j of class number k, for a link word -/
theorem Cx.field {p : Program} {s : State} {m : MethodId} {args : Array Value} {meth : Method} {c : Code} (C : Cx G own nm cc nL rt p s m args meth c) {k j : Nat} {q : vw_C × (Nat → FieldType)} (hc : cT[k]? = some q) (hj : j < q.1.2.2) : ∃ (cf : Nat) (kf : Class) (fi : Nat) (fd : Field), s.fieldFound? (q.1.2.1 j).1 (q.1.2.1 j).2.1 (q.1.2.1 j).2.2.1 = some (cf, kf, fi, fd) ∧ fd.slot = G.dI k j ∧ fd.isStatic = false := by
  obtain ⟨hin, hnm, hty⟩ := cT_ok q (List.mem_of_getElem? hc)
  obtain ⟨hS, hfc, kC, hkC, -⟩ := C.gl.2.1 k q hc
  obtain ⟨cf, kf, fi, fd, hi, hsl⟩ := hS j hj
  exact ⟨cf, kf, fi, fd, hi, hsl, (u_facts hfc hkC (u_lays C.ts hin hj) hi).1⟩
def sameF (ref o n dd : String) : Prop := ref = o ∨ Cond.sameField ref o n dd ∈ lw_all
theorem sameF.use {s : State} {args : Array Value} (hts : ∀ w ∈ lw_all, w.before args s = true) {ref o n dd : String} (hs : sameF ref o n dd) : ∀ x, s.fieldFound? o n dd = some x → s.fieldFound? ref n dd = some x := by
  intro x hx
  rcases hs with rfl | hs
  · exact hx
  · exact u_same (hts _ hs) x hx
theorem s_get {a j idx : Nat} (kk : Nat) {q : vw_C × (Nat → FieldType)} {ref : String} (v : Value) (hd : decode cc pc = .ok (.getfield idx, 3)) (hk : h.kind a = kk + 1) (hc : cT[kk]? = some q) (hj : j < q.1.2.2) (hw : Cond.fieldLink own idx ref (q.1.2.1 j).2.1 (q.1.2.1 j).2.2.1 ∈ lw_all) (hs : sameF ref (q.1.2.1 j).1 (q.1.2.1 j).2.1 (q.1.2.1 j).2.2.1) (hv : fv h a j (q.2 j) = v)
    (k : Sim G own nm cc nL rt d cv (pc + 3) L (v :: st) h f) : Sim G own nm cc nL rt d cv pc L (.ref a :: st) h f :=
  Sim.rd k (fun C hR kw => by
    obtain ⟨cf, kf, fi, fd, hi, hsl, hst⟩ := C.field hc hj
    obtain ⟨cell, q1, q2, q3, q4⟩ := hR.2.2.2.2.2.1 a kk q hk hc
    exact W.getf C.hx C.hb C.ow (C.ts _ hw) (hs.use C.ts _ hi) hst q1 (by rw [q3]; exact fun e => by cases e) (v := v) (by rw [hsl]; exact (q4 j hj).trans (congrArg some hv)) rfl rfl hd kw)
theorem s_getN {a j idx : Nat} (kk : Nat) {q : vw_C × (Nat → FieldType)} {ref host : String} (v : Value) (hd : decode cc pc = .ok (.getfield idx, 3)) (hk : h.kind a = kk + 1) (hc : cT[kk]? = some q) (hj : j < q.1.2.2) (hw : Cond.fieldLinkNest own idx ref (q.1.2.1 j).2.1 (q.1.2.1 j).2.2.1 host ∈ lw_tbl) (hs : sameF ref (q.1.2.1 j).1 (q.1.2.1 j).2.1 (q.1.2.1 j).2.2.1) (hv : fv h a j (q.2 j) = v)
    (k : Sim G own nm cc nL rt d cv (pc + 3) L (v :: st) h f) : Sim G own nm cc nL rt d cv pc L (.ref a :: st) h f :=
  Sim.rd k (fun C hR kw => by
    obtain ⟨cf, kf, fi, fd, hi, hsl, hst⟩ := C.field hc hj
    obtain ⟨cell, q1, q2, q3, q4⟩ := hR.2.2.2.2.2.1 a kk q hk hc
    exact va_Wgetf C.hx C.hb C.ow (va_Nw.use rfl (C.gl.2.2.1 _ _ _ _ _ _ hw)) (hs.use C.ts _ hi) hst q1 (by rw [q3]; exact fun e => by cases e) (v := v) (by rw [hsl]; exact (q4 j hj).trans (congrArg some hv)) rfl rfl hd kw)
theorem Rep.put {p : Program} {s : State} {m : MethodId} {args : Array Value} {meth : Method} {c : Code} (C : Cx G own nm cc nL rt p s m args meth c) {a j k : Nat} {q : vw_C × (Nat → FieldType)} {v : Value} {h1 : AH} {H H' : Heap} {cell : Cell} (hR : Rep G h H) (hk : h.kind a = k + 1) (hc : cT[k]? = some q) (hj : j < q.1.2.2) (hu : Upd h h1 a j (q.2 j) v)
    (g1 : cell.cls = G.dC k) (g2 : cell.vm = .none) (g3 : ∀ i, i < q.1.2.2 → cell.slots[G.dI k i]? = some (fv h a i (q.2 i))) (e1 : H'[a]? = some (cell.setSlot (G.dI k j) v)) (e2 : H'.size = H.size) (e3 : ∀ q : Nat, q ≠ a → H'[q]? = H[q]?) : Rep G h1 H' := by
  obtain ⟨⟨u1, -, u3, u4⟩, u5, u6, u7⟩ := hu
  refine hR.upd (hR.base (by omega) (by have := cT_lt hc; omega) (by have := cT_lt hc; omega)) u1 u3 u4 u5 e2 e3 (by have := cT_lt hc; omega) (fun k' q' hk' hc' => ?_) (fun ty hty => ?_)
  · have ek : k' = k := by omega
    subst ek
    cases hc.symm.trans hc'
    refine ⟨_, e1, g1, g2, fun i hi => ?_⟩
    show _ = some (fv h1 a i (q.2 i))
    by_cases e : i = j
    · subst e
      rw [u7]
      exact Cell.slots_setSlot_self v (k2_hasslot (g3 i hi))
    · rw [slot_ne _ _ (C.apart hc j i hj hi (Ne.symm e)), u6 i e]
      exact g3 i hi
  · rw [hk, aTy_obj (cT_lt hc)] at hty
    cases hty
theorem s_put {a j idx : Nat} (kk : Nat) {q : vw_C × (Nat → FieldType)} {ref : String} {v : Value} {h1 : AH} (hd : decode cc pc = .ok (.putfield idx, 3)) (hk : h.kind a = kk + 1) (hc : cT[kk]? = some q) (hj : j < q.1.2.2) (hw : Cond.fieldLink own idx ref (q.1.2.1 j).2.1 (q.1.2.1 j).2.2.1 ∈ lw_all) (hs : sameF ref (q.1.2.1 j).1 (q.1.2.1 j).2.1 (q.1.2.1 j).2.2.1) (hfin : (q.1.2.1 j).2.2.2 = false) (hn : narrow (q.2 j) v = v) (hfit : fits (q.2 j) v = true) (hu : Upd h h1 a j (q.2 j) v)
    (k : Sim G own nm cc nL rt d cv (pc + 3) L st h1 f) : Sim G own nm cc nL rt d cv pc L (v :: .ref a :: st) h f := by
  refine Sim.wr (a := a) hu.1.1 hu.1.2.1 k (fun C hR kw => ?_) (fun H hR => hR.base (by omega) (by have := cT_lt hc; omega) (by have := cT_lt hc; omega))
  obtain ⟨hin, hnm, hty⟩ := cT_ok q (List.mem_of_getElem? hc)
  obtain ⟨cf, kf, fi, fd, hi, hsl, hst⟩ := C.field hc hj
  obtain ⟨hS, hfc, kC, hkC, hkind⟩ := C.gl.2.1 kk q hc
  obtain ⟨cell, q1, q2, q3, q4⟩ := hR.2.2.2.2.2.1 a kk q hk hc
  have hlay := C.ts _ (hin _ (u_in_lay hj))
  unfold u_lay at hlay
  rw [if_neg (by rw [hfin]; decide)] at hlay
  have h6 := u_store hfc hkC hkind hlay hi (hty j hj) hn hfit
  refine W.putK C.hx C.hb (f := fd) ⟨C.ow, C.ts _ hw, ⟨_, _, _, hs.use C.ts _ hi⟩, hst⟩ (by rw [q2]; exact h6) q1 q3 (by rw [hsl]; exact k2_hasslot (q4 j hj)) rfl rfl hd fun H' e1 e2 e3 => ?_
  rw [hsl] at e1
  exact kw H' _ (hR.put C hk hc hj hu q2 q3 q4 e1 e2 e3)
theorem s_putN {a j idx : Nat} (kk : Nat) {q : vw_C × (Nat → FieldType)} {ref host : String} {v : Value} {h1 : AH} (hd : decode cc pc = .ok (.putfield idx, 3)) (hk : h.kind a = kk + 1) (hc : cT[kk]? = some q) (hj : j < q.1.2.2) (hw : Cond.fieldLinkNest own idx ref (q.1.2.1 j).2.1 (q.1.2.1 j).2.2.1 host ∈ lw_tbl) (hs : sameF ref (q.1.2.1 j).1 (q.1.2.1 j).2.1 (q.1.2.1 j).2.2.1) (hfin : (q.1.2.1 j).2.2.2 = false) (hn : narrow (q.2 j) v = v) (hfit : fits (q.2 j) v = true) (hu : Upd h h1 a j (q.2 j) v)
    (k : Sim G own nm cc nL rt d cv (pc + 3) L st h1 f) : Sim G own nm cc nL rt d cv pc L (v :: .ref a :: st) h f := by
  refine Sim.wr (a := a) hu.1.1 hu.1.2.1 k (fun C hR kw => ?_) (fun H hR => hR.base (by omega) (by have := cT_lt hc; omega) (by have := cT_lt hc; omega))
  obtain ⟨hin, hnm, hty⟩ := cT_ok q (List.mem_of_getElem? hc)
  obtain ⟨cf, kf, fi, fd, hi, hsl, hst⟩ := C.field hc hj
  obtain ⟨hS, hfc, kC, hkC, hkind⟩ := C.gl.2.1 kk q hc
  obtain ⟨cell, q1, q2, q3, q4⟩ := hR.2.2.2.2.2.1 a kk q hk hc
  have hlay := C.ts _ (hin _ (u_in_lay hj))
  unfold u_lay at hlay
  rw [if_neg (by rw [hfin]; decide)] at hlay
  have h6 := u_store hfc hkC hkind hlay hi (hty j hj) hn hfit
  refine va_WputK C.hx C.hb (f := fd) C.ow (va_Nw.use rfl (C.gl.2.2.1 _ _ _ _ _ _ hw)) (hs.use C.ts _ hi) hst (by rw [q2]; exact h6) q1 q3 (by rw [hsl]; exact k2_hasslot (q4 j hj)) rfl rfl hd fun H' e1 e2 e3 => ?_
  rw [hsl] at e1
  exact kw H' _ (hR.put C hk hc hj hu q2 q3 q4 e1 e2 e3)
theorem s_putF {a j idx : Nat} (kk : Nat) {q : vw_C × (Nat → FieldType)} {ref : String} {v : Value} {h1 : AH} (hd : decode cc pc = .ok (.putfield idx, 3)) (hk : h.kind a = kk + 1) (hc : cT[kk]? = some q) (hj : j < q.1.2.2) (hw : Cond.fieldLink own idx ref (q.1.2.1 j).2.1 (q.1.2.1 j).2.2.1 ∈ lw_all) (hs : sameF ref (q.1.2.1 j).1 (q.1.2.1 j).2.1 (q.1.2.1 j).2.2.1) (hfin : (q.1.2.1 j).2.2.2 = true) (hini : nm = "<init>") (hdecl : (q.1.2.1 j).1 = own) (hn : narrow (q.2 j) v = v) (hfit : fits (q.2 j) v = true) (hu : Upd h h1 a j (q.2 j) v)
    (k : Sim G own nm cc nL rt d cv (pc + 3) L st h1 f) : Sim G own nm cc nL rt d cv pc L (v :: .ref a :: st) h f := by
  refine Sim.wr (a := a) hu.1.1 hu.1.2.1 k (fun {p} {e} {s} {m} {args} {below} {meth} {c} {R} {H} {locs} {cells} {slots} {Q} {ls} C hR kw => ?_) (fun H hR => hR.base (by omega) (by have := cT_lt hc; omega) (by have := cT_lt hc; omega))
  obtain ⟨hin, hnm, hty⟩ := cT_ok q (List.mem_of_getElem? hc)
  obtain ⟨cf, kf, fi, fd, hi, hsl, hst⟩ := C.field hc hj
  obtain ⟨hS, hfc, kC, hkC, hkind⟩ := C.gl.2.1 kk q hc
  obtain ⟨cell, q1, q2, q3, q4⟩ := hR.2.2.2.2.2.1 a kk q hk hc
  have hlay := C.ts _ (hin _ (u_in_lay hj))
  unfold u_lay at hlay
  rw [if_pos hfin] at hlay
  have hcf : m.cls = cf := by
    obtain ⟨_, _, c', _, _, _, -, -, hf', -, -, -, hown2, -⟩ := Cond.laysFinal_spec hlay
    have e1 : c' = cf := by have := hi.symm.trans hf'; simp at this; exact this.1.symm
    rw [hdecl] at hown2
    rw [e1] at hown2
    exact Option.some.inj (C.ow.symm.trans hown2)
  have h6 := u_fits hfc hkC hkind (Or.inr hlay) hi (hty j hj) hn hfit
  refine W.putFinK C.hx C.hb C.ow (C.ts _ hw) (hs.use C.ts _ hi) hst hcf (C.name.trans hini) (by rw [q2]; exact h6) q1 q3 (by rw [hsl]; exact k2_hasslot (q4 j hj)) rfl rfl hd fun H' e1 e2 e3 => ?_
  rw [hsl] at e1
  exact kw H' _ (hR.put C hk hc hj hu q2 q3 q4 e1 e2 e3)
end HEAP
