/-! CONTRACTS AND CALLS -/
def rmD (d mc ms : Nat) : Room := { frames := d, cells := mc, slots := ms, locals := 100 * d }
def PcA (G : Gl) (as : List Value) (h : AH) : Array Value → State → Prop := fun v U => v = as.toArray ∧ Rep G h U.heap ∧ Glob G U
def QcA (G : Gl) (o : Outcome) (h' : AH) : Array Value → State → Outcome → State → Prop := fun _ _ oc t => oc = o ∧ Rep G h' t.heap
def OkM (G : Gl) (y : MethodName) (cc : ByteArray) (nL : Nat) (rt : Option FieldType) (d : Nat) {α : Type} (cv : α → Outcome) (as : List Value) (h : AH) (f : Option (α × AH)) : Prop :=
  ∀ (r : α) (h' : AH), f = some (r, h') → (h.n ≤ h'.n ∧ h.sl ≤ h'.sl) ∧ Met G.l y (ws_ y cc nL rt) (rmD d (h'.n - h.n) (h'.sl - h.sl)) (PcA G as h) (QcA G (cv r) h') (h'.n - h.n) (h'.sl - h.sl) (fun q => G.base ≤ q)
theorem Glob.same {G : Gl} {u U : State} (e : u.vm = U.vm) (h : Glob G u) : Glob G U := by
  obtain ⟨g1, g2, g3, g4, g5, g6, g7, g8, g9, g10, g11, g12⟩ := h
  have hal : u.vm.Alike U.vm := by rw [e]; exact Vm.Alike.refl _
  exact ⟨by rw [← e]; exact g1, fun k q hc => u_Kn_moved hal (g2 k q hc), fun a i b n d hh w => va_Nw.same rfl e (g3 a i b n d hh w), fun a i x hh w => va_Nw.same rfl e (g4 a i x hh w), fun C T w => va_Nw.same rfl e (g5 C T w), fun x w => va_Nw.same rfl e (g6 x w), ⟨va_Z.moved hal g7.1, va_Z.moved hal g7.2.1, va_Z.moved hal g7.2.2.1, va_Z.moved hal g7.2.2.2.1, va_Z.moved hal g7.2.2.2.2⟩, fun C w => va_AO.moved hal (g8 C w), fun t w => over_moved hal (g9 t w), fun i q hq => vk_R.same e.symm (g10 i q hq), vk_S.moved hal g11, va_Mi.moved hal g12⟩
theorem Glob.warm {G : Gl} {u U : State} (hW : u.WarmedH U.vm) (h : Glob G u) : Glob G U := by
  obtain ⟨g1, g2, g3, g4, g5, g6, g7, g8, g9, g10, g11, g12⟩ := h
  have hal : u.vm.Alike U.vm := hW.alike
  exact ⟨State.WarmedH.trans g1 hW, fun k q hc => u_Kn_moved hal (g2 k q hc), fun a i b n d hh w => va_Nw.warmF hW (g3 a i b n d hh w), fun a i x hh w => va_Nw.warmM hW (g4 a i x hh w), fun C T w => va_Nw.warmC hW (g5 C T w), fun x w => va_Nw.warmD hW (g6 x w), ⟨va_Z.moved hal g7.1, va_Z.moved hal g7.2.1, va_Z.moved hal g7.2.2.1, va_Z.moved hal g7.2.2.2.1, va_Z.moved hal g7.2.2.2.2⟩, fun C w => va_AO.moved hal (g8 C w), fun t w => over_moved hal (g9 t w), fun i q hq => vk_R.warm hW (g10 i q hq), vk_S.moved hal g11, va_Mi.moved hal g12⟩
theorem PcA.blind {G : Gl} {as : List Value} {h : AH} : FrameBlind (PcA G as h) := fun a U g mk q => ⟨q.1, q.2.1, Glob.same (u := U) rfl q.2.2⟩
/-- a method's contract, out of its walk -/
theorem ok_of_sim {G : Gl} {y : MethodName} {cc : ByteArray} {nL : Nat} {rt : Option FieldType} {d : Nat} {α : Type} {cv : α → Outcome} {as : List Value} (L : List (Nat × Value)) {h : AH} {f : Option (α × AH)} (hy : plainName y.cls = true) (hcv : ∀ r, ∃ v, cv r = .returned v) (hL : L.map uns = lv_args 0 as) (hcat : ∀ q ∈ L, q.1 < 1000 → q.2.category = 1) (hn : (lg_sl as).length ≤ nL)
    (k : Sim G y.cls y.name cc nL rt d cv 0 L [] h f) (hz : ¬ (y.cls = "MiddleSheet" ∧ y.name = "fault") := by decide +kernel) : OkM G y cc nL rt d cv as h f := by
  intro r h' hf
  obtain ⟨g1, g2⟩ := k r h' hf
  refine ⟨g1, Met.ofW (cc := cc) (maxL := nL) (ret := rt) hy rfl ?_⟩
  intro p e s m args below meth c s₁ B hml hv
  obtain ⟨rfl, hR, hG⟩ := hv
  have hts := atoms_spec (ws := ws_ y cc nL rt) B.pre
  have hl := lv_entry as (n := nL) hn
  rw [lg_entry_eq]
  generalize (lg_sl as ++ List.replicate (nL - (lg_sl as).length) Slot.unset).toArray = ls at hl ⊢
  have hw := g2 p e s m as.toArray below meth c (headSpec (ws_ y cc nL rt) (rmD d (h'.n - h.n) (h'.sl - h.sl))).room
    ⟨B.exec, B.bytes, B.returns, hml, findClass_of_methodNamed B.named, fun w hw => hts w (List.mem_cons_of_mem _ hw), hG, B.notSynchronized, (name_of_methodNamed B.named B.method).1, by
      rw [cxT_nil hz]
      first
        | exact B.noHandlers (hts _ List.mem_cons_self)
        | (have q := B.noHandlers (hts _ List.mem_cons_self); simpa using q)⟩
    (Nat.le_refl _) (Nat.le_refl _) h.n h.sl (Nat.le_refl _) (Nat.le_refl _) (Nat.le_refl _) (Nat.le_refl _) s.heap [] ls hR (fun q hq => by cases hq) ⟨by rw [hL]; exact hl, hcat⟩
  rw [Nat.sub_self, Nat.sub_self] at hw
  refine W.mono (fun t ht => ?_) hw
  obtain ⟨t1, t2, t3, Lo, t4, t5⟩ := ht
  obtain ⟨v, hv⟩ := hcv r
  exact ⟨cv r, t1, t2, ⟨rfl, t3⟩, Lo, ⟨⟨v, hv⟩, t4⟩, t5⟩
section CALL
variable {G : Gl} {own nm : String} {cc : ByteArray} {nL : Nat} {rt : Option FieldType} {d : Nat} {α : Type} {cv : α → Outcome} {pc : Nat} {L : List (Nat × Value)} {st stk : List Value} {h : AH}
variable {β : Type} {cw : β → Outcome} {as : List Value} {fc : Option (β × AH)} {g : β → AH → Option (α × AH)} {y : MethodName} {cc' : ByteArray} {nL' : Nat} {rt' : Option FieldType} {d' : Nat}
theorem Sim.call (pv : β → Option Value) (hpv : ∀ r, cw r = .returned (pv r)) (ok : OkM G y cc' nL' rt' d' cw as h fc) (hd' : d' + 1 ≤ d) (k : ∀ r h1, Sim G own nm cc nL rt d cv (pc + 3) L ((pv r).toList ++ st) h1 (g r h1))
    (run : ∀ {p : Program} {e : Env} {s : State} {m : MethodId} {args : Array Value} {below : List Frame} {meth : Method} {c : Code} {R : Room} {H : Heap} {locs : List Loc} {cells slots mc ms : Nat} {ls : Array Slot} {Qc : Array Value → State → Outcome → State → Prop},
      Cx G own nm cc nL rt p s m args meth c → Rep G h H → ls.size = nL → d ≤ R.frames → 100 * d ≤ R.locals → Met G.l y (ws_ y cc' nL' rt') (rmD d' mc ms) (PcA G as h) Qc mc ms (fun q => G.base ≤ q) → (∀ U : State, U.heap = H → s.WarmedH U.vm → PcA G as h as.toArray U) → cells + mc ≤ R.cells ∧ slots + ms ≤ R.slots →
      va_Run p G.l e R s m args below meth c H locs cells slots mc ms (F0 m pc ls stk) st (Qc as.toArray) (fun q => G.base ≤ q)) :
    Sim G own nm cc nL rt d cv pc L stk h (bnd fc g) := by
  intro r h' hf
  cases hfc : fc with
  | none => rw [hfc] at hf; cases hf
  | some x =>
    obtain ⟨b, h1⟩ := x
    rw [hfc] at hf
    have hf : g b h1 = some (r, h') := hf
    obtain ⟨o1, o2⟩ := ok b h1 hfc
    obtain ⟨g1, g2⟩ := k b h1 r h' hf
    refine ⟨⟨by omega, by omega⟩, fun p e s m args below meth c R C a1 a2 n0 s0 b1 b2 b3 b4 H locs ls hR hlo hL => ?_⟩
    have hrun := run (below := below) (e := e) (locs := locs) (cells := h.n - n0) (slots := h.sl - s0) (R := R) C hR hL.1.1 a1 a2 o2 (fun U hU hW => ⟨rfl, by rw [hU]; exact hR, C.gl.warm hW⟩) ⟨by omega, by omega⟩
    intro T hT X
    obtain ⟨v, st₀, t, T', Lo, h0, X', hLo, e1, e2, ⟨q1, q2⟩, hst⟩ := hrun T hT X
    have hv : v = pv b := Outcome.returned.inj (q1.trans (hpv b))
    subst hv
    have hw := g2 p e s m args below meth c R C a1 a2 n0 s0 (by omega) (by omega) b3 b4 T'.heap (locs ++ Lo) ls (by rw [e1]; exact q2) (fun q hq => by
      rcases List.mem_append.mp hq with z | z
      · exact hlo q z
      · exact hLo q z) hL
    have X2 : Stand p G.l e R s m args below meth c T' (locs ++ Lo) (h1.n - n0) (h1.sl - s0) := by
      have ea : h.n - n0 + (h1.n - h.n) = h1.n - n0 := by omega
      have eb : h.sl - s0 + (h1.sl - h.sl) = h1.sl - s0 := by omega
      rw [ea, eb] at X'
      exact X'
    obtain ⟨t2, a3, b5⟩ := hw T' rfl X2
    exact ⟨t2, hst t2 a3, b5⟩
theorem cx_fix {p : Program} {s : State} {m : MethodId} {args : Array Value} {meth : Method} {c : Code} (C : Cx G own nm cc nL rt p s m args meth c) : CallFix p m c cc nL s args lw_all own := ⟨C.1, C.2.1, C.2.2.2.1, C.2.2.2.2.1, C.2.2.2.2.2.1⟩
/-- a static call -/
theorem s_callS {idx n : Nat} (pv : β → Option Value) (hpv : ∀ r, cw r = .returned (pv r)) (ok : OkM G y cc' nL' rt' d' cw as h fc) (hd' : d' + 1 ≤ d) (hn' : nL' ≤ 80) (hd : decode cc pc = .ok (.invokestatic idx, 3)) (w1 : Cond.methodLink own idx y ∈ lw_all) (w2 : Cond.static y ∈ lw_all) (w3 : Cond.initialized y.cls ∈ lw_all) (w4 : Cond.code y cc' nL' rt' ∈ lw_all)
    (hy : y.cls ≠ "java/lang/invoke/MethodHandle" ∧ y.cls ≠ "java/lang/invoke/VarHandle" ∧ (parseMethodDescriptor y.desc).map (fun d => d.parameters.length) = some n) (hn : as.length = n) (hst : stk = as.reverse ++ st) (h8 : (st.map fun v => v.category).sum ≤ 8)
    (k : ∀ r h1, Sim G own nm cc nL rt d cv (pc + 3) L ((pv r).toList ++ st) h1 (g r h1)) : Sim G own nm cc nL rt d cv pc L stk h (bnd fc g) :=
  Sim.call pv hpv ok hd' k (fun C hR hls hf hl hM hP hc => va_runS (cx_fix C) hM (va_cwS n C.ts (lw_S w1 w2 w3 w4) rfl rfl rfl hy ⟨by show d' + 1 ≤ _; omega, by show 8 + (nL' + 11) + 100 * d' ≤ _; omega⟩) ⟨PcA.blind, hP⟩ rfl hn hls hst (lv_room h8) hd hc)
theorem s_callSN {idx n : Nat} {host : String} (pv : β → Option Value) (hpv : ∀ r, cw r = .returned (pv r)) (ok : OkM G y cc' nL' rt' d' cw as h fc) (hd' : d' + 1 ≤ d) (hn' : nL' ≤ 80) (hd : decode cc pc = .ok (.invokestatic idx, 3)) (w1 : Cond.methodLinkNest own idx y host ∈ lw_tbl) (w2 : Cond.static y ∈ lw_all) (w3 : Cond.initialized y.cls ∈ lw_all) (w4 : Cond.code y cc' nL' rt' ∈ lw_all)
    (hy : y.cls ≠ "java/lang/invoke/MethodHandle" ∧ y.cls ≠ "java/lang/invoke/VarHandle" ∧ (parseMethodDescriptor y.desc).map (fun d => d.parameters.length) = some n) (hn : as.length = n) (hst : stk = as.reverse ++ st) (h8 : (st.map fun v => v.category).sum ≤ 8)
    (k : ∀ r h1, Sim G own nm cc nL rt d cv (pc + 3) L ((pv r).toList ++ st) h1 (g r h1)) : Sim G own nm cc nL rt d cv pc L stk h (bnd fc g) :=
  Sim.call pv hpv ok hd' k (fun C hR hls hf hl hM hP hc => va_runSN (cx_fix C) hM ⟨va_cnB n C.ts (lw_meth w4) rfl rfl rfl (C.gl.2.2.2.1 _ _ _ _ w1) (C.ts _ w3) hy ⟨by show d' + 1 ≤ _; omega, by show 8 + (nL' + 11) + 100 * d' ≤ _; omega⟩, C.ts _ w2, trivial⟩ ⟨PcA.blind, hP⟩ rfl hn hls hst (lv_room h8) hd hc)
/-- a constructor -/
theorem s_callI {idx n a : Nat} {As : List Value} (pv : β → Option Value) (hpv : ∀ r, cw r = .returned (pv r)) (ok : OkM G y cc' nL' none d' cw (.ref a :: As) h fc) (hd' : d' + 1 ≤ d) (hn' : nL' ≤ 80) (hd : decode cc pc = .ok (.invokespecial idx, 3)) (w1 : Cond.methodLink own idx y ∈ lw_all) (w2 : Cond.instanceMethod y ∈ lw_all) (w3 : Cond.initialized y.cls ∈ lw_all) (w4 : Cond.code y cc' nL' none ∈ lw_all) (hy1 : y.name = "<init>")
    (hy : y.cls ≠ "java/lang/invoke/MethodHandle" ∧ y.cls ≠ "java/lang/invoke/VarHandle" ∧ (parseMethodDescriptor y.desc).map (fun d => d.parameters.length) = some n) (hn : As.length = n) (hst : stk = As.reverse ++ .ref a :: st) (h8 : (st.map fun v => v.category).sum ≤ 8)
    (k : ∀ r h1, Sim G own nm cc nL rt d cv (pc + 3) L ((pv r).toList ++ st) h1 (g r h1)) : Sim G own nm cc nL rt d cv pc L stk h (bnd fc g) :=
  Sim.call pv hpv ok hd' k (fun C hR hls hf hl hM hP hc => va_runI (cx_fix C) hM (cwI n C.ts (lw_meth w4) rfl rfl rfl (C.ts _ w3) (C.ts _ w1) (C.ts _ w2) hy1 hy ⟨by show d' + 1 ≤ _; omega, by show 8 + (nL' + 11) + 100 * d' ≤ _; omega⟩) ⟨PcA.blind, hP⟩ rfl hn hls hst (lv_room h8) hd hc)
theorem s_callIN {idx n a : Nat} {As : List Value} {host : String} (pv : β → Option Value) (hpv : ∀ r, cw r = .returned (pv r)) (ok : OkM G y cc' nL' none d' cw (.ref a :: As) h fc) (hd' : d' + 1 ≤ d) (hn' : nL' ≤ 80) (hd : decode cc pc = .ok (.invokespecial idx, 3)) (w1 : Cond.methodLinkNest own idx y host ∈ lw_tbl) (w2 : Cond.instanceMethod y ∈ lw_all) (w3 : Cond.initialized y.cls ∈ lw_all) (w4 : Cond.code y cc' nL' none ∈ lw_all) (hy1 : y.name = "<init>")
    (hy : y.cls ≠ "java/lang/invoke/MethodHandle" ∧ y.cls ≠ "java/lang/invoke/VarHandle" ∧ (parseMethodDescriptor y.desc).map (fun d => d.parameters.length) = some n) (hn : As.length = n) (hst : stk = As.reverse ++ .ref a :: st) (h8 : (st.map fun v => v.category).sum ≤ 8)
    (k : ∀ r h1, Sim G own nm cc nL rt d cv (pc + 3) L ((pv r).toList ++ st) h1 (g r h1)) : Sim G own nm cc nL rt d cv pc L stk h (bnd fc g) :=
  Sim.call pv hpv ok hd' k (fun C hR hls hf hl hM hP hc => va_runIN (cx_fix C) hM ⟨va_cnB n C.ts (lw_meth w4) rfl rfl rfl (C.gl.2.2.2.1 _ _ _ _ w1) (C.ts _ w3) hy ⟨by show d' + 1 ≤ _; omega, by show 8 + (nL' + 11) + 100 * d' ≤ _; omega⟩, hy1, C.ts _ w2⟩ ⟨PcA.blind, hP⟩ rfl hn hls hst (lv_room h8) hd hc)
/-- Object's constructor -/
theorem s_objInit {idx a : Nat} {f : Option (α × AH)} (hd : decode cc pc = .ok (.invokespecial idx, 3)) (w1 : Cond.methodLink own idx objectInit ∈ lw_all) (w2 : Cond.instanceMethod objectInit ∈ lw_all) (w3 : Cond.code objectInit ⟨#[0xb1]⟩ 1 none ∈ lw_all) (hd1 : 1 ≤ d) (h8 : (st.map fun v => v.category).sum ≤ 8)
    (k : Sim G own nm cc nL rt d cv (pc + 3) L st h f) : Sim G own nm cc nL rt d cv pc L (.ref a :: st) h f := by
  intro r h' hf
  obtain ⟨g1, g2⟩ := k r h' hf
  refine ⟨g1, fun p e s m args below meth c R C a1 a2 n0 s0 b1 b2 b3 b4 H locs ls hR hlo hL => ?_⟩
  exact W.objInit C.hx C.hb C.ow (C.ts _ w1) (C.ts _ w2) (C.ts _ w3) rfl (by rw [C.2.2.2.1]; exact hL.1.1) rfl hd (by omega) (by
    have := lv_room (m := m) (pc := pc) (ls := ls) (rest := Value.ref a :: st) h8
    omega) (g2 p e s m args below meth c R C a1 a2 n0 s0 b1 b2 b3 b4 H locs ls hR hlo hL)
/-- a call through an object whose class is known by its kind; y's class is that class -/
theorem s_callV {idx n a : Nat} {As : List Value} (kk : Nat) {q : vw_C × (Nat → FieldType)} (pv : β → Option Value) (hpv : ∀ r, cw r = .returned (pv r)) (ok : OkM G y cc' nL' rt' d' cw (.ref a :: As) h fc) (hd' : d' + 1 ≤ d) (hn' : nL' ≤ 80) (hd : decode cc pc = .ok (.invokevirtual idx, 3)) (hk : h.kind a = kk + 1) (hc : cT[kk]? = some q) (hyc : y.cls = q.1.1) (w1 : Cond.methodLink own idx y ∈ lw_all) (w2 : Cond.instanceMethod y ∈ lw_all) (w2' : Cond.selects q.1.1 y y ∈ lw_all) (w3 : Cond.initialized q.1.1 ∈ lw_all) (w4 : Cond.code y cc' nL' rt' ∈ lw_all)
    (hy : y.cls ≠ "java/lang/invoke/MethodHandle" ∧ y.cls ≠ "java/lang/invoke/VarHandle" ∧ (parseMethodDescriptor y.desc).map (fun d => d.parameters.length) = some n) (hn : As.length = n) (hst : stk = As.reverse ++ .ref a :: st) (h8 : (st.map fun v => v.category).sum ≤ 8)
    (k : ∀ r h1, Sim G own nm cc nL rt d cv (pc + 3) L ((pv r).toList ++ st) h1 (g r h1)) : Sim G own nm cc nL rt d cv pc L stk h (bnd fc g) :=
  Sim.call pv hpv ok hd' k (fun C hR hls hf hl hM hP hc2 => va_runV (cx_fix C) hM (cwV n C.ts (lw_V w1 w2 w2' w3 w4) rfl rfl rfl ⟨hyc, hy⟩ ⟨by show d' + 1 ≤ _; omega, by show 8 + (nL' + 11) + 100 * d' ≤ _; omega⟩) ⟨PcA.blind, hR.recv C hk hc, hP⟩ rfl hn hls hst (lv_room h8) hd hc2)
/-- a call of an inherited method y (owner's), or of an abstract one: the receiver's class q selects y for x -/
theorem s_callU {idx n a : Nat} {As : List Value} {x : MethodName} {owner : String} (kk : Nat) {q : vw_C × (Nat → FieldType)} (pv : β → Option Value) (hpv : ∀ r, cw r = .returned (pv r)) (ok : OkM G y cc' nL' rt' d' cw (.ref a :: As) h fc) (hd' : d' + 1 ≤ d) (hn' : nL' ≤ 80) (hd : decode cc pc = .ok (.invokevirtual idx, 3)) (hk : h.kind a = kk + 1) (hc : cT[kk]? = some q) (w1 : Cond.methodLink own idx x ∈ lw_all) (wS : Cond.sameMethod x.cls owner x.name x.desc ∈ lw_all) (w2 : Cond.selects q.1.1 x y ∈ lw_all) (w2' : Cond.instanceMethod y ∈ lw_all) (w3 : Cond.initialized y.cls ∈ lw_all) (w4 : Cond.code y cc' nL' rt' ∈ lw_all)
    (hz : y = ⟨owner, x.name, x.desc⟩ ∨ Cond.declares ⟨owner, x.name, x.desc⟩ ∈ lw_tbl) (hy : owner ≠ "java/lang/invoke/MethodHandle" ∧ owner ≠ "java/lang/invoke/VarHandle" ∧ (parseMethodDescriptor x.desc).map (fun d => d.parameters.length) = some n) (hn : As.length = n) (hst : stk = As.reverse ++ .ref a :: st) (h8 : (st.map fun v => v.category).sum ≤ 8)
    (k : ∀ r h1, Sim G own nm cc nL rt d cv (pc + 3) L ((pv r).toList ++ st) h1 (g r h1)) : Sim G own nm cc nL rt d cv pc L stk h (bnd fc g) := by
  have hG : GoodIn lw_all (va_wsU own idx q.1.1 owner x y (ws_ y cc' nL' rt')) := by
    refine lw_app ?_ (lw_meth w4)
    intro w hw
    simp only [List.mem_cons, List.not_mem_nil, or_false] at hw
    rcases hw with e | e | e | e | e
    · rw [e]; exact w1
    · rw [e]; exact wS
    · rw [e]; exact w2
    · rw [e]; exact w2'
    · rw [e]; exact w3
  refine Sim.call pv hpv ok hd' k (fun C hR hls hf hl hM hP hc2 => ?_)
  rcases hz with hz | hz
  · exact va_runU (cx_fix C) hM (va_cwU n C.ts hG rfl rfl rfl hz hy ⟨by show d' + 1 ≤ _; omega, by show 8 + (nL' + 11) + 100 * d' ≤ _; omega⟩) ⟨PcA.blind, hR.recv C hk hc, hP⟩ rfl hn hls hst (lv_room h8) hd hc2
  · exact va_runU (cx_fix C) hM (va_cwA n C.ts hG rfl rfl rfl (C.gl.2.2.2.2.2.1 _ hz) hy ⟨by show d' + 1 ≤ _; omega, by show 8 + (nL' + 11) + 100 * d' ≤ _; omega⟩) ⟨PcA.blind, hR.recv C hk hc, hP⟩ rfl hn hls hst (lv_room h8) hd hc2
end CALL
