/-! METHODS THAT MAY THROW -/
def cvT {β : Type} (cv : β → Outcome) : Nat ⊕ β → Outcome
  | .inl a => .threw a
  | .inr r => cv r
def QfT (G : Gl) (o : Outcome) (h' : AH) (mc ms : Nat) : Array Value → State → Outcome → State → Prop := fun _ st oc t => (oc = o ∧ Rep G h' t.heap) ∧ ∃ L, (st.WarmedH t.vm ∧ st.sameButNew ({ t with vm := st.vm } : State) L mc ms) ∧ ∀ q ∈ L, G.base ≤ q.base
def OkT (G : Gl) (y : MethodName) (cc : ByteArray) (nL : Nat) (rt : Option FieldType) (d : Nat) {α : Type} (cv : α → Outcome) (as : List Value) (h : AH) (f : Option (α × AH)) : Prop :=
  ∀ (r : α) (h' : AH), f = some (r, h') → (h.n ≤ h'.n ∧ h.sl ≤ h'.sl) ∧ MetFree G.l y (headSpec (ws_ y cc nL rt) (rmD d (h'.n - h.n) (h'.sl - h.sl))) (PcA G as h) (fun _ _ _ _ _ => True) (QfT G (cv r) h' (h'.n - h.n) (h'.sl - h.sl))
theorem okT_of_sim {G : Gl} {y : MethodName} {cc : ByteArray} {nL : Nat} {rt : Option FieldType} {d : Nat} {α : Type} {cv : α → Outcome} {as : List Value} (L : List (Nat × Value)) {h : AH} {f : Option (α × AH)} (hy : plainName y.cls = true) (hL : L.map uns = lv_args 0 as) (hcat : ∀ q ∈ L, q.1 < 1000 → q.2.category = 1) (hn : (lg_sl as).length ≤ nL)
    (k : Sim G y.cls y.name cc nL rt d cv 0 L [] h f) (hz : ¬ (y.cls = "MiddleSheet" ∧ y.name = "fault") := by decide +kernel) : OkT G y cc nL rt d cv as h f := by
  intro r h' hf
  obtain ⟨g1, g2⟩ := k r h' hf
  refine ⟨g1, MetFree.of_bodyS (code := cc) (maxLocals := nL) (ret := rt) hy ?_ ?_⟩
  · intro args s m h hn
    obtain ⟨meth, c, h1, h2, h3, h4, h5, h6, -, -⟩ := Cond.code_spec hn (atoms_spec (ws := ws_ y cc nL rt) h _ List.mem_cons_self)
    exact ⟨meth, c, h1, h2, h3, h4, h5, h6⟩
  intro p e s m args below meth c s₁ B hml hv _
  obtain ⟨rfl, hR, hG⟩ := hv
  have hts := atoms_spec (ws := ws_ y cc nL rt) B.pre
  have hl := lv_entry as (n := nL) hn
  have hh0 : s₁.heap = s.heap := by rw [B.state]; rfl
  have hw := g2 p e s m as.toArray below meth c (headSpec (ws_ y cc nL rt) (rmD d (h'.n - h.n) (h'.sl - h.sl))).room
    ⟨B.exec, B.bytes, B.returns, hml, findClass_of_methodNamed B.named, fun w hw => hts w (List.mem_cons_of_mem _ hw), hG, B.notSynchronized, (name_of_methodNamed B.named B.method).1, by
      rw [cxT_nil hz]
      first
        | exact B.noHandlers (hts _ List.mem_cons_self)
        | (have q := B.noHandlers (hts _ List.mem_cons_self); simpa using q)⟩
    (Nat.le_refl _) (Nat.le_refl _) h.n h.sl (Nat.le_refl _) (Nat.le_refl _) (Nat.le_refl _) (Nat.le_refl _) s.heap [] _ hR (fun q hq => by cases hq) ⟨by rw [hL]; exact hl, hcat⟩
  rw [Nat.sub_self, Nat.sub_self] at hw
  rw [← lg_entry_eq] at hw
  obtain ⟨t, a1, t1, t2, t3, Lo, t4, t5⟩ := hw s₁ hh0 (Stand.of_body B)
  exact ⟨t, cv r, a1, t1, t2, ⟨rfl, t3⟩, Lo, t4, t5⟩
/-- a contract whose answer is a return, as the plain kind -/
theorem OkT.ret {G : Gl} {y : MethodName} {cc : ByteArray} {nL : Nat} {rt : Option FieldType} {d : Nat} {β : Type} {cv : β → Outcome} {as : List Value} {h h1 : AH} {f : Option ((Nat ⊕ β) × AH)} {b : β} (hcv : ∀ r, ∃ v, cv r = .returned v) (ok : OkT G y cc nL rt d (cvT cv) as h f) (hf : f = some (.inr b, h1)) : OkM G y cc nL rt d cv as h (some (b, h1)) := by
  intro r h' e
  cases e
  obtain ⟨o1, o2⟩ := ok _ _ hf
  refine ⟨o1, fun p e ha hc hk s m args below hfr happ hP hK => ?_⟩
  obtain ⟨n, o, q1, q2, q3, ⟨⟨q4, q5⟩, L, q6, q7⟩⟩ := o2 p e ha hc hk s m args below hfr happ hP hK
  obtain ⟨v, hv⟩ := hcv b
  exact ⟨n, o, q1, q2, q3, ⟨q4, q5⟩, L, ⟨⟨v, q4.trans hv⟩, q6⟩, q7⟩
def bndT {α β : Type} (x : Option ((Nat ⊕ α) × AH)) (f : α → AH → Option ((Nat ⊕ β) × AH)) : Option ((Nat ⊕ β) × AH) := match x with
  | none => none
  | some (.inl a, h) => some (.inl a, h)
  | some (.inr r, h) => f r h
theorem bndT_inr {α β : Type} {r : α} {h : AH} {f : α → AH → Option ((Nat ⊕ β) × AH)} : bndT (some (.inr r, h)) f = f r h := rfl
theorem bndT_inl {α β : Type} {a : Nat} {h : AH} {f : α → AH → Option ((Nat ⊕ β) × AH)} : bndT (some (.inl a, h)) f = some (.inl a, h) := rfl
section THR
variable {G : Gl} {own nm : String} {cc : ByteArray} {nL : Nat} {rt : Option FieldType} {d : Nat} {α : Type} {cv : α → Outcome} {pc : Nat} {L : List (Nat × Value)} {st stk : List Value} {h : AH}
theorem s_athrow {a : Nat} (hd : decode cc pc = .ok (.athrow, 1)) (hnf : ¬ (own = "MiddleSheet" ∧ nm = "fault") := by decide +kernel) : Sim G own nm cc nL rt d (cvT cv) pc L (.ref a :: st) h (some (.inl a, h)) := by
  intro r' h' hf
  cases hf
  refine ⟨⟨Nat.le_refl _, Nat.le_refl _⟩, fun p e s m args below meth c R C a1 a2 n0 s0 b1 b2 b3 b4 H locs ls hR hlo hL => ?_⟩
  intro T hT X
  have hlocks : meth.locks = false := C.2.2.2.2.2.2.2.1
  obtain ⟨w1, w2, w3, w4, w5⟩ := X.athrowLeaves C.hx (g := F0 m pc ls (.ref a :: st)) rfl rfl rfl (by rw [C.2.2.2.2.2.2.2.2.2, cxT_nil hnf]; intro x hx; cases hx) (a := a) (rest := st) rfl (by rw [C.hb]; exact hd) hlocks
  exact ⟨_, w1, w2, w3, (show Rep G h T.heap by rw [hT]; exact hR), locs, ⟨w4, w5⟩, hlo⟩
variable {β : Type} {cw : β → Outcome} {fc : Option ((Nat ⊕ β) × AH)} {y : MethodName} {cc' : ByteArray} {nL' : Nat} {rt' : Option FieldType} {d' : Nat}
/-- the callee throws: the state behind it, with the note over the caller's frame -/
theorem callVT {p : Program} {e : Env} {s : State} {m : MethodId} {args : Array Value} {below : List Frame} {meth : Method} {c : Code} {R : Room} {T : State} {locs : List Loc} {cells slots mc ms : Nat} {x : Nat} {h' : AH} {Cn : String} {idx : Nat} {a : Nat} {As rest : List Value} {g : JFrame}
    (X : Stand p G.l e R s m args below meth c T locs cells slots) (hexec : p.tables.exec = Jvm.exec) (hown : s.vm.findClass own = some m.cls) (hlink : (Cond.methodLink own idx y).before args s = true) (hinst : (Cond.instanceMethod y).before args s = true) (hsel : (Cond.selects Cn y y).before args s = true) (hcode : (Cond.code y cc' nL' rt').before args s = true) (hy : y.cls ≠ "java/lang/invoke/MethodHandle" ∧ y.cls ≠ "java/lang/invoke/VarHandle")
    (hM : MetFree G.l y (headSpec (ws_ y cc' nL' rt') (rmD d' mc ms)) (PcA G (.ref a :: As) h) (fun _ _ _ _ _ => True) (QfT G (.threw x) h' mc ms)) (hfr : d' + 1 ≤ R.frames) (hlo : 8 + (nL' + 11) + 100 * d' ≤ R.locals) (hws : ∀ w ∈ ws_ y cc' nL' rt', ∀ (a' : Array Value) (U : State), s.WarmedH U.vm → w.before a' U = true) (hini : ∀ (a' : Array Value) (U : State), s.WarmedH U.vm → (Cond.initialized y.cls).before a' U = true)
    (hcell : ∃ cellB : Cell, T.heap[a]? = some cellB ∧ cellB.vm.isStatics = false ∧ s.vm.findClass Cn = some cellB.cls) (hg : g.method = m) (hsize : g.locals.size = c.maxLocals) (hlen : ∀ sig, parseMethodDescriptor y.desc = some sig → As.length = sig.parameters.length) (hstack : g.stack = As.reverse ++ .ref a :: rest) (hW : 2 * g.monitorRoom + (rest.map fun v => v.category).sum ≤ 8) (hdg : decode c.code g.pc = .ok (.invokevirtual idx, 3))
    (hP : ∀ U : State, U.heap = T.heap → s.WarmedH U.vm → PcA G (.ref a :: As) h (Value.ref a :: As).toArray U) (hc : cells + mc ≤ R.cells ∧ slots + ms ≤ R.slots) :
    ∃ (T2 : State) (Lo : List Loc), Rep G h' T2.heap ∧ Stand p G.l e R s m args below meth c T2 (locs ++ Lo) (cells + mc) (slots + ms) ∧ (∀ q ∈ Lo, G.base ≤ q.base) ∧
      ∀ target, Steps p.tables e below ((T2.setTop { g with stack := rest }).pushFrame (.throwing x)) target → Steps p.tables e below (T.setTop g) target := by
  obtain ⟨cellB, hcB, hoB, hclB⟩ := hcell
  obtain ⟨mk, methM, hnamed, hmethM, hstM, habM⟩ := Cond.instanceMethod_spec hinst
  obtain ⟨methM', cM, hmethM', -, -, -, -, -, -, hsigM⟩ := Cond.code_spec hnamed hcode
  cases hmethM.symm.trans hmethM'
  obtain ⟨c2, r2, m2, q1, q2, q3, q4, kP, hkP, hkPi⟩ := Cond.selects_spec hsel
  cases hclB.symm.trans q1
  cases (State.methodFound?_of_named hnamed hy).symm.trans q2
  cases hnamed.symm.trans q3
  have hselP : selectMethod e.platform s.vm cellB.cls mk = .method mk := by rw [Launch.admits_selectMethod X.admits]; exact q4
  obtain ⟨vm₁, X₁, hstep₁⟩ := X.invokevirtual hexec hown hlink hnamed hmethM hstM hkP hkPi hy (a := a) (cell := cellB) hcB
    (fun z h => by rw [h] at hoB; cases hoB) hselP hmethM habM hkP hkPi (g := g) hg (argsL := As) (rest := rest) (hlen _ hsigM) hstack hdg
  -- the callee's run from U
  generalize hU : T.setVm vm₁ = U at X₁ hstep₁
  have hUh : U.heap = T.heap := by rw [← hU]; rfl
  have hWU : s.WarmedH U.vm := X₁.warmed
  have hn : U.methodNamed? y = some mk := X₁.named hnamed
  have h1 : (headSpec (ws_ y cc' nL' rt') (rmD d' mc ms)).pre.before (Value.ref a :: As).toArray U = true := atoms_intro fun w hw => hws w hw _ _ hWU
  obtain ⟨methY, cY, hmY, hcY, -, hlY, -, -, -, -⟩ := Cond.code_spec hn (hws _ List.mem_cons_self (Value.ref a :: As).toArray U hWU)
  obtain ⟨kY, hkY, -⟩ := className_of_methodNamed hn
  have hinitY : kY.init = .initialized := Cond.initialized_spec (findClass_of_methodNamed hn) hkY (hini (Value.ref a :: As).toArray U hWU)
  obtain ⟨g2, hg2⟩ : ∃ g2 : JFrame, g2 = { g with stack := rest } := ⟨_, rfl⟩
  have hgm : g2.method = m := by rw [hg2]; exact hg
  have hgs : g2.locals.size = c.maxLocals := by rw [hg2]; exact hsize
  have hgd : decode c.code g2.pc = .ok (.invokevirtual idx, 3) := by rw [hg2]; exact hdg
  have hgw : 2 * g2.monitorRoom + (g2.stack.map fun v => v.category).sum ≤ 8 := by rw [hg2]; exact hW
  have hat : At U g2.method c below := by rw [hgm]; exact X₁.here
  have happ : (headSpec (ws_ y cc' nL' rt') (rmD d' mc ms)).appliesLoose y e.platform (U.calling g2 mk (Value.ref a :: As).toArray) = true :=
    Spec.appliesLoose_calling (g := g2) hat hgd hn hkY hinitY
      (X₁.room_calling (g := g2) (R' := rmD d' mc ms) hgs hmY hcY hfr (by rw [hlY]; show _ + 100 * d' ≤ _; omega) hc.1 hc.2) h1
  obtain ⟨mid, hmid⟩ := hat.above
  have hfrU : (U.setTop g2).frames = (.java g2 :: mid) ++ below := by rw [State.frames_setTop' g2 hat.top, hmid]; rfl
  obtain ⟨o, s₂, hsteps, -, hend, hq⟩ := Steps.callFree hM p X₁.admits X₁.cas X₁.clock (acts := []) hfrU happ (PcA.blind _ U g2 mk (hP U hUh hWU)) trivial
  have hq' : QfT G (.threw x) h' mc ms (Value.ref a :: As).toArray (U.calling g2 mk (Value.ref a :: As).toArray) o s₂ := hq
  obtain ⟨⟨rfl, hRep⟩, Lo, ⟨hW₂, e2, r2, r3, r4, r5, r6⟩, hLo⟩ := hq'
  rw [State.frames_setTop' g2 hat.top] at hend
  have hf₂ : s₂.frames = .throwing x :: .java g2 :: U.frames.tail := hend
  have e3 : s₂ = ({ (U.calling g2 mk (Value.ref a :: As).toArray).setFrames s₂.frames with heap := s₂.heap, slotsUsed := s₂.slotsUsed } : State).setVm s₂.vm := by
    have : s₂ = ({ s₂ with vm := (U.calling g2 mk (Value.ref a :: As).toArray).vm } : State).setVm s₂.vm := rfl
    rw [e2] at this
    exact this
  have hW' : U.WarmedH s₂.vm := hW₂
  obtain ⟨g₀, hg0⟩ := Option.isSome_iff_exists.mp hat.top
  obtain ⟨r, hr⟩ := State.topJava?_eq_some.mp hg0
  have hs₂ : s₂ = ((({ U with heap := s₂.heap, slotsUsed := s₂.slotsUsed } : State).setVm s₂.vm).setTop g2).pushFrame (.throwing x) := by
    have hr' : (({ U with heap := s₂.heap, slotsUsed := s₂.slotsUsed } : State).setVm s₂.vm).frames = .java g₀ :: r := hr
    refine e3.trans ?_
    rw [hf₂, State.calling_eq hat.top, State.setFrames_setFrames, State.pushFrame, State.frames_setTop _ hr', State.setTop_of_frames _ hr', State.setFrames_setFrames, hr]
    rfl
  have hsame : U.sameButNew ({ U with heap := s₂.heap, slotsUsed := s₂.slotsUsed } : State) Lo mc ms := by
    refine ⟨?_, r2, r3, r4, r5, r6⟩
    obtain ⟨t, ht, -⟩ := State.frames_cons hr
    show ({ U with heap := s₂.heap, slotsUsed := s₂.slotsUsed } : State) = { U.setFrames U.frames with heap := s₂.heap, slotsUsed := s₂.slotsUsed }
    rw [State.setFrames_self ht]
  refine ⟨(({ U with heap := s₂.heap, slotsUsed := s₂.slotsUsed } : State).setVm s₂.vm), Lo, hRep,
    ⟨X₁.admits, X₁.cas, X₁.clock, X₁.frames, X₁.room, X₁.hears, X₁.method, X₁.code, (X₁.here.setHeapUsed s₂.heap s₂.slotsUsed).setVm hW'.alike, X₁.tail, State.WarmedH.trans X₁.warmed hW', X₁.limits, X₁.bytes, X₁.same.trans (hsame.setVm s.vm)⟩, hLo, fun target ht => ?_⟩
  rw [← hg2, ← hs₂] at ht
  exact hstep₁ _ fun acts => by rw [doInvoke_state, ← hg2]; exact hsteps.trans ht
/-- a call through an object of a method that may throw, in a method without handlers -/
theorem s_callT {g : β → AH → Option ((Nat ⊕ α) × AH)} {idx n a : Nat} {As : List Value} (kk : Nat) {q : vw_C × (Nat → FieldType)} (pv : β → Option Value) (hpv : ∀ r, cw r = .returned (pv r)) (ok : OkT G y cc' nL' rt' d' (cvT cw) (.ref a :: As) h fc) (hd' : d' + 1 ≤ d) (hn' : nL' ≤ 80) (hd : decode cc pc = .ok (.invokevirtual idx, 3)) (hk : h.kind a = kk + 1) (hc : cT[kk]? = some q) (hyc : y.cls = q.1.1) (w1 : Cond.methodLink own idx y ∈ lw_all) (w2 : Cond.instanceMethod y ∈ lw_all) (w2' : Cond.selects q.1.1 y y ∈ lw_all) (w3 : Cond.initialized q.1.1 ∈ lw_all) (w4 : Cond.code y cc' nL' rt' ∈ lw_all)
    (hy : y.cls ≠ "java/lang/invoke/MethodHandle" ∧ y.cls ≠ "java/lang/invoke/VarHandle" ∧ (parseMethodDescriptor y.desc).map (fun d => d.parameters.length) = some n) (hn : As.length = n) (hst : stk = As.reverse ++ .ref a :: st) (h8 : (st.map fun v => v.category).sum ≤ 8)
    (k : ∀ r h1, Sim G own nm cc nL rt d (cvT cv) (pc + 3) L ((pv r).toList ++ st) h1 (g r h1)) (hnf : ¬ (own = "MiddleSheet" ∧ nm = "fault") := by decide +kernel) : Sim G own nm cc nL rt d (cvT cv) pc L stk h (bndT fc g) := by
  cases hfc : fc with
  | none => exact s_none
  | some z =>
    obtain ⟨z, h1⟩ := z
    cases z with
    | inr b =>
      have ok2 : OkM G y cc' nL' rt' d' cw (.ref a :: As) h (some (b, h1)) := OkT.ret (fun r => ⟨pv r, hpv r⟩) ok hfc
      exact s_callV (fc := some (b, h1)) (g := g) kk pv hpv ok2 hd' hn' hd hk hc hyc w1 w2 w2' w3 w4 hy hn hst h8 k
    | inl x =>
      intro r h' hf
      cases hf
      obtain ⟨o1, o2⟩ := ok _ _ hfc
      refine ⟨o1, fun p e s m args below meth c R C a1 a2 n0 s0 b1 b2 b3 b4 H locs ls hR hlo hL => ?_⟩
      intro T hT X
      have hgood := lw_V w1 w2 w2' w3 w4
      have hlocks : meth.locks = false := C.2.2.2.2.2.2.2.1
      obtain ⟨T2, Lo, t1, t2, t3, t4⟩ := callVT X C.hx C.ow (C.ts _ w1) (C.ts _ w2) (C.ts _ w2') (C.ts _ w4) ⟨hy.1, hy.2.1⟩ o2 (by omega) (by omega) (fun w hw a' U hU => pay_in C.ts (lw_meth w4) w hw a' U hU) (fun a' U hU => word_at hU (Or.inl (by first | rfl | simp [Cond.onTables, Cond.keeps, Cond.steady])) (by rw [hyc]; exact C.ts _ w3))
        (by rw [hT]; exact hR.recv C hk hc) (g := F0 m pc ls stk) rfl (by rw [C.2.2.2.1]; exact hL.1.1) (fun sig hs => by
          have h2 := hy.2.2
          rw [hs] at h2
          exact hn.trans (Option.some.inj h2).symm) (rest := st) hst (lv_room h8) (by rw [C.hb]; exact hd)
        (fun U hU hW => ⟨rfl, by rw [hU, hT]; exact hR, C.gl.warm hW⟩) ⟨by omega, by omega⟩
      have ea : h.n - n0 + (h1.n - h.n) = h1.n - n0 := by omega
      have eb : h.sl - s0 + (h1.sl - h.sl) = h1.sl - s0 := by omega
      rw [ea, eb] at t2
      obtain ⟨u1, u2, u3, u4, u5⟩ := t2.leaveThrown x (g := { F0 m pc ls stk with stack := st }) rfl rfl rfl (by rw [C.2.2.2.2.2.2.2.2.2, cxT_nil hnf]; intro x hx; cases hx) hlocks
      exact ⟨_, t4 _ u1, u2, u3, t1, locs ++ Lo, ⟨u4, u5⟩, fun q hq => by
        rcases List.mem_append.mp hq with z | z
        · exact hlo q z
        · exact t3 q z⟩
theorem s_callT_I {fc : Option ((Nat ⊕ Int32) × AH)} {g : Int32 → AH → Option ((Nat ⊕ α) × AH)} {idx n a : Nat} {As : List Value} (kk : Nat) {q : vw_C × (Nat → FieldType)} (ok : OkT G y cc' nL' rt' d' (cvT cvI) (.ref a :: As) h fc) (hd' : d' + 1 ≤ d) (hn' : nL' ≤ 80) (hd : decode cc pc = .ok (.invokevirtual idx, 3)) (hk : h.kind a = kk + 1) (hc : cT[kk]? = some q) (hyc : y.cls = q.1.1) (w1 : Cond.methodLink own idx y ∈ lw_all) (w2 : Cond.instanceMethod y ∈ lw_all) (w2' : Cond.selects q.1.1 y y ∈ lw_all) (w3 : Cond.initialized q.1.1 ∈ lw_all) (w4 : Cond.code y cc' nL' rt' ∈ lw_all)
    (hy : y.cls ≠ "java/lang/invoke/MethodHandle" ∧ y.cls ≠ "java/lang/invoke/VarHandle" ∧ (parseMethodDescriptor y.desc).map (fun d => d.parameters.length) = some n) (hn : As.length = n) (hst : stk = As.reverse ++ .ref a :: st) (h8 : (st.map fun v => v.category).sum ≤ 8)
    (k : ∀ (r : Int32) h1, Sim G own nm cc nL rt d (cvT cv) (pc + 3) L (.int r :: st) h1 (g r h1)) (hnf : ¬ (own = "MiddleSheet" ∧ nm = "fault") := by decide +kernel) : Sim G own nm cc nL rt d (cvT cv) pc L stk h (bndT fc g) :=
  s_callT kk (fun r => some (.int r)) (fun _ => rfl) ok hd' hn' hd hk hc hyc w1 w2 w2' w3 w4 hy hn hst h8 k hnf
theorem s_callT_V {fc : Option ((Nat ⊕ Unit) × AH)} {g : Unit → AH → Option ((Nat ⊕ α) × AH)} {idx n a : Nat} {As : List Value} (kk : Nat) {q : vw_C × (Nat → FieldType)} (ok : OkT G y cc' nL' rt' d' (cvT cvV) (.ref a :: As) h fc) (hd' : d' + 1 ≤ d) (hn' : nL' ≤ 80) (hd : decode cc pc = .ok (.invokevirtual idx, 3)) (hk : h.kind a = kk + 1) (hc : cT[kk]? = some q) (hyc : y.cls = q.1.1) (w1 : Cond.methodLink own idx y ∈ lw_all) (w2 : Cond.instanceMethod y ∈ lw_all) (w2' : Cond.selects q.1.1 y y ∈ lw_all) (w3 : Cond.initialized q.1.1 ∈ lw_all) (w4 : Cond.code y cc' nL' rt' ∈ lw_all)
    (hy : y.cls ≠ "java/lang/invoke/MethodHandle" ∧ y.cls ≠ "java/lang/invoke/VarHandle" ∧ (parseMethodDescriptor y.desc).map (fun d => d.parameters.length) = some n) (hn : As.length = n) (hst : stk = As.reverse ++ .ref a :: st) (h8 : (st.map fun v => v.category).sum ≤ 8)
    (k : ∀ (r : Unit) h1, Sim G own nm cc nL rt d (cvT cv) (pc + 3) L (st) h1 (g r h1)) (hnf : ¬ (own = "MiddleSheet" ∧ nm = "fault") := by decide +kernel) : Sim G own nm cc nL rt d (cvT cv) pc L stk h (bndT fc g) :=
  s_callT kk (fun _ => none) (fun _ => rfl) ok hd' hn' hd hk hc hyc w1 w2 w2' w3 w4 hy hn hst h8 k hnf
end THR
