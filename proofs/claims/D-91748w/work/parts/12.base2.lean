/-! THE JUDGEMENT: from this frame, with a heap that represents h: if f is some (r, h'), the method ends with r and a heap that represents h' -/
/-- the one table of handlers here -/
def cxT (own nm : String) : List ExceptionTableEntry := if own = "MiddleSheet" ∧ nm = "fault" then tableOf [(0, 16, 17, 125)] else []
theorem cxT_nil {own nm : String} (h : ¬ (own = "MiddleSheet" ∧ nm = "fault")) : cxT own nm = [] := if_neg h
def Cx (G : Gl) (own nm : String) (cc : ByteArray) (nL : Nat) (rt : Option FieldType) (p : Program) (s : State) (m : MethodId) (args : Array Value) (meth : Method) (c : Code) : Prop :=
  p.tables.exec = Jvm.exec ∧ c.code = cc ∧ meth.sig.returnType = rt ∧ c.maxLocals = nL ∧ s.vm.findClass own = some m.cls ∧ (∀ w ∈ lw_all, w.before args s = true) ∧ Glob G s ∧ meth.locks = false ∧ meth.name = nm ∧ c.exceptionTable.toList = cxT own nm
def MQX (G : Gl) (below : List Frame) (o : Outcome) (h' : AH) (s : State) (mc ms : Nat) : State → Prop := fun t =>
  t.status = .running ∧ Ended t below o ∧ Rep G h' t.heap ∧ ∃ L, (s.WarmedH t.vm ∧ s.sameButNew ({ t with vm := s.vm } : State) L mc ms) ∧ ∀ q ∈ L, G.base ≤ q.base
def Sim (G : Gl) (own nm : String) (cc : ByteArray) (nL : Nat) (rt : Option FieldType) (d : Nat) {α : Type} (cv : α → Outcome) (pc : Nat) (L : List (Nat × Value)) (st : List Value) (h : AH) (f : Option (α × AH)) : Prop :=
  ∀ (r : α) (h' : AH), f = some (r, h') → (h.n ≤ h'.n ∧ h.sl ≤ h'.sl) ∧
    ∀ (p : Program) (e : Env) (s : State) (m : MethodId) (args : Array Value) (below : List Frame) (meth : Method) (c : Code) (R : Room),
      Cx G own nm cc nL rt p s m args meth c → d ≤ R.frames → 100 * d ≤ R.locals → ∀ (n0 s0 : Nat), n0 ≤ h.n → s0 ≤ h.sl → h'.n - n0 ≤ R.cells → h'.sl - s0 ≤ R.slots →
      ∀ (H : Heap) (locs : List Loc) (ls : Array Slot), Rep G h H → (∀ q ∈ locs, G.base ≤ q.base) → Lh ls nL L →
        W p G.l e R s m args below meth c H locs (h.n - n0) (h.sl - s0) (MQX G below (cv r) h' s (h'.n - n0) (h'.sl - s0)) (F0 m pc ls st)
theorem W.mono {p : Program} {l : Launch} {e : Env} {R : Room} {s : State} {m : MethodId} {args : Array Value} {below : List Frame} {meth : Method} {c : Code} {H : Heap} {locs : List Loc} {cells slots : Nat} {Q Q' : State → Prop} {g : JFrame} (hq : ∀ t, Q t → Q' t) (w : W p l e R s m args below meth c H locs cells slots Q g) : W p l e R s m args below meth c H locs cells slots Q' g := fun T hT X => by
  obtain ⟨t, a, b⟩ := w T hT X
  exact ⟨t, a, hq t b⟩
theorem MQX.of {G : Gl} {below : List Frame} {o : Outcome} {h' : AH} {s : State} {mc ms : Nat} {args : Array Value} (t : State) (h : MQ below (fun _ _ o' t => o' = o ∧ Rep G h' t.heap) args s mc ms (fun q => G.base ≤ q) t) : MQX G below o h' s mc ms t := by
  obtain ⟨o', h1, h2, ⟨rfl, h3⟩, L, ⟨-, h4⟩, h5⟩ := h
  exact ⟨h1, h2, h3, L, h4, h5⟩
section SIM
variable {G : Gl} {own nm : String} {cc : ByteArray} {nL : Nat} {rt : Option FieldType} {d : Nat} {α : Type} {cv : α → Outcome} {pc : Nat} {L : List (Nat × Value)} {st : List Value} {h : AH} {f : Option (α × AH)}
theorem Sim.lift {pc' : Nat} {L' : List (Nat × Value)} {st' : List Value} (k : Sim G own nm cc nL rt d cv pc' L' st' h f)
    (row : ∀ {p : Program} {e : Env} {s : State} {m : MethodId} {args : Array Value} {below : List Frame} {meth : Method} {c : Code} {R : Room} {H : Heap} {locs : List Loc} {cells slots : Nat} {Q : State → Prop} {ls : Array Slot},
      Cx G own nm cc nL rt p s m args meth c → Lh ls nL L → (∀ ls', Lh ls' nL L' → W p G.l e R s m args below meth c H locs cells slots Q (F0 m pc' ls' st')) → W p G.l e R s m args below meth c H locs cells slots Q (F0 m pc ls st)) :
    Sim G own nm cc nL rt d cv pc L st h f := by
  intro r h' hf
  obtain ⟨h1, h2⟩ := k r h' hf
  exact ⟨h1, fun p e s m args below meth c R C a1 a2 n0 s0 b1 b2 b3 b4 H locs ls hR hlo hL => row C hL (fun ls' hL' => h2 p e s m args below meth c R C a1 a2 n0 s0 b1 b2 b3 b4 H locs ls' hR hlo hL')⟩
theorem s_sub {L' : List (Nat × Value)} (ks : List Nat) (hl : lv_pick L ks = L') (k : Sim G own nm cc nL rt d cv pc L' st h f) : Sim G own nm cc nL rt d cv pc L st h f :=
  Sim.lift k (fun _ hL kk => kk _ (hL.sub (fun q hq => by
    rw [← hl] at hq
    obtain ⟨k, -, hk⟩ := List.mem_filterMap.mp hq
    exact List.mem_of_getElem? hk)))
theorem s_none : Sim G own nm cc nL rt d cv pc L st h none := fun r h' hf => by cases hf
theorem s_chk {c : Prop} {inst : Decidable c} (k : c → Sim G own nm cc nL rt d cv pc L st h f) : Sim G own nm cc nL rt d cv pc L st h (@chk _ c inst f) := fun r h' hf => k (chk_some hf).1 r h' (chk_some hf).2
theorem s_ite {c : Prop} {inst : Decidable c} {f1 f2 : Option (α × AH)} (k1 : c → Sim G own nm cc nL rt d cv pc L st h f1) (k2 : ¬ c → Sim G own nm cc nL rt d cv pc L st h f2) : Sim G own nm cc nL rt d cv pc L st h (@ite _ c inst f1 f2) := by
  by_cases hc : c
  · rw [if_pos hc]; exact k1 hc
  · rw [if_neg hc]; exact k2 hc
theorem s_jn {β : Sort _} {k : β} {g : β → Option (α × AH)} (Pj : β → Prop) (h1 : Pj k) (h2 : ∀ j, Pj j → Sim G own nm cc nL rt d cv pc L st h (g j)) : Sim G own nm cc nL rt d cv pc L st h (jn k g) := h2 k h1
theorem s_ob {r : Option Nat} {g : Nat → Option (α × AH)} (Lf : Value → List (Nat × Value)) (sf : Value → List Value) (k : ∀ a, Sim G own nm cc nL rt d cv pc (Lf (.ref a)) (sf (.ref a)) h (g a)) : Sim G own nm cc nL rt d cv pc (Lf (va_rf r)) (sf (va_rf r)) h (ob r g) := by
  cases r with
  | none => exact s_none
  | some a => exact k a
theorem s_oc {r : Option Nat} {g0 : Option (α × AH)} {g : Nat → Option (α × AH)} (Lf : Value → List (Nat × Value)) (sf : Value → List Value) (k0 : Sim G own nm cc nL rt d cv pc (Lf .null) (sf .null) h g0) (k : ∀ a, Sim G own nm cc nL rt d cv pc (Lf (.ref a)) (sf (.ref a)) h (g a)) : Sim G own nm cc nL rt d cv pc (Lf (va_rf r)) (sf (va_rf r)) h (oc r g0 g) := by
  cases r with
  | none => exact k0
  | some a => exact k a

theorem s_iadd {x y : Int32} (hd : decode cc pc = .ok (.iadd, 1)) (k : Sim G own nm cc nL rt d cv (pc + 1) L (.int (x + y) :: st) h f) : Sim G own nm cc nL rt d cv pc L (.int y :: .int x :: st) h f :=
  Sim.lift k (fun C hL kk => lv_iadd C.1 C.2.1 hd (kk _ hL))
theorem s_isub {x y : Int32} (hd : decode cc pc = .ok (.isub, 1)) (k : Sim G own nm cc nL rt d cv (pc + 1) L (.int (x - y) :: st) h f) : Sim G own nm cc nL rt d cv pc L (.int y :: .int x :: st) h f :=
  Sim.lift k (fun C hL kk => lv_isub C.1 C.2.1 hd (kk _ hL))
theorem s_imul {x y : Int32} (hd : decode cc pc = .ok (.imul, 1)) (k : Sim G own nm cc nL rt d cv (pc + 1) L (.int (x * y) :: st) h f) : Sim G own nm cc nL rt d cv pc L (.int y :: .int x :: st) h f :=
  Sim.lift k (fun C hL kk => lv_imul C.1 C.2.1 hd (kk _ hL))
theorem s_iand {x y : Int32} (hd : decode cc pc = .ok (.iand, 1)) (k : Sim G own nm cc nL rt d cv (pc + 1) L (.int (x &&& y) :: st) h f) : Sim G own nm cc nL rt d cv pc L (.int y :: .int x :: st) h f :=
  Sim.lift k (fun C hL kk => lv_iand C.1 C.2.1 hd (kk _ hL))
theorem s_ior {x y : Int32} (hd : decode cc pc = .ok (.ior, 1)) (k : Sim G own nm cc nL rt d cv (pc + 1) L (.int (x ||| y) :: st) h f) : Sim G own nm cc nL rt d cv pc L (.int y :: .int x :: st) h f :=
  Sim.lift k (fun C hL kk => lv_ior C.1 C.2.1 hd (kk _ hL))
theorem s_ixor {x y : Int32} (hd : decode cc pc = .ok (.ixor, 1)) (k : Sim G own nm cc nL rt d cv (pc + 1) L (.int (x ^^^ y) :: st) h f) : Sim G own nm cc nL rt d cv pc L (.int y :: .int x :: st) h f :=
  Sim.lift k (fun C hL kk => lv_ixor C.1 C.2.1 hd (kk _ hL))
theorem s_ishl {x y : Int32} (hd : decode cc pc = .ok (.ishl, 1)) (k : Sim G own nm cc nL rt d cv (pc + 1) L (.int (x <<< (y &&& 31)) :: st) h f) : Sim G own nm cc nL rt d cv pc L (.int y :: .int x :: st) h f :=
  Sim.lift k (fun C hL kk => lv_ishl C.1 C.2.1 hd (kk _ hL))
theorem s_ishr {x y : Int32} (hd : decode cc pc = .ok (.ishr, 1)) (k : Sim G own nm cc nL rt d cv (pc + 1) L (.int (x >>> (y &&& 31)) :: st) h f) : Sim G own nm cc nL rt d cv pc L (.int y :: .int x :: st) h f :=
  Sim.lift k (fun C hL kk => lv_ishr C.1 C.2.1 hd (kk _ hL))
theorem s_idiv {x y : Int32} (hd : decode cc pc = .ok (.idiv, 1)) (hne : ¬ y = 0) (k : Sim G own nm cc nL rt d cv (pc + 1) L (.int (x / y) :: st) h f) : Sim G own nm cc nL rt d cv pc L (.int y :: .int x :: st) h f :=
  Sim.lift k (fun C hL kk => lv_idiv C.1 C.2.1 hd hne (kk _ hL))
theorem s_irem {x y : Int32} (hd : decode cc pc = .ok (.irem, 1)) (hne : ¬ y = 0) (k : Sim G own nm cc nL rt d cv (pc + 1) L (.int (x - x / y * y) :: st) h f) : Sim G own nm cc nL rt d cv pc L (.int y :: .int x :: st) h f :=
  Sim.lift k (fun C hL kk => lv_irem C.1 C.2.1 hd hne (kk _ hL))
theorem s_iushr {x y : Int32} (hd : decode cc pc = .ok (.iushr, 1)) (k : Sim G own nm cc nL rt d cv (pc + 1) L (.int ((x.toUInt32 >>> (y.toUInt32 &&& Int32.toUInt32 31)).toInt32) :: st) h f) : Sim G own nm cc nL rt d cv pc L (.int y :: .int x :: st) h f :=
  Sim.lift k (fun C hL kk => lv_iushr C.1 C.2.1 hd rfl (kk _ hL))
theorem s_ineg {x : Int32} (hd : decode cc pc = .ok (.ineg, 1)) (k : Sim G own nm cc nL rt d cv (pc + 1) L (.int (-x) :: st) h f) : Sim G own nm cc nL rt d cv pc L (.int x :: st) h f :=
  Sim.lift k (fun C hL kk => lv_ineg C.1 C.2.1 hd (kk _ hL))
theorem s_ladd {x y : Int64} (hd : decode cc pc = .ok (.ladd, 1)) (k : Sim G own nm cc nL rt d cv (pc + 1) L (.long (x + y) :: st) h f) : Sim G own nm cc nL rt d cv pc L (.long y :: .long x :: st) h f :=
  Sim.lift k (fun C hL kk => lv_ladd C.1 C.2.1 hd (kk _ hL))
theorem s_lsub {x y : Int64} (hd : decode cc pc = .ok (.lsub, 1)) (k : Sim G own nm cc nL rt d cv (pc + 1) L (.long (x - y) :: st) h f) : Sim G own nm cc nL rt d cv pc L (.long y :: .long x :: st) h f :=
  Sim.lift k (fun C hL kk => lv_lsub C.1 C.2.1 hd (kk _ hL))
theorem s_lmul {x y : Int64} (hd : decode cc pc = .ok (.lmul, 1)) (k : Sim G own nm cc nL rt d cv (pc + 1) L (.long (x * y) :: st) h f) : Sim G own nm cc nL rt d cv pc L (.long y :: .long x :: st) h f :=
  Sim.lift k (fun C hL kk => lv_lmul C.1 C.2.1 hd (kk _ hL))
theorem s_land {x y : Int64} (hd : decode cc pc = .ok (.land, 1)) (k : Sim G own nm cc nL rt d cv (pc + 1) L (.long (x &&& y) :: st) h f) : Sim G own nm cc nL rt d cv pc L (.long y :: .long x :: st) h f :=
  Sim.lift k (fun C hL kk => lv_land C.1 C.2.1 hd (kk _ hL))
theorem s_lor {x y : Int64} (hd : decode cc pc = .ok (.lor, 1)) (k : Sim G own nm cc nL rt d cv (pc + 1) L (.long (x ||| y) :: st) h f) : Sim G own nm cc nL rt d cv pc L (.long y :: .long x :: st) h f :=
  Sim.lift k (fun C hL kk => lv_lor C.1 C.2.1 hd (kk _ hL))
theorem s_lxor {x y : Int64} (hd : decode cc pc = .ok (.lxor, 1)) (k : Sim G own nm cc nL rt d cv (pc + 1) L (.long (x ^^^ y) :: st) h f) : Sim G own nm cc nL rt d cv pc L (.long y :: .long x :: st) h f :=
  Sim.lift k (fun C hL kk => lv_lxor C.1 C.2.1 hd (kk _ hL))
theorem s_ldiv {x y : Int64} (hd : decode cc pc = .ok (.ldiv, 1)) (hne : ¬ y = 0) (k : Sim G own nm cc nL rt d cv (pc + 1) L (.long (x / y) :: st) h f) : Sim G own nm cc nL rt d cv pc L (.long y :: .long x :: st) h f :=
  Sim.lift k (fun C hL kk => lv_ldiv C.1 C.2.1 hd hne (kk _ hL))
theorem s_lrem {x y : Int64} (hd : decode cc pc = .ok (.lrem, 1)) (hne : ¬ y = 0) (k : Sim G own nm cc nL rt d cv (pc + 1) L (.long (x - x / y * y) :: st) h f) : Sim G own nm cc nL rt d cv pc L (.long y :: .long x :: st) h f :=
  Sim.lift k (fun C hL kk => lv_lrem C.1 C.2.1 hd hne (kk _ hL))
theorem s_lneg {x : Int64} (hd : decode cc pc = .ok (.lneg, 1)) (k : Sim G own nm cc nL rt d cv (pc + 1) L (.long (-x) :: st) h f) : Sim G own nm cc nL rt d cv pc L (.long x :: st) h f :=
  Sim.lift k (fun C hL kk => lv_lneg C.1 C.2.1 hd (kk _ hL))
theorem s_lcmp {x y : Int64} (hd : decode cc pc = .ok (.lcmp, 1)) (k : Sim G own nm cc nL rt d cv (pc + 1) L (.int (lg_cmp x y) :: st) h f) : Sim G own nm cc nL rt d cv pc L (.long y :: .long x :: st) h f :=
  Sim.lift k (fun C hL kk => W.lcmp C.1 C.2.1 hd (kk _ hL))
theorem s_i2l {x : Int32} (hd : decode cc pc = .ok (.i2l, 1)) (k : Sim G own nm cc nL rt d cv (pc + 1) L (.long x.toInt64 :: st) h f) : Sim G own nm cc nL rt d cv pc L (.int x :: st) h f :=
  Sim.lift k (fun C hL kk => lv_i2l C.1 C.2.1 hd rfl (kk _ hL))
theorem s_l2i {x : Int64} (hd : decode cc pc = .ok (.l2i, 1)) (k : Sim G own nm cc nL rt d cv (pc + 1) L (.int x.toInt32 :: st) h f) : Sim G own nm cc nL rt d cv pc L (.long x :: st) h f :=
  Sim.lift k (fun C hL kk => lv_l2i C.1 C.2.1 hd rfl (kk _ hL))
theorem s_i2b {x : Int32} (hd : decode cc pc = .ok (.i2b, 1)) (k : Sim G own nm cc nL rt d cv (pc + 1) L (.int x.toInt8.toInt32 :: st) h f) : Sim G own nm cc nL rt d cv pc L (.int x :: st) h f :=
  Sim.lift k (fun C hL kk => lv_i2b C.1 C.2.1 hd rfl (kk _ hL))
theorem s_i2c {x : Int32} (hd : decode cc pc = .ok (.i2c, 1)) (k : Sim G own nm cc nL rt d cv (pc + 1) L (.int (x.toUInt32 % 65536).toInt32 :: st) h f) : Sim G own nm cc nL rt d cv pc L (.int x :: st) h f :=
  Sim.lift k (fun C hL kk => lv_i2c C.1 C.2.1 hd rfl (kk _ hL))
theorem s_iconst {n : Int} (v : Int32) (hd : decode cc pc = .ok (.iconst n, 1)) (hv : Int32.ofInt n = v) (k : Sim G own nm cc nL rt d cv (pc + 1) L (.int v :: st) h f) : Sim G own nm cc nL rt d cv pc L (st) h f :=
  Sim.lift k (fun C hL kk => lv_iconst C.1 C.2.1 hd hv (kk _ hL))
theorem s_bipush {n : Int} (v : Int32) (hd : decode cc pc = .ok (.bipush n, 2)) (hv : (Int8.ofInt n).toInt32 = v) (k : Sim G own nm cc nL rt d cv (pc + 2) L (.int v :: st) h f) : Sim G own nm cc nL rt d cv pc L (st) h f :=
  Sim.lift k (fun C hL kk => lv_bipush C.1 C.2.1 hd hv (kk _ hL))
theorem s_sipush {n : Int} (v : Int32) (hd : decode cc pc = .ok (.sipush n, 3)) (hv : (Int16.ofInt n).toInt32 = v) (k : Sim G own nm cc nL rt d cv (pc + 3) L (.int v :: st) h f) : Sim G own nm cc nL rt d cv pc L (st) h f :=
  Sim.lift k (fun C hL kk => lv_sipush C.1 C.2.1 hd hv (kk _ hL))
theorem s_lconst {n : Fin 2} (v : Int64) (hd : decode cc pc = .ok (.lconst n, 1)) (hv : Int64.ofNat (n : Nat) = v) (k : Sim G own nm cc nL rt d cv (pc + 1) L (.long v :: st) h f) : Sim G own nm cc nL rt d cv pc L (st) h f :=
  Sim.lift k (fun C hL kk => lv_lconst C.1 C.2.1 hd hv (kk _ hL))
theorem s_ldc {n : Nat} {v : Int32} (hd : decode cc pc = .ok (.ldc n, 2)) (hw : Cond.constant own n v ∈ lw_all) (k : Sim G own nm cc nL rt d cv (pc + 2) L (.int v :: st) h f) : Sim G own nm cc nL rt d cv pc L (st) h f :=
  Sim.lift k (fun C hL kk => lv_ldc C.1 C.2.1 C.2.2.2.2.1 (C.2.2.2.2.2.1 _ hw) hd (kk _ hL))
theorem s_ldcw {n : Nat} {v : Int32} (hd : decode cc pc = .ok (.ldc_w n, 3)) (hw : Cond.constant own n v ∈ lw_all) (k : Sim G own nm cc nL rt d cv (pc + 3) L (.int v :: st) h f) : Sim G own nm cc nL rt d cv pc L (st) h f :=
  Sim.lift k (fun C hL kk => lv_ldcw C.1 C.2.1 C.2.2.2.2.1 (C.2.2.2.2.2.1 _ hw) hd (kk _ hL))
theorem s_ldc2 {n : Nat} {v : Int64} (hd : decode cc pc = .ok (.ldc2_w n, 3)) (hw : Cond.constantLong own n v ∈ lw_all) (k : Sim G own nm cc nL rt d cv (pc + 3) L (.long v :: st) h f) : Sim G own nm cc nL rt d cv pc L (st) h f :=
  Sim.lift k (fun C hL kk => lv_ldc2 C.1 C.2.1 C.2.2.2.2.1 (C.2.2.2.2.2.1 _ hw) hd (kk _ hL))
theorem s_null  (hd : decode cc pc = .ok (.aconst_null, 1)) (k : Sim G own nm cc nL rt d cv (pc + 1) L (va_rf none :: st) h f) : Sim G own nm cc nL rt d cv pc L (st) h f :=
  Sim.lift k (fun C hL kk => lv_null C.1 C.2.1 hd (kk _ hL))
theorem s_iload_n {i : Fin 4} {x : Int32} (hd : decode cc pc = .ok (.iload_n i, 1)) (q : Nat) (hq : L[q]? = some ((i : Nat), .int x)) (k : Sim G own nm cc nL rt d cv (pc + 1) L (.int x :: st) h f) : Sim G own nm cc nL rt d cv pc L (st) h f :=
  Sim.lift k (fun C hL kk => lv_iload_n C.1 C.2.1 hd rfl (hL.at q hq (by omega)) (kk _ hL))
theorem s_iload {i : Nat} {x : Int32} (hd : decode cc pc = .ok (.iload i, 2)) (q : Nat) (hq : L[q]? = some (i, .int x)) (hi : i < 1000) (k : Sim G own nm cc nL rt d cv (pc + 2) L (.int x :: st) h f) : Sim G own nm cc nL rt d cv pc L (st) h f :=
  Sim.lift k (fun C hL kk => lv_iload C.1 C.2.1 hd (hL.at q hq hi) (kk _ hL))
theorem s_lload_n {i : Fin 4} {x : Int64} (hd : decode cc pc = .ok (.lload_n i, 1)) (q : Nat) (hq : L[q]? = some (1000 + (i : Nat), .long x)) (k : Sim G own nm cc nL rt d cv (pc + 1) L (.long x :: st) h f) : Sim G own nm cc nL rt d cv pc L (st) h f :=
  Sim.lift k (fun C hL kk => lv_lload_n C.1 C.2.1 hd rfl (hL.atW q hq) (kk _ hL))
theorem s_lload {i : Nat} {x : Int64} (hd : decode cc pc = .ok (.lload i, 2)) (q : Nat) (hq : L[q]? = some (1000 + i, .long x)) (k : Sim G own nm cc nL rt d cv (pc + 2) L (.long x :: st) h f) : Sim G own nm cc nL rt d cv pc L (st) h f :=
  Sim.lift k (fun C hL kk => lv_lload C.1 C.2.1 hd (hL.atW q hq) (kk _ hL))
theorem s_aload_n {i : Fin 4} {x : Nat} (hd : decode cc pc = .ok (.aload_n i, 1)) (q : Nat) (hq : L[q]? = some ((i : Nat), .ref x)) (k : Sim G own nm cc nL rt d cv (pc + 1) L (.ref x :: st) h f) : Sim G own nm cc nL rt d cv pc L (st) h f :=
  Sim.lift k (fun C hL kk => lv_aload_n C.1 C.2.1 hd rfl (hL.at q hq (by omega)) (kk _ hL))
theorem s_aload {i : Nat} {x : Nat} (hd : decode cc pc = .ok (.aload i, 2)) (q : Nat) (hq : L[q]? = some (i, .ref x)) (hi : i < 1000) (k : Sim G own nm cc nL rt d cv (pc + 2) L (.ref x :: st) h f) : Sim G own nm cc nL rt d cv pc L (st) h f :=
  Sim.lift k (fun C hL kk => lv_aload C.1 C.2.1 hd (hL.at q hq hi) (kk _ hL))
theorem s_oload_n {i : Fin 4} {r : Option Nat} (hd : decode cc pc = .ok (.aload_n i, 1)) (q : Nat) (hq : L[q]? = some ((i : Nat), va_rf r)) (k : Sim G own nm cc nL rt d cv (pc + 1) L (va_rf r :: st) h f) : Sim G own nm cc nL rt d cv pc L st h f := by
  cases r with
  | none => exact Sim.lift k (fun C hL kk => lv_aload_nN C.1 C.2.1 hd rfl (hL.at q hq (by omega)) (kk _ hL))
  | some x => exact Sim.lift k (fun C hL kk => lv_aload_n C.1 C.2.1 hd rfl (hL.at q hq (by omega)) (kk _ hL))
theorem s_oload {i : Nat} {r : Option Nat} (hd : decode cc pc = .ok (.aload i, 2)) (q : Nat) (hq : L[q]? = some (i, va_rf r)) (hi : i < 1000) (k : Sim G own nm cc nL rt d cv (pc + 2) L (va_rf r :: st) h f) : Sim G own nm cc nL rt d cv pc L st h f := by
  cases r with
  | none => exact Sim.lift k (fun C hL kk => lv_aloadN C.1 C.2.1 hd (hL.at q hq hi) (kk _ hL))
  | some x => exact Sim.lift k (fun C hL kk => lv_aload C.1 C.2.1 hd (hL.at q hq hi) (kk _ hL))
theorem s_istore_n {i : Fin 4} {x : Int32} (L' : List (Nat × Value)) (hd : decode cc pc = .ok (.istore_n i, 1)) (hn : (i : Nat) < nL) (hi : (i : Nat) < 1000) (hl : stL (i : Nat) (.int x) L = L') (k : Sim G own nm cc nL rt d cv (pc + 1) L' st h f) : Sim G own nm cc nL rt d cv pc L (.int x :: st) h f :=
  Sim.lift k (fun C hL kk => lv_istore_n C.1 C.2.1 hd rfl hL.1 hn rfl (fun ls' hl' => kk ls' (hl ▸ hL.st hi rfl hl')))
theorem s_istore {i : Nat} {x : Int32} (L' : List (Nat × Value)) (hd : decode cc pc = .ok (.istore i, 2)) (hn : i < nL) (hi : i < 1000) (hl : stL i (.int x) L = L') (k : Sim G own nm cc nL rt d cv (pc + 2) L' st h f) : Sim G own nm cc nL rt d cv pc L (.int x :: st) h f :=
  Sim.lift k (fun C hL kk => lv_istore C.1 C.2.1 hd hL.1 hn rfl (fun ls' hl' => kk ls' (hl ▸ hL.st hi rfl hl')))
theorem s_lstore_n {i : Fin 4} {x : Int64} (L' : List (Nat × Value)) (hd : decode cc pc = .ok (.lstore_n i, 1)) (hn : (i : Nat) + 1 < nL) (hi : (i : Nat) + 1 < 1000) (hl : stW (i : Nat) (.long x) L = L') (k : Sim G own nm cc nL rt d cv (pc + 1) L' st h f) : Sim G own nm cc nL rt d cv pc L (.long x :: st) h f :=
  Sim.lift k (fun C hL kk => lv_lstore_n C.1 C.2.1 hd rfl hL.1 hn rfl (fun ls' hl' => kk ls' (hl ▸ hL.stW hi hl')))
theorem s_lstore {i : Nat} {x : Int64} (L' : List (Nat × Value)) (hd : decode cc pc = .ok (.lstore i, 2)) (hn : i + 1 < nL) (hi : i + 1 < 1000) (hl : stW i (.long x) L = L') (k : Sim G own nm cc nL rt d cv (pc + 2) L' st h f) : Sim G own nm cc nL rt d cv pc L (.long x :: st) h f :=
  Sim.lift k (fun C hL kk => lv_lstore C.1 C.2.1 hd hL.1 hn rfl (fun ls' hl' => kk ls' (hl ▸ hL.stW hi hl')))
theorem s_astore_n {i : Fin 4} {x : Nat} (L' : List (Nat × Value)) (hd : decode cc pc = .ok (.astore_n i, 1)) (hn : (i : Nat) < nL) (hi : (i : Nat) < 1000) (hl : stL (i : Nat) (.ref x) L = L') (k : Sim G own nm cc nL rt d cv (pc + 1) L' st h f) : Sim G own nm cc nL rt d cv pc L (.ref x :: st) h f :=
  Sim.lift k (fun C hL kk => lv_astore_n C.1 C.2.1 hd rfl hL.1 hn rfl (fun ls' hl' => kk ls' (hl ▸ hL.st hi rfl hl')))
theorem s_astore {i : Nat} {x : Nat} (L' : List (Nat × Value)) (hd : decode cc pc = .ok (.astore i, 2)) (hn : i < nL) (hi : i < 1000) (hl : stL i (.ref x) L = L') (k : Sim G own nm cc nL rt d cv (pc + 2) L' st h f) : Sim G own nm cc nL rt d cv pc L (.ref x :: st) h f :=
  Sim.lift k (fun C hL kk => lv_astore C.1 C.2.1 hd hL.1 hn rfl (fun ls' hl' => kk ls' (hl ▸ hL.st hi rfl hl')))
theorem s_ostore_n {i : Fin 4} {r : Option Nat} (L' : List (Nat × Value)) (hd : decode cc pc = .ok (.astore_n i, 1)) (hn : (i : Nat) < nL) (hi : (i : Nat) < 1000) (hl : stL (i : Nat) (va_rf r) L = L') (k : Sim G own nm cc nL rt d cv (pc + 1) L' st h f) : Sim G own nm cc nL rt d cv pc L (va_rf r :: st) h f := by
  cases r with
  | none => exact Sim.lift k (fun C hL kk => lv_astore_nN C.1 C.2.1 hd rfl hL.1 hn rfl (fun ls' hl' => kk ls' (hl ▸ hL.st hi rfl hl')))
  | some x => exact Sim.lift k (fun C hL kk => lv_astore_n C.1 C.2.1 hd rfl hL.1 hn rfl (fun ls' hl' => kk ls' (hl ▸ hL.st hi rfl hl')))
theorem s_ostore {i : Nat} {r : Option Nat} (L' : List (Nat × Value)) (hd : decode cc pc = .ok (.astore i, 2)) (hn : i < nL) (hi : i < 1000) (hl : stL i (va_rf r) L = L') (k : Sim G own nm cc nL rt d cv (pc + 2) L' st h f) : Sim G own nm cc nL rt d cv pc L (va_rf r :: st) h f := by
  cases r with
  | none => exact Sim.lift k (fun C hL kk => lv_astoreN C.1 C.2.1 hd hL.1 hn rfl (fun ls' hl' => kk ls' (hl ▸ hL.st hi rfl hl')))
  | some x => exact Sim.lift k (fun C hL kk => lv_astore C.1 C.2.1 hd hL.1 hn rfl (fun ls' hl' => kk ls' (hl ▸ hL.st hi rfl hl')))
theorem s_iinc {i : Nat} {n : Int} {x : Int32} (v : Int32) (L' : List (Nat × Value)) (hd : decode cc pc = .ok (.iinc i n, 3)) (q : Nat) (hq : L[q]? = some (i, .int x)) (hn : i < nL) (hi : i < 1000) (hv : Int32.ofInt n = v) (hl : stL i (.int (x + v)) L = L') (k : Sim G own nm cc nL rt d cv (pc + 3) L' st h f) : Sim G own nm cc nL rt d cv pc L st h f :=
  Sim.lift k (fun C hL kk => lv_iinc (x := x) (v := x + v) C.1 C.2.1 hd hL.1 (k := q) (by rw [List.getElem?_map, hq]; simp [uns, hi]) (by rw [hv]) hn rfl (fun ls' hl' => kk ls' (hl ▸ hL.st hi rfl hl')))
theorem s_dup {va : Value} (hd : decode cc pc = .ok (.dup, 1)) (h1 : va.category = 1) (k : Sim G own nm cc nL rt d cv (pc + 1) L (va :: va :: st) h f) : Sim G own nm cc nL rt d cv pc L (va :: st) h f :=
  Sim.lift k (fun C hL kk => lv_dup C.1 C.2.1 hd h1 (kk _ hL))
theorem s_pop {va : Value} (hd : decode cc pc = .ok (.pop, 1)) (h1 : va.category = 1) (k : Sim G own nm cc nL rt d cv (pc + 1) L (st) h f) : Sim G own nm cc nL rt d cv pc L (va :: st) h f :=
  Sim.lift k (fun C hL kk => lv_pop C.1 C.2.1 hd h1 (kk _ hL))
theorem s_dup_x1 {va vb : Value} (hd : decode cc pc = .ok (.dup_x1, 1)) (h1 : va.category = 1) (h2 : vb.category = 1) (k : Sim G own nm cc nL rt d cv (pc + 1) L (va :: vb :: va :: st) h f) : Sim G own nm cc nL rt d cv pc L (va :: vb :: st) h f :=
  Sim.lift k (fun C hL kk => lv_dup_x1 C.1 C.2.1 hd h1 h2 (kk _ hL))
theorem s_dup2_11 {va vb : Value} (hd : decode cc pc = .ok (.dup2, 1)) (h1 : va.category = 1) (h2 : vb.category = 1) (k : Sim G own nm cc nL rt d cv (pc + 1) L (va :: vb :: va :: vb :: st) h f) : Sim G own nm cc nL rt d cv pc L (va :: vb :: st) h f :=
  Sim.lift k (fun C hL kk => lv_dup2_11 C.1 C.2.1 hd h1 h2 (kk _ hL))
theorem s_dup2_2 {va : Value} (hd : decode cc pc = .ok (.dup2, 1)) (h1 : va.category = 2) (k : Sim G own nm cc nL rt d cv (pc + 1) L (va :: va :: st) h f) : Sim G own nm cc nL rt d cv pc L (va :: st) h f :=
  Sim.lift k (fun C hL kk => lv_dup2_2 C.1 C.2.1 hd h1 (kk _ hL))
theorem s_goto {off : Int} (tgt : Nat) (hd : decode cc pc = .ok (.goto off, 3)) (ht : (pc : Int) + off = (tgt : Int)) (k : Sim G own nm cc nL rt d cv tgt L st h f) : Sim G own nm cc nL rt d cv pc L st h f :=
  Sim.lift k (fun C hL kk => lv_goto C.1 C.2.1 hd ht (kk _ hL))
theorem s_if_eq {x : Int32} {off : Int} {f1 f2 : Option (α × AH)} (tgt : Nat) {inst : Decidable (x = 0)} (hd : decode cc pc = .ok (.ifCond .eq off, 3)) (ht : (pc : Int) + off = (tgt : Int)) (k1 : (x = 0) → Sim G own nm cc nL rt d cv tgt L st h f1) (k2 : ¬ (x = 0) → Sim G own nm cc nL rt d cv (pc + 3) L st h f2) : Sim G own nm cc nL rt d cv pc L (.int x :: st) h (@ite _ (x = 0) inst f1 f2) := by
  by_cases hc : x = 0
  · rw [if_pos hc]
    exact Sim.lift (k1 hc) (fun C hL kk => lv_if_eq C.1 C.2.1 hd ht (fun _ => kk _ hL) (fun q => absurd hc (by simpa using q)))
  · rw [if_neg hc]
    exact Sim.lift (k2 hc) (fun C hL kk => lv_if_eq C.1 C.2.1 hd ht (fun q => absurd (by simpa using q) hc) (fun _ => kk _ hL))
theorem s_icmp_eq {x y : Int32} {off : Int} {f1 f2 : Option (α × AH)} (tgt : Nat) {inst : Decidable (x = y)} (hd : decode cc pc = .ok (.if_icmp .eq off, 3)) (ht : (pc : Int) + off = (tgt : Int)) (k1 : (x = y) → Sim G own nm cc nL rt d cv tgt L st h f1) (k2 : ¬ (x = y) → Sim G own nm cc nL rt d cv (pc + 3) L st h f2) : Sim G own nm cc nL rt d cv pc L (.int y :: .int x :: st) h (@ite _ (x = y) inst f1 f2) := by
  by_cases hc : x = y
  · rw [if_pos hc]
    exact Sim.lift (k1 hc) (fun C hL kk => lv_icmp_eq C.1 C.2.1 hd ht (fun _ => kk _ hL) (fun q => absurd hc (by simpa using q)))
  · rw [if_neg hc]
    exact Sim.lift (k2 hc) (fun C hL kk => lv_icmp_eq C.1 C.2.1 hd ht (fun q => absurd (by simpa using q) hc) (fun _ => kk _ hL))
theorem s_if_ne {x : Int32} {off : Int} {f1 f2 : Option (α × AH)} (tgt : Nat) {inst : Decidable (¬ x = 0)} (hd : decode cc pc = .ok (.ifCond .ne off, 3)) (ht : (pc : Int) + off = (tgt : Int)) (k1 : (¬ x = 0) → Sim G own nm cc nL rt d cv tgt L st h f1) (k2 : ¬ (¬ x = 0) → Sim G own nm cc nL rt d cv (pc + 3) L st h f2) : Sim G own nm cc nL rt d cv pc L (.int x :: st) h (@ite _ (¬ x = 0) inst f1 f2) := by
  by_cases hc : ¬ x = 0
  · rw [if_pos hc]
    exact Sim.lift (k1 hc) (fun C hL kk => lv_if_ne C.1 C.2.1 hd ht (fun _ => kk _ hL) (fun q => absurd hc (by simpa using q)))
  · rw [if_neg hc]
    exact Sim.lift (k2 hc) (fun C hL kk => lv_if_ne C.1 C.2.1 hd ht (fun q => absurd (by simpa using q) hc) (fun _ => kk _ hL))
theorem s_icmp_ne {x y : Int32} {off : Int} {f1 f2 : Option (α × AH)} (tgt : Nat) {inst : Decidable (¬ x = y)} (hd : decode cc pc = .ok (.if_icmp .ne off, 3)) (ht : (pc : Int) + off = (tgt : Int)) (k1 : (¬ x = y) → Sim G own nm cc nL rt d cv tgt L st h f1) (k2 : ¬ (¬ x = y) → Sim G own nm cc nL rt d cv (pc + 3) L st h f2) : Sim G own nm cc nL rt d cv pc L (.int y :: .int x :: st) h (@ite _ (¬ x = y) inst f1 f2) := by
  by_cases hc : ¬ x = y
  · rw [if_pos hc]
    exact Sim.lift (k1 hc) (fun C hL kk => lv_icmp_ne C.1 C.2.1 hd ht (fun _ => kk _ hL) (fun q => absurd hc (by simpa using q)))
  · rw [if_neg hc]
    exact Sim.lift (k2 hc) (fun C hL kk => lv_icmp_ne C.1 C.2.1 hd ht (fun q => absurd (by simpa using q) hc) (fun _ => kk _ hL))
theorem s_if_lt {x : Int32} {off : Int} {f1 f2 : Option (α × AH)} (tgt : Nat) {inst : Decidable (x < 0)} (hd : decode cc pc = .ok (.ifCond .lt off, 3)) (ht : (pc : Int) + off = (tgt : Int)) (k1 : (x < 0) → Sim G own nm cc nL rt d cv tgt L st h f1) (k2 : ¬ (x < 0) → Sim G own nm cc nL rt d cv (pc + 3) L st h f2) : Sim G own nm cc nL rt d cv pc L (.int x :: st) h (@ite _ (x < 0) inst f1 f2) := by
  by_cases hc : x < 0
  · rw [if_pos hc]
    exact Sim.lift (k1 hc) (fun C hL kk => lv_if_lt C.1 C.2.1 hd ht (fun _ => kk _ hL) (fun q => absurd hc (by simpa using q)))
  · rw [if_neg hc]
    exact Sim.lift (k2 hc) (fun C hL kk => lv_if_lt C.1 C.2.1 hd ht (fun q => absurd (by simpa using q) hc) (fun _ => kk _ hL))
theorem s_icmp_lt {x y : Int32} {off : Int} {f1 f2 : Option (α × AH)} (tgt : Nat) {inst : Decidable (x < y)} (hd : decode cc pc = .ok (.if_icmp .lt off, 3)) (ht : (pc : Int) + off = (tgt : Int)) (k1 : (x < y) → Sim G own nm cc nL rt d cv tgt L st h f1) (k2 : ¬ (x < y) → Sim G own nm cc nL rt d cv (pc + 3) L st h f2) : Sim G own nm cc nL rt d cv pc L (.int y :: .int x :: st) h (@ite _ (x < y) inst f1 f2) := by
  by_cases hc : x < y
  · rw [if_pos hc]
    exact Sim.lift (k1 hc) (fun C hL kk => lv_icmp_lt C.1 C.2.1 hd ht (fun _ => kk _ hL) (fun q => absurd hc (by simpa using q)))
  · rw [if_neg hc]
    exact Sim.lift (k2 hc) (fun C hL kk => lv_icmp_lt C.1 C.2.1 hd ht (fun q => absurd (by simpa using q) hc) (fun _ => kk _ hL))
theorem s_if_ge {x : Int32} {off : Int} {f1 f2 : Option (α × AH)} (tgt : Nat) {inst : Decidable (0 ≤ x)} (hd : decode cc pc = .ok (.ifCond .ge off, 3)) (ht : (pc : Int) + off = (tgt : Int)) (k1 : (0 ≤ x) → Sim G own nm cc nL rt d cv tgt L st h f1) (k2 : ¬ (0 ≤ x) → Sim G own nm cc nL rt d cv (pc + 3) L st h f2) : Sim G own nm cc nL rt d cv pc L (.int x :: st) h (@ite _ (0 ≤ x) inst f1 f2) := by
  by_cases hc : 0 ≤ x
  · rw [if_pos hc]
    exact Sim.lift (k1 hc) (fun C hL kk => lv_if_ge C.1 C.2.1 hd ht (fun _ => kk _ hL) (fun q => absurd hc (by simpa using q)))
  · rw [if_neg hc]
    exact Sim.lift (k2 hc) (fun C hL kk => lv_if_ge C.1 C.2.1 hd ht (fun q => absurd (by simpa using q) hc) (fun _ => kk _ hL))
theorem s_icmp_ge {x y : Int32} {off : Int} {f1 f2 : Option (α × AH)} (tgt : Nat) {inst : Decidable (y ≤ x)} (hd : decode cc pc = .ok (.if_icmp .ge off, 3)) (ht : (pc : Int) + off = (tgt : Int)) (k1 : (y ≤ x) → Sim G own nm cc nL rt d cv tgt L st h f1) (k2 : ¬ (y ≤ x) → Sim G own nm cc nL rt d cv (pc + 3) L st h f2) : Sim G own nm cc nL rt d cv pc L (.int y :: .int x :: st) h (@ite _ (y ≤ x) inst f1 f2) := by
  by_cases hc : y ≤ x
  · rw [if_pos hc]
    exact Sim.lift (k1 hc) (fun C hL kk => lv_icmp_ge C.1 C.2.1 hd ht (fun _ => kk _ hL) (fun q => absurd hc (by simpa using q)))
  · rw [if_neg hc]
    exact Sim.lift (k2 hc) (fun C hL kk => lv_icmp_ge C.1 C.2.1 hd ht (fun q => absurd (by simpa using q) hc) (fun _ => kk _ hL))
theorem s_if_gt {x : Int32} {off : Int} {f1 f2 : Option (α × AH)} (tgt : Nat) {inst : Decidable (0 < x)} (hd : decode cc pc = .ok (.ifCond .gt off, 3)) (ht : (pc : Int) + off = (tgt : Int)) (k1 : (0 < x) → Sim G own nm cc nL rt d cv tgt L st h f1) (k2 : ¬ (0 < x) → Sim G own nm cc nL rt d cv (pc + 3) L st h f2) : Sim G own nm cc nL rt d cv pc L (.int x :: st) h (@ite _ (0 < x) inst f1 f2) := by
  by_cases hc : 0 < x
  · rw [if_pos hc]
    exact Sim.lift (k1 hc) (fun C hL kk => lv_if_gt C.1 C.2.1 hd ht (fun _ => kk _ hL) (fun q => absurd hc (by simpa using q)))
  · rw [if_neg hc]
    exact Sim.lift (k2 hc) (fun C hL kk => lv_if_gt C.1 C.2.1 hd ht (fun q => absurd (by simpa using q) hc) (fun _ => kk _ hL))
theorem s_icmp_gt {x y : Int32} {off : Int} {f1 f2 : Option (α × AH)} (tgt : Nat) {inst : Decidable (y < x)} (hd : decode cc pc = .ok (.if_icmp .gt off, 3)) (ht : (pc : Int) + off = (tgt : Int)) (k1 : (y < x) → Sim G own nm cc nL rt d cv tgt L st h f1) (k2 : ¬ (y < x) → Sim G own nm cc nL rt d cv (pc + 3) L st h f2) : Sim G own nm cc nL rt d cv pc L (.int y :: .int x :: st) h (@ite _ (y < x) inst f1 f2) := by
  by_cases hc : y < x
  · rw [if_pos hc]
    exact Sim.lift (k1 hc) (fun C hL kk => lv_icmp_gt C.1 C.2.1 hd ht (fun _ => kk _ hL) (fun q => absurd hc (by simpa using q)))
  · rw [if_neg hc]
    exact Sim.lift (k2 hc) (fun C hL kk => lv_icmp_gt C.1 C.2.1 hd ht (fun q => absurd (by simpa using q) hc) (fun _ => kk _ hL))
theorem s_if_le {x : Int32} {off : Int} {f1 f2 : Option (α × AH)} (tgt : Nat) {inst : Decidable (x ≤ 0)} (hd : decode cc pc = .ok (.ifCond .le off, 3)) (ht : (pc : Int) + off = (tgt : Int)) (k1 : (x ≤ 0) → Sim G own nm cc nL rt d cv tgt L st h f1) (k2 : ¬ (x ≤ 0) → Sim G own nm cc nL rt d cv (pc + 3) L st h f2) : Sim G own nm cc nL rt d cv pc L (.int x :: st) h (@ite _ (x ≤ 0) inst f1 f2) := by
  by_cases hc : x ≤ 0
  · rw [if_pos hc]
    exact Sim.lift (k1 hc) (fun C hL kk => lv_if_le C.1 C.2.1 hd ht (fun _ => kk _ hL) (fun q => absurd hc (by simpa using q)))
  · rw [if_neg hc]
    exact Sim.lift (k2 hc) (fun C hL kk => lv_if_le C.1 C.2.1 hd ht (fun q => absurd (by simpa using q) hc) (fun _ => kk _ hL))
theorem s_icmp_le {x y : Int32} {off : Int} {f1 f2 : Option (α × AH)} (tgt : Nat) {inst : Decidable (x ≤ y)} (hd : decode cc pc = .ok (.if_icmp .le off, 3)) (ht : (pc : Int) + off = (tgt : Int)) (k1 : (x ≤ y) → Sim G own nm cc nL rt d cv tgt L st h f1) (k2 : ¬ (x ≤ y) → Sim G own nm cc nL rt d cv (pc + 3) L st h f2) : Sim G own nm cc nL rt d cv pc L (.int y :: .int x :: st) h (@ite _ (x ≤ y) inst f1 f2) := by
  by_cases hc : x ≤ y
  · rw [if_pos hc]
    exact Sim.lift (k1 hc) (fun C hL kk => lv_icmp_le C.1 C.2.1 hd ht (fun _ => kk _ hL) (fun q => absurd hc (by simpa using q)))
  · rw [if_neg hc]
    exact Sim.lift (k2 hc) (fun C hL kk => lv_icmp_le C.1 C.2.1 hd ht (fun q => absurd (by simpa using q) hc) (fun _ => kk _ hL))
theorem s_ifnull {r : Option Nat} {off : Int} {f1 : Option (α × AH)} {g : Nat → Option (α × AH)} (tgt : Nat) (Lf : Value → List (Nat × Value)) (sf : Value → List Value) (hd : decode cc pc = .ok (.ifnull off, 3)) (ht : (pc : Int) + off = (tgt : Int)) (k1 : Sim G own nm cc nL rt d cv tgt (Lf .null) (sf .null) h f1) (k2 : ∀ a, Sim G own nm cc nL rt d cv (pc + 3) (Lf (.ref a)) (sf (.ref a)) h (g a)) : Sim G own nm cc nL rt d cv pc (Lf (va_rf r)) (va_rf r :: sf (va_rf r)) h (oc r f1 g) := by
  cases r with
  | none => exact Sim.lift k1 (fun C hL kk => lv_ifnullN C.1 C.2.1 hd ht (kk _ hL))
  | some a => exact Sim.lift (k2 a) (fun C hL kk => lv_ifnull C.1 C.2.1 hd (kk _ hL))
theorem s_ifnonnull {r : Option Nat} {off : Int} {f1 : Option (α × AH)} {g : Nat → Option (α × AH)} (tgt : Nat) (Lf : Value → List (Nat × Value)) (sf : Value → List Value) (hd : decode cc pc = .ok (.ifnonnull off, 3)) (ht : (pc : Int) + off = (tgt : Int)) (k1 : Sim G own nm cc nL rt d cv (pc + 3) (Lf .null) (sf .null) h f1) (k2 : ∀ a, Sim G own nm cc nL rt d cv tgt (Lf (.ref a)) (sf (.ref a)) h (g a)) : Sim G own nm cc nL rt d cv pc (Lf (va_rf r)) (va_rf r :: sf (va_rf r)) h (oc r f1 g) := by
  cases r with
  | none => exact Sim.lift k1 (fun C hL kk => lv_ifnonnullN C.1 C.2.1 hd (kk _ hL))
  | some a => exact Sim.lift (k2 a) (fun C hL kk => lv_ifnonnull C.1 C.2.1 hd ht (kk _ hL))
theorem s_tblIn {dflt lo hi off : Int} {offs : Array Int} {len : Nat} {x : Int32} (v : Int32) (tgt : Nat) (hx : x = v) (hd : decode cc pc = .ok (.tableswitch dflt lo hi offs, len)) (h1 : ¬ v.toInt < lo) (h2 : ¬ hi < v.toInt) (ho : offs[(v.toInt - lo).toNat]? = some off) (ht : (pc : Int) + off = (tgt : Int)) (k : Sim G own nm cc nL rt d cv tgt L st h f) : Sim G own nm cc nL rt d cv pc L (.int x :: st) h f := by
  subst hx
  exact Sim.lift k (fun C hL kk => lv_tableIn C.1 C.2.1 hd h1 h2 ho ht (kk _ hL))
theorem s_tblOut {dflt lo hi : Int} {offs : Array Int} {len : Nat} {x : Int32} (tgt : Nat) (hd : decode cc pc = .ok (.tableswitch dflt lo hi offs, len)) (ho : x.toInt < lo ∨ hi < x.toInt) (ht : (pc : Int) + dflt = (tgt : Int)) (k : Sim G own nm cc nL rt d cv tgt L st h f) : Sim G own nm cc nL rt d cv pc L (.int x :: st) h f :=
  Sim.lift k (fun C hL kk => lv_tableOut C.1 C.2.1 hd ho ht (kk _ hL))
theorem s_iret {r : α} {v : Int32} (hd : decode cc pc = .ok (.ireturn, 1)) (hr : rt = some .int) (hcv : cv r = .returned (some (.int v))) : Sim G own nm cc nL rt d cv pc L [.int v] h (some (r, h)) := by
  intro r' h' hf
  cases hf
  refine ⟨⟨Nat.le_refl _, Nat.le_refl _⟩, fun p e s m args below meth c R C a1 a2 n0 s0 b1 b2 b3 b4 H locs ls hR hlo hL => ?_⟩
  rw [hcv]
  exact W.mono MQX.of (W.iret C.1 C.2.1 (C.2.2.1.trans hr) (fun t ht _ => ⟨rfl, by rw [ht]; exact hR⟩) hlo hd C.2.2.2.2.2.2.2.1)
theorem s_zret {r : α} {v : Int32} {ty : FieldType} (hd : decode cc pc = .ok (.ireturn, 1)) (hr : rt = some ty) (hn : narrow ty (.int v) = .int v) (hcv : cv r = .returned (some (.int v))) : Sim G own nm cc nL rt d cv pc L [.int v] h (some (r, h)) := by
  intro r' h' hf
  cases hf
  refine ⟨⟨Nat.le_refl _, Nat.le_refl _⟩, fun p e s m args below meth c R C a1 a2 n0 s0 b1 b2 b3 b4 H locs ls hR hlo hL => ?_⟩
  rw [hcv]
  exact W.mono MQX.of (W.zret C.1 C.2.1 (C.2.2.1.trans hr) hn (fun t ht _ => ⟨rfl, by rw [ht]; exact hR⟩) hlo hd C.2.2.2.2.2.2.2.1)
theorem s_lret {r : α} {v : Int64} (hd : decode cc pc = .ok (.lreturn, 1)) (hr : rt = some .long) (hcv : cv r = .returned (some (.long v))) : Sim G own nm cc nL rt d cv pc L [.long v] h (some (r, h)) := by
  intro r' h' hf
  cases hf
  refine ⟨⟨Nat.le_refl _, Nat.le_refl _⟩, fun p e s m args below meth c R C a1 a2 n0 s0 b1 b2 b3 b4 H locs ls hR hlo hL => ?_⟩
  rw [hcv]
  exact W.mono MQX.of (W.lret C.1 C.2.1 (C.2.2.1.trans hr) (fun t ht _ => ⟨rfl, by rw [ht]; exact hR⟩) hlo hd C.2.2.2.2.2.2.2.1)
theorem s_aret {r : α} {v : Option Nat} {ty : FieldType} (hd : decode cc pc = .ok (.areturn, 1)) (hr : rt = some ty) (hty : (∃ n, ty = .object n) ∨ ∃ t, ty = .array t) (hcv : cv r = .returned (some (va_rf v))) : Sim G own nm cc nL rt d cv pc L [va_rf v] h (some (r, h)) := by
  intro r' h' hf
  cases hf
  refine ⟨⟨Nat.le_refl _, Nat.le_refl _⟩, fun p e s m args below meth c R C a1 a2 n0 s0 b1 b2 b3 b4 H locs ls hR hlo hL => ?_⟩
  rw [hcv]
  exact W.mono MQX.of (W.aret C.1 C.2.1 (C.2.2.1.trans hr) hty (by cases v; exact Or.inl rfl; exact Or.inr ⟨_, rfl⟩) (fun t ht _ => ⟨rfl, by rw [ht]; exact hR⟩) hlo hd C.2.2.2.2.2.2.2.1)
theorem s_vret {r : α} (hd : decode cc pc = .ok (.return_, 1)) (hr : rt = none) (hcv : cv r = .returned none) : Sim G own nm cc nL rt d cv pc L [] h (some (r, h)) := by
  intro r' h' hf
  cases hf
  refine ⟨⟨Nat.le_refl _, Nat.le_refl _⟩, fun p e s m args below meth c R C a1 a2 n0 s0 b1 b2 b3 b4 H locs ls hR hlo hL => ?_⟩
  rw [hcv]
  exact W.mono MQX.of (W.vret C.1 C.2.1 (C.2.2.1.trans hr) (fun t ht _ => ⟨rfl, by rw [ht]; exact hR⟩) hlo hd C.2.2.2.2.2.2.2.1)
end SIM
