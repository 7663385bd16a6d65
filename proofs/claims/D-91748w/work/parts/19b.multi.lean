/-! ARRAYS OF ARRAYS, MADE AT ONCE -/
/-- what stands in the abstract heap when i rows of a grid (kinds K2 of K1, N by M) have been made -/
def gridA (h : AH) (K2 K1 N M : Nat) : Nat → AH
  | 0 => h.new K2 N N
  | i + 1 => ((gridA h K2 K1 N M i).new K1 M M).setR h.n i (some (h.n + 1 + i))
theorem gridA_n (h : AH) (K2 K1 N M : Nat) : ∀ i, (gridA h K2 K1 N M i).n = h.n + 1 + i
  | 0 => rfl
  | i + 1 => by
    show (gridA h K2 K1 N M i).n + 1 = _
    rw [gridA_n h K2 K1 N M i]
    omega
theorem gridA_sl (h : AH) (K2 K1 N M : Nat) : ∀ i, (gridA h K2 K1 N M i).sl = h.sl + N + i * M
  | 0 => by
    show h.sl + N = _
    omega
  | i + 1 => by
    show (gridA h K2 K1 N M i).sl + M = _
    rw [gridA_sl h K2 K1 N M i, Nat.succ_mul]
    omega
theorem gridA_kind0 (h : AH) (K2 K1 N M : Nat) : ∀ i, (gridA h K2 K1 N M i).kind h.n = K2 ∧ (gridA h K2 K1 N M i).len h.n = N
  | 0 => ⟨by show (h.new K2 N N).kind h.n = K2; rw [AH.kind_new, if_pos rfl], by show (h.new K2 N N).len h.n = N; rw [AH.len_new, if_pos rfl]⟩
  | i + 1 => by
    obtain ⟨h1, h2⟩ := gridA_kind0 h K2 K1 N M i
    have hn := gridA_n h K2 K1 N M i
    have hne : h.n ≠ (gridA h K2 K1 N M i).n := by omega
    refine ⟨?_, ?_⟩
    · show ((gridA h K2 K1 N M i).new K1 M M).kind h.n = K2
      rw [AH.kind_new, if_neg hne]; exact h1
    · show ((gridA h K2 K1 N M i).new K1 M M).len h.n = N
      rw [AH.len_new, if_neg hne]; exact h2
section WP2
variable {E : CtlPost} {e : Env} {d : Bool} {acts : List Action} {s : State}
theorem mu_new {c comp : ClassId} {k : Class} {type : FieldType} {len : Nat} {init : Value} (hk : s.vm.classes[c]? = some k) (hkind : k.kind = .array comp type)
    (hl : ¬ len > e.platform.arrayLengthLimit) (hh : ¬ len * componentBytes type > e.platform.maxHeapBytes) (hfit : fits type init = true) (hdef : init.isDefault = true) {Q : Addr → Pre}
    (h1 : s.heap.size < e.platform.maxCells) (h2 : s.slotsUsed + len ≤ e.platform.maxSlots)
    (hq : Q s.heap.size d acts (s.pushCell { cls := c, slots := Array.replicate len init, vm := .none })) : wp (Jvm.newArray c len init) Q E e d acts s := by
  have ha : allocActs (Array.replicate len init) s.heap.size acts = acts := by
    unfold allocActs
    rw [if_pos (by rw [Array.all_replicate]; split <;> simp [hdef])]
  have hs : ∀ i v, (Array.replicate len init)[i]? = some v → s.fitsSlot c .none i v = true := fun i v hv => by
    rw [Array.getElem?_replicate] at hv
    split at hv
    · cases hv
      simp [State.fitsSlot, State.slotType?, hk, hkind, hfit]
    · cases hv
  simp only [Jvm.newArray, Jvm.arrayFits, wp_bind', W.ask, W.ite, hl, if_false, wp_pure', W.theClass, hk, hkind, hh, W.alloc, W.stop, Option.some.injEq, exists_eq_left', Array.size_replicate, ha]
  rw [if_neg (by omega)]
  exact ⟨h1, h2, hs, hq⟩
theorem mu_one {comp cc : ClassId} {kc : Class} {type : FieldType} {m : Int32} (hkc : s.vm.classes[comp]? = some kc) (hkindc : kc.kind = .array cc type) (hm : ¬ m < 0)
    (hl : ¬ m.toNatClampNeg > e.platform.arrayLengthLimit) (hh : ¬ m.toNatClampNeg * componentBytes type > e.platform.maxHeapBytes) (hdf : fits type (defaultValue type) = true) (hdd : (defaultValue type).isDefault = true)
    (h1 : s.heap.size < e.platform.maxCells) (h2 : s.slotsUsed + m.toNatClampNeg ≤ e.platform.maxSlots) {Q : Addr → Pre} (hq : Q s.heap.size d acts (s.pushCell { cls := comp, slots := Array.replicate m.toNatClampNeg (defaultValue type), vm := .none })) :
    wp (multianewarray.make comp [m]) Q E e d acts s := by
  rw [multianewarray.make]
  simp only [wp_bind', W.ite, hm, if_false, wp_pure', W.theClass, hkc, hkindc, Option.some.injEq, exists_eq_left']
  exact mu_new hkc hkindc hl hh hdf hdd h1 h2 hq
/-- the outer array's making, by an invariant J of the states between rows -/
theorem mu_two {c comp cc : ClassId} {k kc : Class} {t0 type : FieldType} {n m : Int32} (hk : s.vm.classes[c]? = some k) (hkind : k.kind = .array comp t0) (href : t0 = .array type)
    (hkc : s.vm.classes[comp]? = some kc) (hkindc : kc.kind = .array cc type) (hn : ¬ n < 0) (hm : ¬ m < 0)
    (hl1 : ¬ n.toNatClampNeg > e.platform.arrayLengthLimit) (hh1 : ¬ n.toNatClampNeg * componentBytes t0 > e.platform.maxHeapBytes) (hl2 : ¬ m.toNatClampNeg > e.platform.arrayLengthLimit) (hh2 : ¬ m.toNatClampNeg * componentBytes type > e.platform.maxHeapBytes)
    (hdf : fits type (defaultValue type) = true) (hdd : (defaultValue type).isDefault = true)
    (hc : s.heap.size + 1 + n.toNatClampNeg ≤ e.platform.maxCells) (hs : s.slotsUsed + n.toNatClampNeg + n.toNatClampNeg * m.toNatClampNeg ≤ e.platform.maxSlots)
    (J : Nat → State → Prop) (j0 : J 0 (s.pushCell { cls := c, slots := Array.replicate n.toNatClampNeg .null, vm := .none }))
    (jf : ∀ i U, J i U → U.vm = s.vm ∧ U.heap.size = s.heap.size + 1 + i ∧ U.slotsUsed = s.slotsUsed + n.toNatClampNeg + i * m.toNatClampNeg ∧ ∃ cell : Cell, U.heap[s.heap.size]? = some cell ∧ cell.cls = c ∧ cell.vm = .none ∧ cell.slots.size = n.toNatClampNeg)
    (js : ∀ i U cell, i < n.toNatClampNeg → J i U → U.heap[s.heap.size]? = some cell → J (i + 1) ((U.pushCell { cls := comp, slots := Array.replicate m.toNatClampNeg (defaultValue type), vm := .none }).setCell s.heap.size (cell.setSlot i (.ref (s.heap.size + 1 + i)))))
    {Q : Addr → Pre} (hq : ∀ d' acts' U, J n.toNatClampNeg U → Q s.heap.size d' acts' U) :
    wp (multianewarray.make c [n, m]) Q E e d acts s := by
  subst href
  have hfind : ([m].find? (· < 0)) = none := by simp [hm]
  rw [multianewarray.make]
  simp only [wp_bind', W.ite, hn, if_false, wp_pure', W.theClass, hk, hkind, Option.some.injEq, exists_eq_left']
  refine mu_new hk hkind hl1 hh1 rfl rfl (by omega) (by have := Nat.zero_le (n.toNatClampNeg * m.toNatClampNeg); omega) ?_
  simp only [hfind]
  rw [ite_self, wp_bind', Std.Legacy.Range.forIn_eq_forIn_range']
  rw [show ([:n.toNatClampNeg] : Std.Legacy.Range).size = n.toNatClampNeg by simp [Std.Legacy.Range.size]]
  show wp (forIn (List.range' 0 n.toNatClampNeg 1) PUnit.unit _) _ E e d acts _
  refine wp_forIn_inv (fun rest U => ∃ i, i ≤ n.toNatClampNeg ∧ rest = List.range' i (n.toNatClampNeg - i) ∧ J i U) _ _ ⟨0, Nat.zero_le _, rfl, j0⟩ ?_ ?_
  · rintro x rest U d' acts' Q' ⟨i, hi, hl, hJ⟩ hnext
    have hlt : i < n.toNatClampNeg := by
      rcases Nat.lt_or_ge i n.toNatClampNeg with h | h
      · exact h
      · rw [show n.toNatClampNeg - i = 0 by omega] at hl
        cases hl
    rw [show n.toNatClampNeg - i = (n.toNatClampNeg - (i + 1)) + 1 by omega, List.range'_succ] at hl
    obtain ⟨ex, er⟩ := List.cons.inj hl
    subst ex
    obtain ⟨v1, v2, v3, cell, c1, c2, c3, c4⟩ := jf x U hJ
    have hmul : x * m.toNatClampNeg + m.toNatClampNeg ≤ n.toNatClampNeg * m.toNatClampNeg := by
      have := Nat.mul_le_mul_right m.toNatClampNeg (show x + 1 ≤ n.toNatClampNeg from hlt)
      rw [Nat.succ_mul] at this
      exact this
    simp only [wp_bind']
    refine mu_one (by rw [v1]; exact hkc) hkindc hm hl2 hh2 hdf hdd (by rw [v2]; omega) (by rw [v3]; omega) ?_
    have hlt0 : s.heap.size < U.heap.size := by rw [v2]; omega
    simp only [wp_bind', W.writeLoc, wp_pure']
    refine ⟨cell, by rw [State.heap_pushCell_of_lt (h := hlt0)]; exact c1, by rw [c3]; simp, by rw [c4]; exact hlt, ?_, hnext _ _ _ ⟨x + 1, hlt, er, ?_⟩⟩
    · rw [c2, c3]
      simp [State.fitsSlot, State.slotType?, v1, hk, hkind, fits]
    · have hj := js x U cell hlt hJ c1
      rw [← v2] at hj
      exact hj
  · rintro U d' acts' ⟨i, hi, hl, hJ⟩
    have hiN : i = n.toNatClampNeg := by
      rcases Nat.lt_or_ge i n.toNatClampNeg with h | h
      · rw [show n.toNatClampNeg - i = (n.toNatClampNeg - (i + 1)) + 1 by omega, List.range'_succ] at hl
        cases hl
      · omega
    subst hiN
    simp only [wp_pure']
    exact hq _ _ _ hJ
end WP2
theorem stepsE {p : Program} {e : Env} {below : List Frame} {s : State} {f : JFrame} {c : Code} {P : State → Prop} {i : Instr} {len : Nat} (h : At s f.method c below) (hd : decode c.code f.pc = .ok (i, len))
    (hw : wpRun (p.tables.exec i) (fun _ s₁ _ => ∀ acts, ∃ t, Steps p.tables e below (afterInstr e len (.ok () s₁ acts)).1 t ∧ P t) (fun x s₁ _ => ∀ acts, ∃ t, Steps p.tables e below (afterInstr e len (.ctl x s₁ acts)).1 t ∧ P t) e (s.setTop f)) :
    ∃ t, Steps p.tables e below (s.setTop f) t ∧ P t := by
  have hw := (wpRun_iff_run _ _ _ _ _).mp hw
  have hgo : (s.setTop f).goesOn := ⟨h.running, by rw [State.curStatus?_setTop]; exact h.runnable, by rw [State.alone_setTop]; exact h.alone⟩
  have hst := stepThread_java (e := e) (tb := p.tables) (State.frames_setTop' f h.top) h.plain h.code hd
  cases hr : (p.tables.exec i).run e (s.setTop f) with
  | ok a s₁ acts =>
    rw [hr] at hw
    obtain ⟨t, h1, h2⟩ := hw acts
    refine ⟨t, Steps.head hgo (h.within f) ?_, h2⟩
    rw [hst, hr]
    exact h1
  | ctl x s₁ acts =>
    rw [hr] at hw
    cases x <;> first
      | (obtain ⟨t, h1, h2⟩ := hw acts
         refine ⟨t, Steps.head hgo (h.within f) ?_, h2⟩
         rw [hst, hr]
         exact h1)
      | exact hw.elim
theorem sgI : "[" ++ (FieldType.array .int).toString = "[[I" := by decide +kernel
theorem sgJ : "[" ++ (FieldType.array .long).toString = "[[J" := by decide +kernel
section MU
variable {G : Gl} {own nm : String} {cc : ByteArray} {nL : Nat} {rt : Option FieldType} {d : Nat} {α : Type} {cv : α → Outcome} {pc : Nat} {L : List (Nat × Value)} {st : List Value} {h : AH} {f : Option (α × AH)}
theorem s_multi {idx : Nat} {n m : Int32} {ty : FieldType} (K2 K1 : Nat) (hd : decode cc pc = .ok (.multianewarray idx 2, 4)) (hK2 : aTy K2 = some (.array ty)) (hK1 : aTy K1 = some ty) (h2 : K2 < 40) (h1 : K1 < 40) (hr1 : ty.isReference = false) (hnf : nfd ty = true)
    (w1 : Cond.classLink own idx ("[" ++ (FieldType.array ty).toString) ∈ lw_all) (w2 : Cond.arrayOver (.array ty) ∈ lw_tbl) (w3 : Cond.arrayClass ty ∈ lw_all)
    (hn : 0 ≤ n.toInt ∧ n.toInt ≤ 1000) (hm : 0 ≤ m.toInt ∧ m.toInt ≤ 1000) (hcb : ix m * componentBytes ty ≤ 536870912) (hdf : fits ty (defaultValue ty) = true) (hdd : (defaultValue ty).isDefault = true)
    (k : Sim G own nm cc nL rt d cv (pc + 4) L (.ref h.n :: st) (gridA h K2 K1 (ix n) (ix m) (ix n)) f) : Sim G own nm cc nL rt d cv pc L (.int m :: .int n :: st) h f := by
  have nl : ∀ z : Int32, 0 ≤ z.toInt → ¬ z < 0 := fun z hz => by rw [Int32.lt_iff_toInt_lt, Int32.toInt_zero]; omega
  have hix : ∀ z : Int32, 0 ≤ z.toInt ∧ z.toInt ≤ 1000 → ix z ≤ 1000 := fun z hz => by
    unfold ix Int32.toNatClampNeg
    omega
  intro r h' hf
  obtain ⟨g1, g2⟩ := k r h' hf
  rw [gridA_n, gridA_sl] at g1
  refine ⟨⟨by omega, by omega⟩, fun p e s m' args below meth c R C a1 a2 n0 s0 b1 b2 b3 b4 H locs ls hR hlo hL => ?_⟩
  intro T hT X
  subst hT
  have hpl : e.platform.magicAccessors = ({} : Platform).magicAccessors := by rw [X.admits.platform]
  obtain ⟨comp, cA, kA, hcomp, -, hkA, hkindA, hnameA⟩ := arrayOverA_spec (C.gl.2.2.2.2.2.2.2.2.1 _ w2)
  obtain ⟨comp', kC, cc', hcomp', hkC, hkindC⟩ := Cond.arrayClass_spec (C.ts _ w3)
  have ecomp : comp' = comp := Option.some.inj (hcomp'.symm.trans hcomp)
  subst ecomp
  obtain ⟨c0, hfc0, hcl⟩ := Cond.classLink_spec C.ow (C.ts _ w1) e.platform hpl
  cases hnameA.symm.trans hfc0
  obtain ⟨hg₁, hwarm₁, hready₁⟩ := State.classEntry (e := e) X.warmed hcl
  generalize T.vm.noted m'.cls idx (.cls cA) = vm₁ at hg₁ hwarm₁ hready₁
  have hal : s.vm.Alike vm₁ := hwarm₁.alike
  obtain ⟨kA₁, hkA₁, heA⟩ := hal.2.2 _ _ hkA
  obtain ⟨kC₁, hkC₁, heC⟩ := hal.2.2 _ _ hkC
  have hkindA₁ : kA₁.kind = .array comp' (.array ty) := by rw [heA]; exact hkindA
  have hkindC₁ : kC₁.kind = .array cc' ty := by rw [heC]; exact hkindC
  have X₁ := X.noted hwarm₁
  have hsz : T.heap.size = h.n := hR.1
  have hbd := hix n hn
  have hbm := hix m hm
  have hbm2 : ix n * ix m ≤ 1000 * 1000 := Nat.mul_le_mul hbd hbm
  have hroom := X.roomAbove (show (h.n - n0) + (1 + ix n) ≤ R.cells by omega) (show (h.sl - s0) + (ix n + ix n * ix m) ≤ R.slots by omega)
  obtain ⟨hr1', hr2'⟩ := hroom
  have hl1 : ¬ n.toNatClampNeg > e.platform.arrayLengthLimit := by rw [Launch.admits_arrayLengthLimit X.admits]; show ¬ ix n > _; omega
  have hh1 : ¬ n.toNatClampNeg * componentBytes (.array ty) > e.platform.maxHeapBytes := by
    rw [Launch.admits_maxHeapBytes X.admits]; show ¬ ix n * 4 > 536870912; omega
  have hl2 : ¬ m.toNatClampNeg > e.platform.arrayLengthLimit := by rw [Launch.admits_arrayLengthLimit X.admits]; show ¬ ix m > _; omega
  have hh2 : ¬ m.toNatClampNeg * componentBytes ty > e.platform.maxHeapBytes := by rw [Launch.admits_maxHeapBytes X.admits]; show ¬ ix m * _ > 536870912; omega
  obtain ⟨g', hg'⟩ : ∃ g' : JFrame, g' = { F0 m' pc ls (.int m :: .int n :: st) with stack := st } := ⟨_, rfl⟩
  let inn : Cell := { cls := comp', slots := Array.replicate m.toNatClampNeg (defaultValue ty), vm := .none }
  let J : Nat → State → Prop := fun i U => ∃ (V : State) (Lo : List Loc) (cell : Cell), U = V.setTop g' ∧ Stand p G.l e R s m' args below meth c V (locs ++ Lo) (h.n - n0 + 1 + i) (h.sl - s0 + ix n + i * ix m) ∧ Rep G (gridA h K2 K1 (ix n) (ix m) i) V.heap ∧ V.vm = vm₁ ∧ V.slotsUsed = T.slotsUsed + ix n + i * ix m ∧ (∀ q ∈ Lo, G.base ≤ q.base) ∧ V.heap[h.n]? = some cell ∧ cell.cls = cA ∧ cell.vm = .none ∧ cell.slots.size = ix n
  have hbase : G.base ≤ h.n := hR.2.2.2.2.1
  have hal0 := C.alike
  have hkA0 : ∃ k0 : Class, s.vm.classes[cA]? = some k0 ∧ k0.kind = .array comp' (.array ty) := ⟨kA, hkA, hkindA⟩
  have hJ0 : J 0 (((T.setVm vm₁).setTop g').pushCell { cls := cA, slots := Array.replicate n.toNatClampNeg .null, vm := .none }) := by
    refine ⟨(T.setVm vm₁).pushCell { cls := cA, slots := Array.replicate n.toNatClampNeg .null, vm := .none }, [], { cls := cA, slots := Array.replicate n.toNatClampNeg .null, vm := .none }, rfl, ?_, ?_, rfl, ?_, (fun q hq => by cases hq), ?_, rfl, rfl, by simp [ix]⟩
    · have q := X₁.pushed { cls := cA, slots := Array.replicate n.toNatClampNeg .null, vm := .none }
      simpa [ix] using q
    · refine hR.mk h2 (by have := aTy_ge hK2; omega) (by show (T.heap.push _).size = _; rw [Array.size_push, hsz]) (fun q hq => by show (T.heap.push _)[q]? = _; rw [Array.getElem?_push, if_neg (by omega)]) (fun i q' hi' hc' => ?_) (fun ty' hty => ?_)
      · have h31 := aTy_ge hK2
        have := cT_lt hc'
        omega
      · cases hK2.symm.trans hty
        refine ⟨{ cls := cA, slots := Array.replicate n.toNatClampNeg .null, vm := .none }, (by show (T.heap.push _)[h.n]? = _; rw [← hsz, Array.getElem?_push, if_pos rfl]), ?_, (fun e => by cases e), (fun _ => ?_), ?_, fun j hj => ?_⟩
        · exact State.isArrayOf_alike hal0.symm ⟨(fun k e => by cases e), kA, hkA, comp', hkindA⟩
        · rw [← hal0.findClass]; exact hnameA
        · rw [AH.len_new, if_pos rfl]; simp [ix, nI]
        · rw [AH.len_new, if_pos rfl] at hj
          have hj : j < n.toNatClampNeg := hj
          rw [fv_new h _ _ _ j rfl]
          show (Array.replicate _ _)[j]? = _
          rw [Array.getElem?_replicate, if_pos hj]
          rfl
    · show T.slotsUsed + _ = _
      simp [ix]
    · show (T.heap.push _)[h.n]? = _
      rw [← hsz, Array.getElem?_push, if_pos rfl]
  have hJs : ∀ i U cell, i < n.toNatClampNeg → J i U → U.heap[((T.setVm vm₁).setTop g').heap.size]? = some cell → J (i + 1) ((U.pushCell inn).setCell ((T.setVm vm₁).setTop g').heap.size (cell.setSlot i (.ref (((T.setVm vm₁).setTop g').heap.size + 1 + i)))) := by
    rintro i U cell hi ⟨V, Lo, cell', rfl, x1, x2, x3, x4, x5, x6, x7, x8, x9⟩ hcell
    have e0 : ((T.setVm vm₁).setTop g').heap.size = h.n := hsz
    rw [e0] at hcell ⊢
    have hcc : cell' = cell := Option.some.inj (x6.symm.trans hcell)
    subst hcc
    have hVn : V.heap.size = h.n + 1 + i := by rw [x2.1, gridA_n]
    have hin : (V.pushCell inn).heap[h.n]? = some cell' := by
      show (V.heap.push _)[h.n]? = _
      rw [Array.getElem?_push, if_neg (by omega)]
      exact x6
    have hisz : inn.slots.size = ix m := by simp [inn, ix]
    have hRn : Rep G ((gridA h K2 K1 (ix n) (ix m) i).new K1 (ix m) (ix m)) (V.heap.push inn) := by
      refine x2.mk h1 (by have := aTy_ge hK1; omega) (by rw [Array.size_push, hVn, gridA_n]) (fun q hq => by rw [gridA_n] at hq; rw [Array.getElem?_push, if_neg (by omega)]) (fun j q' hj' hc' => ?_) (fun ty' hty => ?_)
      · have h31 := aTy_ge hK1
        have := cT_lt hc'
        omega
      · cases hK1.symm.trans hty
        refine ⟨inn, (by rw [gridA_n, ← hVn, Array.getElem?_push, if_pos rfl]), ?_, (fun e => by cases e), (fun e => by rw [hr1] at e; cases e), ?_, fun j hj => ?_⟩
        · exact State.isArrayOf_alike hal0.symm ⟨(fun k e => by cases e), kC, hkC, cc', hkindC⟩
        · rw [AH.len_new, if_pos rfl, hisz]; exact ⟨Nat.le_refl _, rfl⟩
        · rw [AH.len_new, if_pos rfl] at hj
          have hj : j < m.toNatClampNeg := hj
          rw [fv_new _ _ _ _ j hnf]
          show (Array.replicate _ _)[j]? = _
          rw [Array.getElem?_replicate, if_pos hj]
    obtain ⟨gk, gl⟩ := gridA_kind0 h K2 K1 (ix n) (ix m) i
    have hne : h.n ≠ (gridA h K2 K1 (ix n) (ix m) i).n := by rw [gridA_n]; omega
    have hk2 : ((gridA h K2 K1 (ix n) (ix m) i).new K1 (ix m) (ix m)).kind h.n = K2 := by rw [AH.kind_new, if_neg hne]; exact gk
    have hl2' : ((gridA h K2 K1 (ix n) (ix m) i).new K1 (ix m) (ix m)).len h.n = ix n := by rw [AH.len_new, if_neg hne]; exact gl
    obtain ⟨cx, y1, y2⟩ := hRn.arr (by rw [hk2]; exact hK2)
    have hcx : cx = cell' := Option.some.inj (y1.symm.trans hin)
    subst hcx
    have hlt : h.n < (V.heap.push inn).size := by rw [Array.size_push]; omega
    have hRs : Rep G (gridA h K2 K1 (ix n) (ix m) (i + 1)) ((V.heap.push inn).setIfInBounds h.n (cx.setSlot i (.ref (h.n + 1 + i)))) := by
      refine hRn.ast (a := h.n) (j := i) (ty := .array ty) (v := va_rf (some (h.n + 1 + i))) (cell := cx) (by rw [hk2]; exact hK2) (by rw [hk2]; exact h2) (Upd.r (fun _ => rfl)) (by rw [hl2']; exact hi) y2 ?_ (by simp) (fun q hq => by simp [Array.getElem?_setIfInBounds, Ne.symm hq])
      rw [Array.getElem?_setIfInBounds]
      simp only [if_true]
      rw [if_pos hlt]
      rfl
    refine ⟨(V.pushCell inn).setCell h.n (cx.setSlot i (.ref (h.n + 1 + i))), Lo ++ [⟨h.n, i⟩], cx.setSlot i (.ref (h.n + 1 + i)), rfl, ?_, hRs, x3, ?_, ?_, ?_, x7, x8, by rw [k2_slotsz]; exact x9⟩
    · have q := (x1.pushed inn).stored hin i (.ref (h.n + 1 + i))
      rw [hisz] at q
      have e2 : h.sl - s0 + ix n + (i + 1) * ix m = h.sl - s0 + ix n + i * ix m + ix m := by rw [Nat.succ_mul]; omega
      rw [e2, ← List.append_assoc]
      exact q
    · show V.slotsUsed + inn.slots.size = _
      rw [x4, hisz, Nat.succ_mul]; omega
    · intro q hq
      rcases List.mem_append.mp hq with z | z
      · exact x5 q z
      · rw [List.mem_singleton.mp z]; exact hbase
    · show ((V.heap.push inn).setIfInBounds h.n _)[h.n]? = _
      rw [Array.getElem?_setIfInBounds]
      simp only [if_true]
      rw [if_pos hlt]
  have hend : ∀ V : State, J (ix n) V → ∃ (V' : State) (Lo : List Loc), V = V'.setTop g' ∧ V'.topJava?.isSome ∧ ∃ t, Steps p.tables e below (V'.setTop { g' with pc := g'.pc + 4, stack := .ref h.n :: st }) t ∧ MQX G below (cv r) h' s (h'.n - n0) (h'.sl - s0) t := by
    rintro U ⟨V, Lo, cell, hU, x1, x2, x3, x4, x5, x6⟩
    have ea : h.n - n0 + 1 + ix n = (gridA h K2 K1 (ix n) (ix m) (ix n)).n - n0 := by rw [gridA_n]; omega
    have eb : h.sl - s0 + ix n + ix n * ix m = (gridA h K2 K1 (ix n) (ix m) (ix n)).sl - s0 := by rw [gridA_sl]; omega
    rw [ea, eb] at x1
    obtain ⟨t, t1, t2⟩ := g2 p e s m' args below meth c R C a1 a2 n0 s0 (by rw [gridA_n]; omega) (by rw [gridA_sl]; omega) b3 b4 V.heap (locs ++ Lo) ls x2 (fun q hq => by
      rcases List.mem_append.mp hq with z | z
      · exact hlo q z
      · exact x5 q z) hL V rfl x1
    refine ⟨V, Lo, hU, x1.here.top, t, ?_, t2⟩
    rw [hg']
    exact t1
  have hgd : decode c.code (F0 m' pc ls (.int m :: .int n :: st)).pc = .ok (.multianewarray idx 2, 4) := by rw [C.hb]; exact hd
  refine stepsE (f := F0 m' pc ls (.int m :: .int n :: st)) X.here hgd ?_
  simp only [wpRun, exec, C.hx, multianewarray.sem, wp_bind', W.resolveClassAt_links (State.method?_setTop (F0 m' pc ls (.int m :: .int n :: st)) X.here.top) hg₁]
  rw [W.popN, if_neg (by decide)]
  refine ⟨F0 m' pc ls (.int m :: .int n :: st), State.topJava?_setTop' (s := T.setVm vm₁) _ X.here.top, [.int n, .int m], st, rfl, rfl, ?_⟩
  simp only [List.mapM_cons, List.mapM_nil, wp_bind', wp_pure']
  have eS : ((T.setTop (F0 m' pc ls (.int m :: .int n :: st))).setVm vm₁).setTop { F0 m' pc ls (.int m :: .int n :: st) with stack := st } = (T.setVm vm₁).setTop g' := by
    rw [hg']
    show ((T.setVm vm₁).setTop _).setTop _ = _
    rw [State.setTop_setTop]
  rw [eS]
  refine mu_two (k := kA₁) (kc := kC₁) (comp := comp') (cc := cc') (t0 := .array ty) (type := ty) hkA₁ hkindA₁ rfl hkC₁ hkindC₁ (nl n hn.1) (nl m hm.1) hl1 hh1 hl2 hh2 hdf hdd (by show T.heap.size + 1 + ix n ≤ _; omega) (by show T.slotsUsed + ix n + ix n * ix m ≤ _; omega) J hJ0 ?_ hJs (fun d' acts' U hU => ?_)
  · rintro i U ⟨V, Lo, cell, rfl, x1, x2, x3, x4, x5, x6, x7, x8, x9⟩
    have e0 : ((T.setVm vm₁).setTop g').heap.size = h.n := hsz
    rw [e0]
    exact ⟨x3, by show V.heap.size = _; rw [x2.1, gridA_n], x4, cell, x6, x7, x8, x9⟩
  · obtain ⟨V, Lo, hV, htop, t, t1, t2⟩ := hend U hU
    subst hV
    have hgs : g'.stack = st := by rw [hg']
    simp only [wp_bind', W.mark, W.pushRef, State.topJava?_setTop' _ htop, Option.some.injEq, exists_eq_left', State.setTop_setTop]
    intro acts
    refine ⟨t, ?_, t2⟩
    simp [jvm]
    rw [hsz, hgs]
    exact t1
theorem s_multiI {idx : Nat} {n m : Int32} (hd : decode cc pc = .ok (.multianewarray idx 2, 4)) (w1 : Cond.classLink own idx "[[I" ∈ lw_all) (hn : 0 ≤ n.toInt ∧ n.toInt ≤ 1000) (hm : 0 ≤ m.toInt ∧ m.toInt ≤ 1000)
    (k : Sim G own nm cc nL rt d cv (pc + 4) L (.ref h.n :: st) (gridA h 35 32 (ix n) (ix m) (ix n)) f) : Sim G own nm cc nL rt d cv pc L (.int m :: .int n :: st) h f :=
  s_multi 35 32 hd rfl rfl (by decide) (by decide) rfl rfl (by rw [sgI]; exact w1) q232 q321 hn hm (by
    have : ix m ≤ 1000 := by unfold ix Int32.toNatClampNeg; omega
    show ix m * 4 ≤ _
    omega) rfl rfl k
theorem s_multiJ {idx : Nat} {n m : Int32} (hd : decode cc pc = .ok (.multianewarray idx 2, 4)) (w1 : Cond.classLink own idx "[[J" ∈ lw_all) (hn : 0 ≤ n.toInt ∧ n.toInt ≤ 1000) (hm : 0 ≤ m.toInt ∧ m.toInt ≤ 1000)
    (k : Sim G own nm cc nL rt d cv (pc + 4) L (.ref h.n :: st) (gridA h 36 33 (ix n) (ix m) (ix n)) f) : Sim G own nm cc nL rt d cv pc L (.int m :: .int n :: st) h f :=
  s_multi 36 33 hd rfl rfl (by decide) (by decide) rfl rfl (by rw [sgJ]; exact w1) q1236 q322 hn hm (by
    have : ix m ≤ 1000 := by unfold ix Int32.toNatClampNeg; omega
    show ix m * 8 ≤ _
    omega) rfl rfl k
theorem s_anewS {idx : Nat} {n : Int32} (hd : decode cc pc = .ok (.anewarray idx, 3)) (hw : Cond.classLink own idx "java/lang/String" ∈ lw_all) (hn : 0 ≤ n.toInt ∧ n.toInt ≤ 60000000)
    (k : Sim G own nm cc nL rt d cv (pc + 3) L (.ref h.n :: st) (h.new 37 (ix n) (ix n)) f) : Sim G own nm cc nL rt d cv pc L (.int n :: st) h f :=
  s_anew 37 hd rfl (by decide) hw (fun s hg => hg.2.2.2.2.2.2.2.1 _ q1230) hn.1 (by have := ix_le hn; omega) k
theorem s_aastS {a v : Nat} {i : Int32} (hd : decode cc pc = .ok (.aastore, 1)) (hk : h.kind a = 37) (hi : inb i (h.len a)) (hv : h.kind v = 20) (k : Sim G own nm cc nL rt d cv (pc + 1) L st (h.setR a (ix i) (some v)) f) : Sim G own nm cc nL rt d cv pc L (.ref v :: .int i :: .ref a :: st) h f := by
  have hK : aTy (h.kind a) = some (.object "java/lang/String") := by rw [hk]; rfl
  refine Sim.wr (a := a) (h1 := h.setR a (ix i) (some v)) rfl rfl k (fun C hR kw => ?_) (fun H hR => hR.base (by omega) (by omega) (by omega))
  obtain ⟨cell, q1, q2, q3, q4, q5, q6⟩ := hR.arr hK
  obtain ⟨cv', c1, c2, c3⟩ := hR.recvS C hv
  obtain ⟨comp, cA, kA, f1, -, f3, f4, f5⟩ := Cond.arrayOver_spec (C.gl.2.2.2.2.2.2.2.1 _ q1230)
  have hfs := q4 rfl
  rw [← (C.alike).findClass] at hfs
  have hcA : cA = cell.cls := Option.some.inj (f5.symm.trans hfs)
  have hco : comp = cv'.cls := Option.some.inj (f1.symm.trans c3)
  obtain ⟨kv, hkv⟩ := Vm.classAt_of_findClass c3
  have hin := hi.vp2 q5.1
  exact W.aast C.hx C.hb q1 q2.1 q3 (by rw [← hcA]; exact f3) f4 rfl (by rw [hco]; exact hkv) ⟨fun q => hin (Or.inl q), Nat.not_le.mp fun q => hin (Or.inr q)⟩ c1 (fun q e => by rw [e] at c2; cases c2) hkv (by rw [hco]; exact va_asg _ _) rfl rfl hd fun H' e1 e2 e3 => kw H' _ (hR.ast hK (by omega) (Upd.r (fun _ => rfl)) hi.lt ⟨q2, q3, q4, q5, q6⟩ e1 e2 e3)
end MU
