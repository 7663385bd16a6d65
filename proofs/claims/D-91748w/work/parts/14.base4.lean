/-! ARRAYS, NEW CELLS, STATICS, CASTS -/
theorem inb.vp {i : Int32} {n : Nat} (h : inb i n) : vp_in i n := vp_in_iff.mpr h
theorem inb.vp2 {i : Int32} {n m : Nat} (h : inb i n) (hm : n ≤ m) : ¬ (i < 0 ∨ m ≤ i.toNatClampNeg) := fun q => by
  rcases q with q | q
  · exact h.vp (Or.inl q)
  · exact h.vp (Or.inr (Nat.le_trans hm q))
theorem inb.lt {i : Int32} {n : Nat} (h : inb i n) : ix i < n := Nat.not_le.mp fun q => h.vp (Or.inr q)
theorem Rep.arr {G : Gl} {h : AH} {H : Heap} {a : Nat} {ty : FieldType} (hR : Rep G h H) (hk : aTy (h.kind a) = some ty) : ∃ cell, H[a]? = some cell ∧ aCell G h a ty cell := hR.2.2.2.2.2.2.1 a ty hk
theorem Rep.ast {G : Gl} {h h1 : AH} {H H' : Heap} {a j : Nat} {ty : FieldType} {v : Value} {cell : Cell} (hR : Rep G h H) (hk : aTy (h.kind a) = some ty) (h40 : h.kind a < 40) (hu : Upd h h1 a j ty v) (hj : j < h.len a) (hc : aCell G h a ty cell) (e1 : H'[a]? = some (cell.setSlot j v)) (e2 : H'.size = H.size) (e3 : ∀ q : Nat, q ≠ a → H'[q]? = H[q]?) : Rep G h1 H' := by
  obtain ⟨⟨u1, -, u3, u4⟩, u5, u6, u7⟩ := hu
  have h31 := aTy_ge hk
  refine hR.upd (hR.base (by omega) h40 (by omega)) u1 u3 u4 u5 e2 e3 (by omega) (fun k' q' hk' hc' => ?_) (fun ty' hty => ?_)
  · have := cT_lt hc'
    omega
  · cases hk.symm.trans hty
    obtain ⟨c1, c2, c3, c4, c5⟩ := hc
    refine ⟨_, e1, ?_, c2, c3, by rw [k2_slotsz, u4]; exact c4, fun i hi => ?_⟩
    · exact c1
    · rw [u4] at hi
      by_cases e : i = j
      · subst e
        rw [u7]
        exact Cell.slots_setSlot_self v (k2_hasslot (c5 i hi))
      · rw [slot_ne _ _ (Ne.symm e), u6 i e]
        exact c5 i hi
def nfd (ty : FieldType) : Bool := match ty with
  | .float => false
  | .double => false
  | _ => true
theorem fv_new (h : AH) (k m w j : Nat) {ty : FieldType} (hty : nfd ty = true) : fv (h.new k m w) h.n j ty = defaultValue ty := by
  have e1 : (h.new k m w).I h.n j = 0 := by rw [AH.I_new, if_pos rfl]
  have e2 : (h.new k m w).L h.n j = 0 := by rw [AH.L_new, if_pos rfl]
  have e3 : (h.new k m w).R h.n j = none := by rw [AH.R_new, if_pos rfl]
  cases ty <;> first | (simp only [fv, e1, e2, e3, defaultValue]; done) | (simp only [fv, e1, e2, e3, defaultValue]; rfl) | (simp [nfd] at hty)
theorem fv_old (h : AH) (k m w : Nat) {b : Nat} (hb : b ≠ h.n) (j : Nat) (ty : FieldType) : fv (h.new k m w) b j ty = fv h b j ty := by
  have e1 : (h.new k m w).I b j = h.I b j := by rw [AH.I_new, if_neg hb]
  have e2 : (h.new k m w).L b j = h.L b j := by rw [AH.L_new, if_neg hb]
  have e3 : (h.new k m w).R b j = h.R b j := by rw [AH.R_new, if_neg hb]
  cases ty <;> simp only [fv, e1, e2, e3]
theorem cT_nfd : ∀ q ∈ cT, ∀ j, j < q.1.2.2 → nfd (q.2 j) = true := by
  refine List.forall_mem_cons.mpr ⟨by decide, List.forall_mem_cons.mpr ⟨by decide, List.forall_mem_cons.mpr ⟨by decide, List.forall_mem_cons.mpr ⟨by decide, List.forall_mem_cons.mpr ⟨by decide, List.forall_mem_cons.mpr ⟨by decide, List.forall_mem_cons.mpr ⟨by decide, List.forall_mem_cons.mpr ⟨by decide, List.forall_mem_cons.mpr ⟨by decide, List.forall_mem_cons.mpr ⟨by decide, List.forall_mem_cons.mpr ⟨by decide, List.forall_mem_cons.mpr ⟨by decide, List.forall_mem_cons.mpr ⟨by decide, List.forall_mem_cons.mpr ⟨by decide, fun _ h => absurd h List.not_mem_nil⟩⟩⟩⟩⟩⟩⟩⟩⟩⟩⟩⟩⟩⟩
theorem Rep.mk {G : Gl} {h : AH} {H H' : Heap} {k m w : Nat} (hR : Rep G h H) (h0 : k < 40) (h20 : k ≠ 20) (e2 : H'.size = h.n + 1) (e3 : ∀ q : Nat, q < h.n → H'[q]? = H[q]?)
    (hobj : ∀ (i : Nat) (q : vw_C × (Nat → FieldType)), k = i + 1 → cT[i]? = some q → t_OB h.n (G.dC i) q.1.2.2 (G.dI i) H' (fun j => fv (h.new k m w) h.n j (q.2 j))) (harr : ∀ ty, aTy k = some ty → ∃ cell, H'[h.n]? = some cell ∧ aCell G (h.new k m w) h.n ty cell) : Rep G (h.new k m w) H' := by
  obtain ⟨r1, r2, r3, r4, r5, r6, r7, r8⟩ := hR
  refine ⟨e2, fun b hb => ?_, fun b hb hb2 hb3 => ?_, fun b hb => ?_, by rw [AH.n_new]; omega, fun b i q hb hc => ?_, fun b ty hty => ?_, fun b hb => ?_⟩
  · rw [AH.kind_new] at hb
    rw [AH.n_new]
    split at hb
    · omega
    · have := r2 b hb; omega
  · rw [AH.kind_new] at hb hb2 hb3
    split at hb
    · rename_i e; rw [e]; exact r5
    · rename_i e; rw [if_neg e] at hb2 hb3; exact r3 b hb hb2 hb3
  · rw [e3 b (by omega)]; exact r4 b hb
  · rw [AH.kind_new] at hb
    split at hb
    · rename_i e; subst e; exact hobj i q hb hc
    · rename_i e
      have hl := r2 b (by omega)
      exact (t_OB.kept (r6 b i q hb hc) (e3 b hl)).to (fun j _ => (fv_old h k m w e j _).symm)
  · rw [AH.kind_new] at hty
    split at hty
    · rename_i e; subst e; exact harr ty hty
    · rename_i e
      have h31 := aTy_ge hty
      have hl := r2 b (by omega)
      obtain ⟨cell, g1, g2, g3, g4, g5, g6⟩ := r7 b ty hty
      exact ⟨cell, by rw [e3 b hl]; exact g1, g2, g3, g4, by rw [AH.len_new, if_neg e]; exact g5, fun j hj => by
        rw [AH.len_new, if_neg e] at hj
        rw [fv_old h k m w e]; exact g6 j hj⟩
  · rw [AH.kind_new] at hb
    split at hb
    · exact absurd hb h20
    · rename_i e
      obtain ⟨i, i1, i2, i3, i4⟩ := r8 b hb
      exact ⟨i, i1, i2, by rw [AH.R_new, if_neg e]; exact i3, by rw [AH.I_new, if_neg e]; exact i4⟩
section ARR
variable {G : Gl} {own nm : String} {cc : ByteArray} {nL : Nat} {rt : Option FieldType} {d : Nat} {α : Type} {cv : α → Outcome} {pc : Nat} {L : List (Nat × Value)} {st : List Value} {h : AH} {f : Option (α × AH)}
theorem s_alen {a K : Nat} {ty : FieldType} (hd : decode cc pc = .ok (.arraylength, 1)) (hk : h.kind a = K) (hK : aTy K = some ty) (k : Sim G own nm cc nL rt d cv (pc + 1) L (.int (nI (h.len a)) :: st) h f) : Sim G own nm cc nL rt d cv pc L (.ref a :: st) h f :=
  Sim.rd k (fun C hR kw => by
    obtain ⟨cell, q1, q2, q3, q4, q5, q6⟩ := hR.arr (by rw [hk]; exact hK)
    exact W.alen C.hx C.hb q1 (State.isArrayOf_alike C.alike q2) q5.2 rfl rfl hd kw)
theorem s_iald {a K : Nat} {i : Int32} (hd : decode cc pc = .ok (.iaload, 1)) (hk : h.kind a = K) (hK : aTy K = some .int) (hi : inb i (h.len a)) (k : Sim G own nm cc nL rt d cv (pc + 1) L (.int (h.I a (ix i)) :: st) h f) : Sim G own nm cc nL rt d cv pc L (.int i :: .ref a :: st) h f :=
  Sim.rd k (fun C hR kw => by
    obtain ⟨cell, q1, q2, q3, q4, q5, q6⟩ := hR.arr (by rw [hk]; exact hK)
    exact W.iald C.hx C.hb q1 (State.isArrayOf_alike C.alike q2) q3 (hi.vp2 q5.1) (q6 _ hi.lt) rfl rfl hd kw)
theorem s_bald {a K : Nat} {i : Int32} (hd : decode cc pc = .ok (.baload, 1)) (hk : h.kind a = K) (hK : aTy K = some .byte) (hi : inb i (h.len a)) (k : Sim G own nm cc nL rt d cv (pc + 1) L (.int (h.I a (ix i)) :: st) h f) : Sim G own nm cc nL rt d cv pc L (.int i :: .ref a :: st) h f :=
  Sim.rd k (fun C hR kw => by
    obtain ⟨cell, q1, q2, q3, q4, q5, q6⟩ := hR.arr (by rw [hk]; exact hK)
    exact W.bald C.hx C.hb q1 (State.isArrayOf_alike C.alike q2) q3 (hi.vp2 q5.1) (q6 _ hi.lt) rfl rfl hd kw)
theorem s_lald {a K : Nat} {i : Int32} (hd : decode cc pc = .ok (.laload, 1)) (hk : h.kind a = K) (hK : aTy K = some .long) (hi : inb i (h.len a)) (k : Sim G own nm cc nL rt d cv (pc + 1) L (.long (h.L a (ix i)) :: st) h f) : Sim G own nm cc nL rt d cv pc L (.int i :: .ref a :: st) h f :=
  Sim.rd k (fun C hR kw => by
    obtain ⟨cell, q1, q2, q3, q4, q5, q6⟩ := hR.arr (by rw [hk]; exact hK)
    exact W.lald C.hx C.hb q1 (State.isArrayOf_alike C.alike q2) q3 (hi.vp2 q5.1) (q6 _ hi.lt) rfl rfl hd kw)
theorem s_aald {a K : Nat} {i : Int32} {ty : FieldType} (hd : decode cc pc = .ok (.aaload, 1)) (hk : h.kind a = K) (hK : aTy K = some ty) (hty : ty.isReference = true) (hv : fv h a (ix i) ty = va_rf (h.R a (ix i))) (hi : inb i (h.len a)) (k : Sim G own nm cc nL rt d cv (pc + 1) L (va_rf (h.R a (ix i)) :: st) h f) : Sim G own nm cc nL rt d cv pc L (.int i :: .ref a :: st) h f :=
  Sim.rd k (fun C hR kw => by
    obtain ⟨cell, q1, q2, q3, q4, q5, q6⟩ := hR.arr (by rw [hk]; exact hK)
    exact W.aald C.hx C.hb q1 (State.isArrayOf_alike C.alike q2) hty q3 (hi.vp2 q5.1) ((q6 _ hi.lt).trans (congrArg some hv)) rfl rfl hd kw)
theorem s_iast {a K : Nat} {i v : Int32} (hd : decode cc pc = .ok (.iastore, 1)) (hk : h.kind a = K) (hK : aTy K = some .int) (h40 : K < 40) (hi : inb i (h.len a)) (k : Sim G own nm cc nL rt d cv (pc + 1) L st (h.setI a (ix i) v) f) : Sim G own nm cc nL rt d cv pc L (.int v :: .int i :: .ref a :: st) h f := by
  subst hk
  refine Sim.wr (a := a) (h1 := h.setI a (ix i) v) rfl rfl k (fun C hR kw => ?_) (fun H hR => hR.base (by have := aTy_ge hK; omega) h40 (by have := aTy_ge hK; omega))
  obtain ⟨cell, q1, q2, q3, q4, q5, q6⟩ := hR.arr hK
  exact W.iast C.hx C.hb q1 (State.isArrayOf_alike C.alike q2) q3 (hi.vp2 q5.1) rfl rfl hd fun H' e1 e2 e3 => kw H' _ (hR.ast hK h40 (Upd.i (fun _ => rfl)) hi.lt ⟨q2, q3, q4, q5, q6⟩ e1 e2 e3)
theorem s_bast {a K : Nat} {i v : Int32} (hd : decode cc pc = .ok (.bastore, 1)) (hk : h.kind a = K) (hK : aTy K = some .byte) (h40 : K < 40) (hi : inb i (h.len a)) (k : Sim G own nm cc nL rt d cv (pc + 1) L st (h.setI a (ix i) v.toInt8.toInt32) f) : Sim G own nm cc nL rt d cv pc L (.int v :: .int i :: .ref a :: st) h f := by
  subst hk
  refine Sim.wr (a := a) (h1 := h.setI a (ix i) v.toInt8.toInt32) rfl rfl k (fun C hR kw => ?_) (fun H hR => hR.base (by have := aTy_ge hK; omega) h40 (by have := aTy_ge hK; omega))
  obtain ⟨cell, q1, q2, q3, q4, q5, q6⟩ := hR.arr hK
  exact W.bast C.hx C.hb q1 (State.isArrayOf_alike C.alike q2) q3 (hi.vp2 q5.1) rfl rfl hd fun H' e1 e2 e3 => kw H' _ (hR.ast hK h40 (Upd.i (fun _ => rfl)) hi.lt ⟨q2, q3, q4, q5, q6⟩ e1 e2 e3)
theorem s_last {a K : Nat} {i : Int32} {v : Int64} (hd : decode cc pc = .ok (.lastore, 1)) (hk : h.kind a = K) (hK : aTy K = some .long) (h40 : K < 40) (hi : inb i (h.len a)) (k : Sim G own nm cc nL rt d cv (pc + 1) L st (h.setL a (ix i) v) f) : Sim G own nm cc nL rt d cv pc L (.long v :: .int i :: .ref a :: st) h f := by
  subst hk
  refine Sim.wr (a := a) (h1 := h.setL a (ix i) v) rfl rfl k (fun C hR kw => ?_) (fun H hR => hR.base (by have := aTy_ge hK; omega) h40 (by have := aTy_ge hK; omega))
  obtain ⟨cell, q1, q2, q3, q4, q5, q6⟩ := hR.arr hK
  exact W.last C.hx C.hb q1 (State.isArrayOf_alike C.alike q2) q3 (hi.vp2 q5.1) rfl rfl hd fun H' e1 e2 e3 => kw H' _ (hR.ast hK h40 (Upd.l (fun _ => rfl)) hi.lt ⟨q2, q3, q4, q5, q6⟩ e1 e2 e3)
/-- a row that makes a cell -/
theorem Sim.al {pc' w : Nat} {st' : List Value} {h1 : AH} (e1 : h1.n = h.n + 1) (e2 : h1.sl = h.sl + w) (k : Sim G own nm cc nL rt d cv pc' L st' h1 f)
    (row : ∀ {p : Program} {e : Env} {s : State} {m : MethodId} {args : Array Value} {below : List Frame} {meth : Method} {c : Code} {R : Room} {H : Heap} {locs : List Loc} {cells slots : Nat} {Q : State → Prop} {ls : Array Slot},
      Cx G own nm cc nL rt p s m args meth c → Rep G h H → cells + 1 ≤ R.cells → slots + w ≤ R.slots → (∀ (H' : Heap), Rep G h1 H' → W p G.l e R s m args below meth c H' locs (cells + 1) (slots + w) Q (F0 m pc' ls st')) → W p G.l e R s m args below meth c H locs cells slots Q (F0 m pc ls st)) :
    Sim G own nm cc nL rt d cv pc L st h f := by
  intro r h' hf
  obtain ⟨g1, g2⟩ := k r h' hf
  rw [e1, e2] at g1
  refine ⟨⟨by omega, by omega⟩, fun p e s m args below meth c R C a1 a2 n0 s0 b1 b2 b3 b4 H locs ls hR hlo hL => row C hR (by omega) (by omega) (fun H' hR' => ?_)⟩
  have g3 := g2 p e s m args below meth c R C a1 a2 n0 s0 (by rw [e1]; omega) (by rw [e2]; omega) b3 b4 H' locs ls hR' hlo hL
  refine W.cs (cells' := h1.n - n0) (slots' := h1.sl - s0) (by rw [e1]; omega) (by rw [e2]; omega) g3
theorem s_new {idx n : Nat} (kk : Nat) {q : vw_C × (Nat → FieldType)} (hd : decode cc pc = .ok (.new idx, 3)) (hc : cT[kk]? = some q) (hw : Cond.classLink own idx q.1.1 ∈ lw_all) (hi : Cond.instantiable q.1.1 n ∈ lw_all) (hz : Cond.initialized q.1.1 ∈ lw_all)
    (k : Sim G own nm cc nL rt d cv (pc + 3) L (.ref h.n :: st) (h.new (kk + 1) 0 n) f) : Sim G own nm cc nL rt d cv pc L st h f := by
  refine Sim.al (w := n) rfl rfl k (fun C hR hce hsl kw => ?_)
  obtain ⟨hin, hnm, hty⟩ := cT_ok q (List.mem_of_getElem? hc)
  have hKn := C.gl.2.1 kk q hc
  refine W.newcK C.hx C.hb C.ow (C.ts _ hw) (C.ts _ hi) (C.ts _ hz) rfl hd hce hsl hKn.2.1 hR.1 fun H1 kC hkC e1 z1 o1 => ?_
  refine kw H1 (hR.mk (by have := cT_lt hc; omega) (by have := cT_lt hc; omega) z1 o1 (fun i q' hi' hc' => ?_) (fun ty hty => ?_))
  · have ei : i = kk := by omega
    subst ei
    cases hc.symm.trans hc'
    exact (u_born q.2 C.ts hin hKn hkC e1 hty).to (fun j hj => (fv_new h _ _ _ j (cT_nfd q (List.mem_of_getElem? hc) j hj)).symm)
  · rw [aTy_obj (cT_lt hc)] at hty
    cases hty
theorem s_newa {n : Int32} {atype : ArrayType} (K : Nat) (hd : decode cc pc = .ok (.newarray atype, 2)) (hK : aTy K = some (newarray.typeOf atype)) (h40 : K < 40) (href : (newarray.typeOf atype).isReference = false) (hnf : nfd (newarray.typeOf atype) = true) (hw : Cond.arrayClass (newarray.typeOf atype) ∈ lw_all) (hn : 0 ≤ n.toInt) (hb : ix n * componentBytes (newarray.typeOf atype) ≤ 536870912)
    (k : Sim G own nm cc nL rt d cv (pc + 2) L (.ref h.n :: st) (h.new K (ix n) (ix n)) f) : Sim G own nm cc nL rt d cv pc L (.int n :: st) h f := by
  refine Sim.al (w := ix n) rfl rfl k (fun C hR hce hsl kw => ?_)
  have hn' : ¬ n < 0 := by rw [Int32.lt_iff_toInt_lt, Int32.toInt_zero]; omega
  refine W.newaK C.hx C.hb (C.ts _ hw) rfl hd rfl hn' rfl hb hce hsl hR.1 fun H1 cA e1 z1 o1 ho => ?_
  refine kw H1 (hR.mk h40 (by have := aTy_ge hK; omega) z1 o1 (fun i q' hi' hc' => ?_) (fun ty hty => ?_))
  · have h31 := aTy_ge hK
    have := cT_lt hc'
    omega
  · cases hK.symm.trans hty
    refine ⟨_, e1, State.isArrayOf_alike C.alike.symm (ho _ _), (fun e => by cases e), (fun e => by rw [href] at e; cases e), ?_, fun j hj => ?_⟩
    · rw [arrV_size, AH.len_new, if_pos rfl]; exact ⟨Nat.le_refl _, rfl⟩
    · rw [AH.len_new, if_pos rfl] at hj
      have hj : j < n.toNatClampNeg := hj
      rw [arrV_read _ _ hj, fv_new h _ _ _ j hnf]
theorem s_anew {idx : Nat} {n : Int32} {Cn : String} (K : Nat) (hd : decode cc pc = .ok (.anewarray idx, 3)) (hK : aTy K = some (.object Cn)) (h40 : K < 40) (hw : Cond.classLink own idx Cn ∈ lw_all) (ho : ∀ s : State, Glob G s → (Cond.arrayOver (.object Cn)).before #[] s = true) (hn : 0 ≤ n.toInt) (hb : ix n * 4 ≤ 536870912)
    (k : Sim G own nm cc nL rt d cv (pc + 3) L (.ref h.n :: st) (h.new K (ix n) (ix n)) f) : Sim G own nm cc nL rt d cv pc L (.int n :: st) h f := by
  refine Sim.al (w := ix n) rfl rfl k (fun C hR hce hsl kw => ?_)
  have hn' : ¬ n < 0 := by rw [Int32.lt_iff_toInt_lt, Int32.toInt_zero]; omega
  refine W.anew C.hx C.hb C.ow (C.ts _ hw) (va_AO.use (ho _ C.gl)) rfl hd rfl hn' hb hce hsl fun cA kA comp f1 f2 f3 f4 => ?_
  have hz := hR.1
  rw [hz]
  refine kw _ (hR.mk h40 (by have := aTy_ge hK; omega) (by rw [Array.size_push, hz]) (fun q hq => by rw [Array.getElem?_push, if_neg (by omega)]) (fun i q' hi' hc' => ?_) (fun ty hty => ?_))
  · have h31 := aTy_ge hK
    have := cT_lt hc'
    omega
  · cases hK.symm.trans hty
    have hal := C.alike
    refine ⟨_, (by rw [← hz, Array.getElem?_push, if_pos rfl]), ?_, (fun e => by cases e), (fun _ => ?_), ?_, fun j hj => ?_⟩
    · exact State.isArrayOf_alike C.alike.symm ⟨(fun k e => by cases e), kA, f2, comp, f3⟩
    · first | (rw [← hal.findClass]; exact f1) | (rw [hal.findClass]; exact f1) | (rw [← hal.symm.findClass]; exact f1)
    · rw [AH.len_new, if_pos rfl]; simp [ix, nI]
    · rw [AH.len_new, if_pos rfl] at hj
      have hj : j < n.toNatClampNeg := hj
      rw [fv_new h _ _ _ j rfl]
      show (Array.replicate _ _)[j]? = _
      rw [Array.getElem?_replicate, if_pos hj]
      rfl
/-- a static that is known -/
theorem s_gets {idx : Nat} {Cn n dd : String} {v : Value} (hd : decode cc pc = .ok (.getstatic idx, 3)) (hw : Cond.fieldLink own idx Cn n dd ∈ lw_all) (hz : ∀ s : State, Glob G s → va_Z Cn n dd v (fun q => G.base ≤ q) s G.s0.heap) (k : Sim G own nm cc nL rt d cv (pc + 3) L (v :: st) h f) : Sim G own nm cc nL rt d cv pc L st h f :=
  Sim.rd k (fun C hR kw => by
    obtain ⟨cf, kf, fi, fd, a, cell, h1, h2, h3, h4, h5, h6, h7, h8⟩ := hz _ C.gl
    exact W.gets C.hx C.hb C.ow (C.ts _ hw) h1 h2 h3 h4 (by rw [hR.2.2.2.1 a (Nat.not_le.mp h8)]; exact h5) (fun e => by rw [e] at h6; cases h6) h7 rfl hd kw)
theorem Rep.recv {p : Program} {s : State} {m : MethodId} {args : Array Value} {meth : Method} {c : Code} (C : Cx G own nm cc nL rt p s m args meth c) {H : Heap} {a kk : Nat} {q : vw_C × (Nat → FieldType)} (hR : Rep G h H) (hk : h.kind a = kk + 1) (hc : cT[kk]? = some q) : ∃ cell : Cell, H[a]? = some cell ∧ cell.vm.isStatics = false ∧ s.vm.findClass q.1.1 = some cell.cls := by
  obtain ⟨cell, q1, q2, q3, q4⟩ := hR.2.2.2.2.2.1 a kk q hk hc
  exact ⟨cell, q1, by rw [q3]; rfl, by rw [q2]; exact (C.gl.2.1 kk q hc).2.1⟩
theorem s_cast {a idx : Nat} (kk : Nat) {q : vw_C × (Nat → FieldType)} (hd : decode cc pc = .ok (.checkcast idx, 3)) (hk : h.kind a = kk + 1) (hc : cT[kk]? = some q) (hw : Cond.classLink own idx q.1.1 ∈ lw_all) (k : Sim G own nm cc nL rt d cv (pc + 3) L (.ref a :: st) h f) : Sim G own nm cc nL rt d cv pc L (.ref a :: st) h f :=
  Sim.rd k (fun C hR kw => va_castS C.hx C.hb C.ow (C.ts _ hw) (C.gl.2.1 kk q hc).2 (hR.recv C hk hc) hd kw)
theorem s_castY {a idx : Nat} (kk : Nat) {q : vw_C × (Nat → FieldType)} {Tn : String} (hd : decode cc pc = .ok (.checkcast idx, 3)) (hk : h.kind a = kk + 1) (hc : cT[kk]? = some q) (hw : Cond.classLink own idx Tn ∈ lw_all) (hy : Cond.castable q.1.1 Tn ∈ lw_tbl) (k : Sim G own nm cc nL rt d cv (pc + 3) L (.ref a :: st) h f) : Sim G own nm cc nL rt d cv pc L (.ref a :: st) h f :=
  Sim.rd k (fun C hR kw => va_castY C.hx C.hb C.ow (C.ts _ hw) (C.gl.2.2.2.2.1 _ _ hy) (hR.recv C hk hc) hd kw)
end ARR
