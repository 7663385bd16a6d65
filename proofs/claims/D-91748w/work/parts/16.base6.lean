/-! TYPED CALLS; VOTERS -/
def cvI (r : Int32) : Outcome := .returned (some (.int r))
def cvL (r : Int64) : Outcome := .returned (some (.long r))
def cvR (r : Option Nat) : Outcome := .returned (some (va_rf r))
def cvV (_ : Unit) : Outcome := .returned none
theorem nb01 {v : Int32} (h : v = 0 ∨ v = 1) : narrow .boolean (.int v) = .int v := by rcases h with rfl | rfl <;> rfl
theorem fb01 {v : Int32} (h : v = 0 ∨ v = 1) : fits .boolean (.int v) = true := by rcases h with rfl | rfl <;> rfl
theorem nr01 (n : String) (r : Option Nat) : narrow (.object n) (va_rf r) = va_rf r := by cases r <;> rfl
theorem fr01 (n : String) (r : Option Nat) : fits (.object n) (va_rf r) = true := by cases r <;> rfl
theorem nr02 (t : FieldType) (r : Option Nat) : narrow (.array t) (va_rf r) = va_rf r := by cases r <;> rfl
theorem fr02 (t : FieldType) (r : Option Nat) : fits (.array t) (va_rf r) = true := by cases r <;> rfl
theorem ix_le {n : Int32} (h : 0 ≤ n.toInt ∧ n.toInt ≤ 60000000) : ix n ≤ 60000000 := by
  unfold ix Int32.toNatClampNeg
  omega
theorem nab31 {n : Int32} (h : 0 ≤ n.toInt ∧ n.toInt ≤ 60000000) : ix n * componentBytes (newarray.typeOf .byte) ≤ 536870912 := by
  have := ix_le h
  show ix n * 1 ≤ _
  omega
theorem nab32 {n : Int32} (h : 0 ≤ n.toInt ∧ n.toInt ≤ 60000000) : ix n * componentBytes (newarray.typeOf .int) ≤ 536870912 := by
  have := ix_le h
  show ix n * 4 ≤ _
  omega
theorem nab33 {n : Int32} (h : 0 ≤ n.toInt ∧ n.toInt ≤ 60000000) : ix n * componentBytes (newarray.typeOf .long) ≤ 536870912 := by
  have := ix_le h
  show ix n * 8 ≤ _
  omega
/-- by the kind of a voter -/
def dV {α : Type} (k : Nat) (f7 f8 f9 f10 : Option α) : Option α := if k = 7 then f7 else if k = 8 then f8 else if k = 9 then f9 else if k = 10 then f10 else none
theorem vk4 {k : Nat} (h : 7 ≤ k ∧ k ≤ 10) : k = 7 ∨ k = 8 ∨ k = 9 ∨ k = 10 := by omega
theorem TX7_6 : TX7 = TX6 := by
  funext k
  match k with
  | 0 => rfl
  | 1 => rfl
  | 2 => rfl
  | 3 => rfl
  | _ + 4 => rfl
theorem TX8_6 : TX8 = TX6 := by
  funext k
  match k with
  | 0 => rfl
  | 1 => rfl
  | 2 => rfl
  | 3 => rfl
  | _ + 4 => rfl
theorem TX9_6 : TX9 = TX6 := by
  funext k
  match k with
  | 0 => rfl
  | 1 => rfl
  | 2 => rfl
  | 3 => rfl
  | _ + 4 => rfl
theorem tyV {k : Nat} : tyX6 k = .int ∧ tyX7 k = .int ∧ tyX8 k = .int ∧ tyX9 k = .int := by
  match k with
  | 0 => exact ⟨rfl, rfl, rfl, rfl⟩
  | 1 => exact ⟨rfl, rfl, rfl, rfl⟩
  | 2 => exact ⟨rfl, rfl, rfl, rfl⟩
  | 3 => exact ⟨rfl, rfl, rfl, rfl⟩
  | _ + 4 => exact ⟨rfl, rfl, rfl, rfl⟩
theorem ownV {k : Nat} : (TX6 k).1 = "MiddleSheet$Voter" ∧ (TX6 k).2.2.1 = "I" := by
  match k with
  | 0 => exact ⟨rfl, rfl⟩
  | 1 => exact ⟨rfl, rfl⟩
  | 2 => exact ⟨rfl, rfl⟩
  | 3 => exact ⟨rfl, rfl⟩
  | _ + 4 => exact ⟨rfl, rfl⟩
/-- class number of a voter's kind -/
theorem voter_q {k : Nat} (h : 7 ≤ k ∧ k ≤ 10) : ∃ (kk : Nat) (q : vw_C × (Nat → FieldType)), k = kk + 1 ∧ cT[kk]? = some q ∧ q.1.2.1 = TX6 ∧ q.1.2.2 = 5 ∧ (∀ j, q.2 j = .int) ∧ (q.1.1 = RX6 ∨ q.1.1 = RX7 ∨ q.1.1 = RX8 ∨ q.1.1 = RX9) := by
  rcases vk4 h with rfl | rfl | rfl | rfl
  · exact ⟨6, _, rfl, rfl, rfl, rfl, fun j => tyV.1, Or.inl rfl⟩
  · exact ⟨7, _, rfl, rfl, TX7_6, rfl, fun j => tyV.2.1, Or.inr (Or.inl rfl)⟩
  · exact ⟨8, _, rfl, rfl, TX8_6, rfl, fun j => tyV.2.2.1, Or.inr (Or.inr (Or.inl rfl))⟩
  · exact ⟨9, _, rfl, rfl, TX9_6, rfl, fun j => tyV.2.2.2, Or.inr (Or.inr (Or.inr rfl))⟩
section TY
variable {G : Gl} {own nm : String} {cc : ByteArray} {nL : Nat} {rt : Option FieldType} {d : Nat} {α : Type} {cv : α → Outcome} {pc : Nat} {L : List (Nat × Value)} {st stk : List Value} {h : AH} {f : Option (α × AH)}
variable {as : List Value} {y : MethodName} {cc' : ByteArray} {nL' : Nat} {rt' : Option FieldType} {d' : Nat}
theorem s_hl {x : AH} {g : AH → Option (α × AH)} (k : ∀ h1, h1 = x → Sim G own nm cc nL rt d cv pc L st h1 (g h1)) : Sim G own nm cc nL rt d cv pc L st x (hl x g) := k x rfl
theorem s_getV {a j idx : Nat} (hd : decode cc pc = .ok (.getfield idx, 3)) (hk : 7 ≤ h.kind a ∧ h.kind a ≤ 10) (hj : j < 5) (hw : Cond.fieldLink own idx "MiddleSheet$Voter" (TX6 j).2.1 "I" ∈ lw_all)
    (k : Sim G own nm cc nL rt d cv (pc + 3) L (.int (h.I a j) :: st) h f) : Sim G own nm cc nL rt d cv pc L (.ref a :: st) h f := by
  obtain ⟨kk, q, e1, hc, e2, e3, e4, -⟩ := voter_q hk
  exact s_get (j := j) kk (.int (h.I a j)) hd e1 hc (by rw [e3]; exact hj) (by rw [e2, ownV.2]; exact hw) (Or.inl (by rw [e2]; exact ownV.1.symm)) (by rw [e4]; rfl) k
theorem s_putV {a j idx : Nat} {v : Int32} (hd : decode cc pc = .ok (.putfield idx, 3)) (hk : 7 ≤ h.kind a ∧ h.kind a ≤ 10) (hj : j < 5) (hw : Cond.fieldLink own idx "MiddleSheet$Voter" (TX6 j).2.1 "I" ∈ lw_all) (hfin : (TX6 j).2.2.2 = false)
    (k : Sim G own nm cc nL rt d cv (pc + 3) L st (h.setI a j v) f) : Sim G own nm cc nL rt d cv pc L (.int v :: .ref a :: st) h f := by
  obtain ⟨kk, q, e1, hc, e2, e3, e4, -⟩ := voter_q hk
  exact s_put (j := j) kk hd e1 hc (by rw [e3]; exact hj) (by rw [e2, ownV.2]; exact hw) (Or.inl (by rw [e2]; exact ownV.1.symm)) (by rw [e2]; exact hfin) (by rw [e4]; rfl) (by rw [e4]; rfl) (by rw [e4]; exact Upd.i (fun _ => rfl)) k
theorem s_putVF {a j idx : Nat} {v : Int32} (hd : decode cc pc = .ok (.putfield idx, 3)) (hk : 7 ≤ h.kind a ∧ h.kind a ≤ 10) (hj : j < 5) (hw : Cond.fieldLink own idx "MiddleSheet$Voter" (TX6 j).2.1 "I" ∈ lw_all) (hfin : (TX6 j).2.2.2 = true) (hini : nm = "<init>") (hown : "MiddleSheet$Voter" = own)
    (k : Sim G own nm cc nL rt d cv (pc + 3) L st (h.setI a j v) f) : Sim G own nm cc nL rt d cv pc L (.int v :: .ref a :: st) h f := by
  obtain ⟨kk, q, e1, hc, e2, e3, e4, -⟩ := voter_q hk
  exact s_putF (j := j) kk hd e1 hc (by rw [e3]; exact hj) (by rw [e2, ownV.2]; exact hw) (Or.inl (by rw [e2]; exact ownV.1.symm)) (by rw [e2]; exact hfin) hini (by rw [e2]; exact ownV.1.trans hown) (by rw [e4]; rfl) (by rw [e4]; rfl) (by rw [e4]; exact Upd.i (fun _ => rfl)) k
theorem s_castV {a idx : Nat} (hd : decode cc pc = .ok (.checkcast idx, 3)) (hk : 7 ≤ h.kind a ∧ h.kind a ≤ 10) (hw : Cond.classLink own idx "MiddleSheet$Voter" ∈ lw_all) (k : Sim G own nm cc nL rt d cv (pc + 3) L (.ref a :: st) h f) : Sim G own nm cc nL rt d cv pc L (.ref a :: st) h f := by
  rcases vk4 hk with e | e | e | e
  · exact s_castY 6 hd e rfl hw q1766 k
  · exact s_castY 7 hd e rfl hw q1769 k
  · exact s_castY 8 hd e rfl hw q1767 k
  · exact s_castY 9 hd e rfl hw q1768 k

theorem s_callS_I {fc : Option (Int32 × AH)} {g : Int32 → AH → Option (α × AH)} {idx n : Nat} (ok : OkM G y cc' nL' rt' d' cvI as h fc) (hd' : d' + 1 ≤ d) (hn' : nL' ≤ 80) (hd : decode cc pc = .ok (.invokestatic idx, 3)) (w1 : Cond.methodLink own idx y ∈ lw_all) (w2 : Cond.static y ∈ lw_all) (w3 : Cond.initialized y.cls ∈ lw_all) (w4 : Cond.code y cc' nL' rt' ∈ lw_all)
    (hy : y.cls ≠ "java/lang/invoke/MethodHandle" ∧ y.cls ≠ "java/lang/invoke/VarHandle" ∧ (parseMethodDescriptor y.desc).map (fun d => d.parameters.length) = some n) (hn : as.length = n) (hst : stk = as.reverse ++ st) (h8 : (st.map fun v => v.category).sum ≤ 8)
    (k : ∀ (r : Int32) h1, Sim G own nm cc nL rt d cv (pc + 3) L (.int r :: st) h1 (g r h1)) : Sim G own nm cc nL rt d cv pc L stk h (bnd fc g) :=
  s_callS (fun r => some (.int r)) (fun _ => rfl) ok hd' hn' hd w1 w2 w3 w4 hy hn hst h8 k
theorem s_callS_L {fc : Option (Int64 × AH)} {g : Int64 → AH → Option (α × AH)} {idx n : Nat} (ok : OkM G y cc' nL' rt' d' cvL as h fc) (hd' : d' + 1 ≤ d) (hn' : nL' ≤ 80) (hd : decode cc pc = .ok (.invokestatic idx, 3)) (w1 : Cond.methodLink own idx y ∈ lw_all) (w2 : Cond.static y ∈ lw_all) (w3 : Cond.initialized y.cls ∈ lw_all) (w4 : Cond.code y cc' nL' rt' ∈ lw_all)
    (hy : y.cls ≠ "java/lang/invoke/MethodHandle" ∧ y.cls ≠ "java/lang/invoke/VarHandle" ∧ (parseMethodDescriptor y.desc).map (fun d => d.parameters.length) = some n) (hn : as.length = n) (hst : stk = as.reverse ++ st) (h8 : (st.map fun v => v.category).sum ≤ 8)
    (k : ∀ (r : Int64) h1, Sim G own nm cc nL rt d cv (pc + 3) L (.long r :: st) h1 (g r h1)) : Sim G own nm cc nL rt d cv pc L stk h (bnd fc g) :=
  s_callS (fun r => some (.long r)) (fun _ => rfl) ok hd' hn' hd w1 w2 w3 w4 hy hn hst h8 k
theorem s_callS_R {fc : Option (Option Nat × AH)} {g : Option Nat → AH → Option (α × AH)} {idx n : Nat} (ok : OkM G y cc' nL' rt' d' cvR as h fc) (hd' : d' + 1 ≤ d) (hn' : nL' ≤ 80) (hd : decode cc pc = .ok (.invokestatic idx, 3)) (w1 : Cond.methodLink own idx y ∈ lw_all) (w2 : Cond.static y ∈ lw_all) (w3 : Cond.initialized y.cls ∈ lw_all) (w4 : Cond.code y cc' nL' rt' ∈ lw_all)
    (hy : y.cls ≠ "java/lang/invoke/MethodHandle" ∧ y.cls ≠ "java/lang/invoke/VarHandle" ∧ (parseMethodDescriptor y.desc).map (fun d => d.parameters.length) = some n) (hn : as.length = n) (hst : stk = as.reverse ++ st) (h8 : (st.map fun v => v.category).sum ≤ 8)
    (k : ∀ (r : Option Nat) h1, Sim G own nm cc nL rt d cv (pc + 3) L (va_rf r :: st) h1 (g r h1)) : Sim G own nm cc nL rt d cv pc L stk h (bnd fc g) :=
  s_callS (fun r => some (va_rf r)) (fun _ => rfl) ok hd' hn' hd w1 w2 w3 w4 hy hn hst h8 k
theorem s_callS_V {fc : Option (Unit × AH)} {g : Unit → AH → Option (α × AH)} {idx n : Nat} (ok : OkM G y cc' nL' rt' d' cvV as h fc) (hd' : d' + 1 ≤ d) (hn' : nL' ≤ 80) (hd : decode cc pc = .ok (.invokestatic idx, 3)) (w1 : Cond.methodLink own idx y ∈ lw_all) (w2 : Cond.static y ∈ lw_all) (w3 : Cond.initialized y.cls ∈ lw_all) (w4 : Cond.code y cc' nL' rt' ∈ lw_all)
    (hy : y.cls ≠ "java/lang/invoke/MethodHandle" ∧ y.cls ≠ "java/lang/invoke/VarHandle" ∧ (parseMethodDescriptor y.desc).map (fun d => d.parameters.length) = some n) (hn : as.length = n) (hst : stk = as.reverse ++ st) (h8 : (st.map fun v => v.category).sum ≤ 8)
    (k : ∀ (r : Unit) h1, Sim G own nm cc nL rt d cv (pc + 3) L (st) h1 (g r h1)) : Sim G own nm cc nL rt d cv pc L stk h (bnd fc g) :=
  s_callS (fun _ => none) (fun _ => rfl) ok hd' hn' hd w1 w2 w3 w4 hy hn hst h8 k
theorem s_callSN_I {fc : Option (Int32 × AH)} {g : Int32 → AH → Option (α × AH)} {idx n : Nat} {host : String} (ok : OkM G y cc' nL' rt' d' cvI as h fc) (hd' : d' + 1 ≤ d) (hn' : nL' ≤ 80) (hd : decode cc pc = .ok (.invokestatic idx, 3)) (w1 : Cond.methodLinkNest own idx y host ∈ lw_tbl) (w2 : Cond.static y ∈ lw_all) (w3 : Cond.initialized y.cls ∈ lw_all) (w4 : Cond.code y cc' nL' rt' ∈ lw_all)
    (hy : y.cls ≠ "java/lang/invoke/MethodHandle" ∧ y.cls ≠ "java/lang/invoke/VarHandle" ∧ (parseMethodDescriptor y.desc).map (fun d => d.parameters.length) = some n) (hn : as.length = n) (hst : stk = as.reverse ++ st) (h8 : (st.map fun v => v.category).sum ≤ 8)
    (k : ∀ (r : Int32) h1, Sim G own nm cc nL rt d cv (pc + 3) L (.int r :: st) h1 (g r h1)) : Sim G own nm cc nL rt d cv pc L stk h (bnd fc g) :=
  s_callSN (fun r => some (.int r)) (fun _ => rfl) ok hd' hn' hd w1 w2 w3 w4 hy hn hst h8 k
theorem s_callSN_L {fc : Option (Int64 × AH)} {g : Int64 → AH → Option (α × AH)} {idx n : Nat} {host : String} (ok : OkM G y cc' nL' rt' d' cvL as h fc) (hd' : d' + 1 ≤ d) (hn' : nL' ≤ 80) (hd : decode cc pc = .ok (.invokestatic idx, 3)) (w1 : Cond.methodLinkNest own idx y host ∈ lw_tbl) (w2 : Cond.static y ∈ lw_all) (w3 : Cond.initialized y.cls ∈ lw_all) (w4 : Cond.code y cc' nL' rt' ∈ lw_all)
    (hy : y.cls ≠ "java/lang/invoke/MethodHandle" ∧ y.cls ≠ "java/lang/invoke/VarHandle" ∧ (parseMethodDescriptor y.desc).map (fun d => d.parameters.length) = some n) (hn : as.length = n) (hst : stk = as.reverse ++ st) (h8 : (st.map fun v => v.category).sum ≤ 8)
    (k : ∀ (r : Int64) h1, Sim G own nm cc nL rt d cv (pc + 3) L (.long r :: st) h1 (g r h1)) : Sim G own nm cc nL rt d cv pc L stk h (bnd fc g) :=
  s_callSN (fun r => some (.long r)) (fun _ => rfl) ok hd' hn' hd w1 w2 w3 w4 hy hn hst h8 k
theorem s_callSN_R {fc : Option (Option Nat × AH)} {g : Option Nat → AH → Option (α × AH)} {idx n : Nat} {host : String} (ok : OkM G y cc' nL' rt' d' cvR as h fc) (hd' : d' + 1 ≤ d) (hn' : nL' ≤ 80) (hd : decode cc pc = .ok (.invokestatic idx, 3)) (w1 : Cond.methodLinkNest own idx y host ∈ lw_tbl) (w2 : Cond.static y ∈ lw_all) (w3 : Cond.initialized y.cls ∈ lw_all) (w4 : Cond.code y cc' nL' rt' ∈ lw_all)
    (hy : y.cls ≠ "java/lang/invoke/MethodHandle" ∧ y.cls ≠ "java/lang/invoke/VarHandle" ∧ (parseMethodDescriptor y.desc).map (fun d => d.parameters.length) = some n) (hn : as.length = n) (hst : stk = as.reverse ++ st) (h8 : (st.map fun v => v.category).sum ≤ 8)
    (k : ∀ (r : Option Nat) h1, Sim G own nm cc nL rt d cv (pc + 3) L (va_rf r :: st) h1 (g r h1)) : Sim G own nm cc nL rt d cv pc L stk h (bnd fc g) :=
  s_callSN (fun r => some (va_rf r)) (fun _ => rfl) ok hd' hn' hd w1 w2 w3 w4 hy hn hst h8 k
theorem s_callSN_V {fc : Option (Unit × AH)} {g : Unit → AH → Option (α × AH)} {idx n : Nat} {host : String} (ok : OkM G y cc' nL' rt' d' cvV as h fc) (hd' : d' + 1 ≤ d) (hn' : nL' ≤ 80) (hd : decode cc pc = .ok (.invokestatic idx, 3)) (w1 : Cond.methodLinkNest own idx y host ∈ lw_tbl) (w2 : Cond.static y ∈ lw_all) (w3 : Cond.initialized y.cls ∈ lw_all) (w4 : Cond.code y cc' nL' rt' ∈ lw_all)
    (hy : y.cls ≠ "java/lang/invoke/MethodHandle" ∧ y.cls ≠ "java/lang/invoke/VarHandle" ∧ (parseMethodDescriptor y.desc).map (fun d => d.parameters.length) = some n) (hn : as.length = n) (hst : stk = as.reverse ++ st) (h8 : (st.map fun v => v.category).sum ≤ 8)
    (k : ∀ (r : Unit) h1, Sim G own nm cc nL rt d cv (pc + 3) L (st) h1 (g r h1)) : Sim G own nm cc nL rt d cv pc L stk h (bnd fc g) :=
  s_callSN (fun _ => none) (fun _ => rfl) ok hd' hn' hd w1 w2 w3 w4 hy hn hst h8 k
theorem s_callI_V {fc : Option (Unit × AH)} {g : Unit → AH → Option (α × AH)} {idx n a : Nat} {As : List Value} (ok : OkM G y cc' nL' none d' cvV (.ref a :: As) h fc) (hd' : d' + 1 ≤ d) (hn' : nL' ≤ 80) (hd : decode cc pc = .ok (.invokespecial idx, 3)) (w1 : Cond.methodLink own idx y ∈ lw_all) (w2 : Cond.instanceMethod y ∈ lw_all) (w3 : Cond.initialized y.cls ∈ lw_all) (w4 : Cond.code y cc' nL' none ∈ lw_all) (hy1 : y.name = "<init>")
    (hy : y.cls ≠ "java/lang/invoke/MethodHandle" ∧ y.cls ≠ "java/lang/invoke/VarHandle" ∧ (parseMethodDescriptor y.desc).map (fun d => d.parameters.length) = some n) (hn : As.length = n) (hst : stk = As.reverse ++ .ref a :: st) (h8 : (st.map fun v => v.category).sum ≤ 8)
    (k : ∀ (r : Unit) h1, Sim G own nm cc nL rt d cv (pc + 3) L (st) h1 (g r h1)) : Sim G own nm cc nL rt d cv pc L stk h (bnd fc g) :=
  s_callI (fun _ => none) (fun _ => rfl) ok hd' hn' hd w1 w2 w3 w4 hy1 hy hn hst h8 k
theorem s_callIN_V {fc : Option (Unit × AH)} {g : Unit → AH → Option (α × AH)} {idx n a : Nat} {As : List Value} {host : String} (ok : OkM G y cc' nL' none d' cvV (.ref a :: As) h fc) (hd' : d' + 1 ≤ d) (hn' : nL' ≤ 80) (hd : decode cc pc = .ok (.invokespecial idx, 3)) (w1 : Cond.methodLinkNest own idx y host ∈ lw_tbl) (w2 : Cond.instanceMethod y ∈ lw_all) (w3 : Cond.initialized y.cls ∈ lw_all) (w4 : Cond.code y cc' nL' none ∈ lw_all) (hy1 : y.name = "<init>")
    (hy : y.cls ≠ "java/lang/invoke/MethodHandle" ∧ y.cls ≠ "java/lang/invoke/VarHandle" ∧ (parseMethodDescriptor y.desc).map (fun d => d.parameters.length) = some n) (hn : As.length = n) (hst : stk = As.reverse ++ .ref a :: st) (h8 : (st.map fun v => v.category).sum ≤ 8)
    (k : ∀ (r : Unit) h1, Sim G own nm cc nL rt d cv (pc + 3) L (st) h1 (g r h1)) : Sim G own nm cc nL rt d cv pc L stk h (bnd fc g) :=
  s_callIN (fun _ => none) (fun _ => rfl) ok hd' hn' hd w1 w2 w3 w4 hy1 hy hn hst h8 k
theorem s_callV_I {fc : Option (Int32 × AH)} {g : Int32 → AH → Option (α × AH)} {idx n a : Nat} {As : List Value} (kk : Nat) {q : vw_C × (Nat → FieldType)} (ok : OkM G y cc' nL' rt' d' cvI (.ref a :: As) h fc) (hd' : d' + 1 ≤ d) (hn' : nL' ≤ 80) (hd : decode cc pc = .ok (.invokevirtual idx, 3)) (hk : h.kind a = kk + 1) (hc : cT[kk]? = some q) (hyc : y.cls = q.1.1) (w1 : Cond.methodLink own idx y ∈ lw_all) (w2 : Cond.instanceMethod y ∈ lw_all) (w2' : Cond.selects q.1.1 y y ∈ lw_all) (w3 : Cond.initialized q.1.1 ∈ lw_all) (w4 : Cond.code y cc' nL' rt' ∈ lw_all)
    (hy : y.cls ≠ "java/lang/invoke/MethodHandle" ∧ y.cls ≠ "java/lang/invoke/VarHandle" ∧ (parseMethodDescriptor y.desc).map (fun d => d.parameters.length) = some n) (hn : As.length = n) (hst : stk = As.reverse ++ .ref a :: st) (h8 : (st.map fun v => v.category).sum ≤ 8)
    (k : ∀ (r : Int32) h1, Sim G own nm cc nL rt d cv (pc + 3) L (.int r :: st) h1 (g r h1)) : Sim G own nm cc nL rt d cv pc L stk h (bnd fc g) :=
  s_callV kk (fun r => some (.int r)) (fun _ => rfl) ok hd' hn' hd hk hc hyc w1 w2 w2' w3 w4 hy hn hst h8 k
theorem s_callV_L {fc : Option (Int64 × AH)} {g : Int64 → AH → Option (α × AH)} {idx n a : Nat} {As : List Value} (kk : Nat) {q : vw_C × (Nat → FieldType)} (ok : OkM G y cc' nL' rt' d' cvL (.ref a :: As) h fc) (hd' : d' + 1 ≤ d) (hn' : nL' ≤ 80) (hd : decode cc pc = .ok (.invokevirtual idx, 3)) (hk : h.kind a = kk + 1) (hc : cT[kk]? = some q) (hyc : y.cls = q.1.1) (w1 : Cond.methodLink own idx y ∈ lw_all) (w2 : Cond.instanceMethod y ∈ lw_all) (w2' : Cond.selects q.1.1 y y ∈ lw_all) (w3 : Cond.initialized q.1.1 ∈ lw_all) (w4 : Cond.code y cc' nL' rt' ∈ lw_all)
    (hy : y.cls ≠ "java/lang/invoke/MethodHandle" ∧ y.cls ≠ "java/lang/invoke/VarHandle" ∧ (parseMethodDescriptor y.desc).map (fun d => d.parameters.length) = some n) (hn : As.length = n) (hst : stk = As.reverse ++ .ref a :: st) (h8 : (st.map fun v => v.category).sum ≤ 8)
    (k : ∀ (r : Int64) h1, Sim G own nm cc nL rt d cv (pc + 3) L (.long r :: st) h1 (g r h1)) : Sim G own nm cc nL rt d cv pc L stk h (bnd fc g) :=
  s_callV kk (fun r => some (.long r)) (fun _ => rfl) ok hd' hn' hd hk hc hyc w1 w2 w2' w3 w4 hy hn hst h8 k
theorem s_callV_R {fc : Option (Option Nat × AH)} {g : Option Nat → AH → Option (α × AH)} {idx n a : Nat} {As : List Value} (kk : Nat) {q : vw_C × (Nat → FieldType)} (ok : OkM G y cc' nL' rt' d' cvR (.ref a :: As) h fc) (hd' : d' + 1 ≤ d) (hn' : nL' ≤ 80) (hd : decode cc pc = .ok (.invokevirtual idx, 3)) (hk : h.kind a = kk + 1) (hc : cT[kk]? = some q) (hyc : y.cls = q.1.1) (w1 : Cond.methodLink own idx y ∈ lw_all) (w2 : Cond.instanceMethod y ∈ lw_all) (w2' : Cond.selects q.1.1 y y ∈ lw_all) (w3 : Cond.initialized q.1.1 ∈ lw_all) (w4 : Cond.code y cc' nL' rt' ∈ lw_all)
    (hy : y.cls ≠ "java/lang/invoke/MethodHandle" ∧ y.cls ≠ "java/lang/invoke/VarHandle" ∧ (parseMethodDescriptor y.desc).map (fun d => d.parameters.length) = some n) (hn : As.length = n) (hst : stk = As.reverse ++ .ref a :: st) (h8 : (st.map fun v => v.category).sum ≤ 8)
    (k : ∀ (r : Option Nat) h1, Sim G own nm cc nL rt d cv (pc + 3) L (va_rf r :: st) h1 (g r h1)) : Sim G own nm cc nL rt d cv pc L stk h (bnd fc g) :=
  s_callV kk (fun r => some (va_rf r)) (fun _ => rfl) ok hd' hn' hd hk hc hyc w1 w2 w2' w3 w4 hy hn hst h8 k
theorem s_callV_V {fc : Option (Unit × AH)} {g : Unit → AH → Option (α × AH)} {idx n a : Nat} {As : List Value} (kk : Nat) {q : vw_C × (Nat → FieldType)} (ok : OkM G y cc' nL' rt' d' cvV (.ref a :: As) h fc) (hd' : d' + 1 ≤ d) (hn' : nL' ≤ 80) (hd : decode cc pc = .ok (.invokevirtual idx, 3)) (hk : h.kind a = kk + 1) (hc : cT[kk]? = some q) (hyc : y.cls = q.1.1) (w1 : Cond.methodLink own idx y ∈ lw_all) (w2 : Cond.instanceMethod y ∈ lw_all) (w2' : Cond.selects q.1.1 y y ∈ lw_all) (w3 : Cond.initialized q.1.1 ∈ lw_all) (w4 : Cond.code y cc' nL' rt' ∈ lw_all)
    (hy : y.cls ≠ "java/lang/invoke/MethodHandle" ∧ y.cls ≠ "java/lang/invoke/VarHandle" ∧ (parseMethodDescriptor y.desc).map (fun d => d.parameters.length) = some n) (hn : As.length = n) (hst : stk = As.reverse ++ .ref a :: st) (h8 : (st.map fun v => v.category).sum ≤ 8)
    (k : ∀ (r : Unit) h1, Sim G own nm cc nL rt d cv (pc + 3) L (st) h1 (g r h1)) : Sim G own nm cc nL rt d cv pc L stk h (bnd fc g) :=
  s_callV kk (fun _ => none) (fun _ => rfl) ok hd' hn' hd hk hc hyc w1 w2 w2' w3 w4 hy hn hst h8 k
theorem s_callUV {fc : Option (Int32 × AH)} {g : Int32 → AH → Option (α × AH)} {idx n a : Nat} {As : List Value} (ok : OkM G y cc' nL' rt' d' cvI (.ref a :: As) h fc) (hd' : d' + 1 ≤ d) (hn' : nL' ≤ 80) (hd : decode cc pc = .ok (.invokevirtual idx, 3)) (hk : 7 ≤ h.kind a ∧ h.kind a ≤ 10) (w1 : Cond.methodLink own idx y ∈ lw_all) (wS : Cond.sameMethod "MiddleSheet$Voter" "MiddleSheet$Voter" y.name y.desc ∈ lw_all) (v7 : Cond.selects RX6 y y ∈ lw_all) (v8 : Cond.selects RX7 y y ∈ lw_all) (v9 : Cond.selects RX8 y y ∈ lw_all) (v10 : Cond.selects RX9 y y ∈ lw_all) (w2' : Cond.instanceMethod y ∈ lw_all) (w3 : Cond.initialized y.cls ∈ lw_all) (w4 : Cond.code y cc' nL' rt' ∈ lw_all)
    (hy : y.cls = "MiddleSheet$Voter" ∧ (parseMethodDescriptor y.desc).map (fun d => d.parameters.length) = some n) (hn : As.length = n) (hst : stk = As.reverse ++ .ref a :: st) (h8 : (st.map fun v => v.category).sum ≤ 8)
    (k : ∀ (r : Int32) h1, Sim G own nm cc nL rt d cv (pc + 3) L (.int r :: st) h1 (g r h1)) : Sim G own nm cc nL rt d cv pc L stk h (bnd fc g) := by
  have hz : y = ⟨"MiddleSheet$Voter", y.name, y.desc⟩ := by rw [← hy.1]
  have wS2 : Cond.sameMethod y.cls "MiddleSheet$Voter" y.name y.desc ∈ lw_all := by rw [hy.1]; exact wS
  have hy2 : "MiddleSheet$Voter" ≠ "java/lang/invoke/MethodHandle" ∧ "MiddleSheet$Voter" ≠ "java/lang/invoke/VarHandle" ∧ (parseMethodDescriptor y.desc).map (fun d => d.parameters.length) = some n := ⟨by decide, by decide, hy.2⟩
  rcases vk4 hk with e | e | e | e
  · exact s_callU (x := y) (owner := "MiddleSheet$Voter") 6 (fun r => some (.int r)) (fun _ => rfl) ok hd' hn' hd e rfl w1 wS2 v7 w2' w3 w4 (Or.inl hz) hy2 hn hst h8 k
  · exact s_callU (x := y) (owner := "MiddleSheet$Voter") 7 (fun r => some (.int r)) (fun _ => rfl) ok hd' hn' hd e rfl w1 wS2 v8 w2' w3 w4 (Or.inl hz) hy2 hn hst h8 k
  · exact s_callU (x := y) (owner := "MiddleSheet$Voter") 8 (fun r => some (.int r)) (fun _ => rfl) ok hd' hn' hd e rfl w1 wS2 v9 w2' w3 w4 (Or.inl hz) hy2 hn hst h8 k
  · exact s_callU (x := y) (owner := "MiddleSheet$Voter") 9 (fun r => some (.int r)) (fun _ => rfl) ok hd' hn' hd e rfl w1 wS2 v10 w2' w3 w4 (Or.inl hz) hy2 hn hst h8 k
theorem s_callA {f7 f8 f9 f10 : Option (Int32 × AH)} {g : Int32 → AH → Option (α × AH)} {idx n a : Nat} {As : List Value} {x y7 y8 y9 y10 : MethodName} {c7 c8 c9 c10 : ByteArray} {n7 n8 n9 n10 d7 d8 d9 d10 : Nat} {r7 r8 r9 r10 : Option FieldType}
    (k7 : OkM G y7 c7 n7 r7 d7 cvI (.ref a :: As) h f7) (k8 : OkM G y8 c8 n8 r8 d8 cvI (.ref a :: As) h f8) (k9 : OkM G y9 c9 n9 r9 d9 cvI (.ref a :: As) h f9) (k10 : OkM G y10 c10 n10 r10 d10 cvI (.ref a :: As) h f10) (hd7 : d7 + 1 ≤ d ∧ n7 ≤ 80) (hd8 : d8 + 1 ≤ d ∧ n8 ≤ 80) (hd9 : d9 + 1 ≤ d ∧ n9 ≤ 80) (hd10 : d10 + 1 ≤ d ∧ n10 ≤ 80)
    (hd : decode cc pc = .ok (.invokevirtual idx, 3)) (hk : 7 ≤ h.kind a ∧ h.kind a ≤ 10) (w1 : Cond.methodLink own idx x ∈ lw_all) (wS : Cond.sameMethod "MiddleSheet$Voter" "MiddleSheet$Voter" x.name x.desc ∈ lw_all) (v7 : Cond.selects RX6 x y7 ∈ lw_all) (v8 : Cond.selects RX7 x y8 ∈ lw_all) (v9 : Cond.selects RX8 x y9 ∈ lw_all) (v10 : Cond.selects RX9 x y10 ∈ lw_all)
    (i7 : Cond.instanceMethod y7 ∈ lw_all) (i8 : Cond.instanceMethod y8 ∈ lw_all) (i9 : Cond.instanceMethod y9 ∈ lw_all) (i10 : Cond.instanceMethod y10 ∈ lw_all) (z7 : Cond.initialized y7.cls ∈ lw_all) (z8 : Cond.initialized y8.cls ∈ lw_all) (z9 : Cond.initialized y9.cls ∈ lw_all) (z10 : Cond.initialized y10.cls ∈ lw_all)
    (o7 : Cond.code y7 c7 n7 r7 ∈ lw_all) (o8 : Cond.code y8 c8 n8 r8 ∈ lw_all) (o9 : Cond.code y9 c9 n9 r9 ∈ lw_all) (o10 : Cond.code y10 c10 n10 r10 ∈ lw_all) (hz : Cond.declares x ∈ lw_tbl)
    (hy : x.cls = "MiddleSheet$Voter" ∧ (parseMethodDescriptor x.desc).map (fun d => d.parameters.length) = some n) (hn : As.length = n) (hst : stk = As.reverse ++ .ref a :: st) (h8' : (st.map fun v => v.category).sum ≤ 8)
    (k : ∀ (r : Int32) h1, Sim G own nm cc nL rt d cv (pc + 3) L (.int r :: st) h1 (g r h1)) : Sim G own nm cc nL rt d cv pc L stk h (bnd (dV (h.kind a) f7 f8 f9 f10) g) := by
  have hz2 : Cond.declares ⟨"MiddleSheet$Voter", x.name, x.desc⟩ ∈ lw_tbl := by rw [← hy.1]; exact hz
  have wS2 : Cond.sameMethod x.cls "MiddleSheet$Voter" x.name x.desc ∈ lw_all := by rw [hy.1]; exact wS
  have hy2 : "MiddleSheet$Voter" ≠ "java/lang/invoke/MethodHandle" ∧ "MiddleSheet$Voter" ≠ "java/lang/invoke/VarHandle" ∧ (parseMethodDescriptor x.desc).map (fun d => d.parameters.length) = some n := ⟨by decide, by decide, hy.2⟩
  rcases vk4 hk with e | e | e | e
  · rw [show dV (h.kind a) f7 f8 f9 f10 = f7 by rw [e]; rfl]
    exact s_callU (x := x) (owner := "MiddleSheet$Voter") 6 (fun r => some (.int r)) (fun _ => rfl) k7 hd7.1 hd7.2 hd e rfl w1 wS2 v7 i7 z7 o7 (Or.inr hz2) hy2 hn hst h8' k
  · rw [show dV (h.kind a) f7 f8 f9 f10 = f8 by rw [e]; rfl]
    exact s_callU (x := x) (owner := "MiddleSheet$Voter") 7 (fun r => some (.int r)) (fun _ => rfl) k8 hd8.1 hd8.2 hd e rfl w1 wS2 v8 i8 z8 o8 (Or.inr hz2) hy2 hn hst h8' k
  · rw [show dV (h.kind a) f7 f8 f9 f10 = f9 by rw [e]; rfl]
    exact s_callU (x := x) (owner := "MiddleSheet$Voter") 8 (fun r => some (.int r)) (fun _ => rfl) k9 hd9.1 hd9.2 hd e rfl w1 wS2 v9 i9 z9 o9 (Or.inr hz2) hy2 hn hst h8' k
  · rw [show dV (h.kind a) f7 f8 f9 f10 = f10 by rw [e]; rfl]
    exact s_callU (x := x) (owner := "MiddleSheet$Voter") 9 (fun r => some (.int r)) (fun _ => rfl) k10 hd10.1 hd10.2 hd e rfl w1 wS2 v10 i10 z10 o10 (Or.inr hz2) hy2 hn hst h8' k
end TY
