/-! THE CLASSES BY NUMBER; WHAT HOLDS ALL THROUGH A RUN; REPRESENTATION OF A HEAP -/
abbrev cT : List (vw_C × (Nat → FieldType)) := [((RX0, TX0, 29), tyX0), ((RX1, TX1, 11), tyX1), ((RJ2, TJ2, 3), tyJ2), ((RX2, TX2, 3), tyX2), ((RX3, TX3, 49), tyX3), ((RX4, TX4, 7), tyX4), ((RX6, TX6, 5), tyX6), ((RX7, TX7, 5), tyX7), ((RX8, TX8, 5), tyX8), ((RX9, TX9, 5), tyX9), ((RX10, TX10, 2), tyX10), ((RX11, TX11, 3), tyX11), ((RX12, TX12, 3), tyX12), ((RX13, TX13, 9), tyX13)]
def ctOk (q : vw_C × (Nat → FieldType)) : Prop := (∀ w ∈ u_ws q.1.1 q.1.2.1 q.1.2.2, w ∈ lw_all) ∧ (∀ a, a < q.1.2.2 → ∀ b, b < q.1.2.2 → a ≠ b → (q.1.2.1 a).2.1 ≠ (q.1.2.1 b).2.1) ∧ ∀ k, k < q.1.2.2 → parseFieldDescriptor (q.1.2.1 k).2.2.1 = some (q.2 k)
theorem cT_ok : ∀ q ∈ cT, ctOk q := by
  refine List.forall_mem_cons.mpr ⟨⟨in_X0, nmX0, tyX0_ok⟩, List.forall_mem_cons.mpr ⟨⟨in_X1, nmX1, tyX1_ok⟩, List.forall_mem_cons.mpr ⟨⟨in_J2, nmJ2, tyJ2_ok⟩, List.forall_mem_cons.mpr ⟨⟨in_X2, nmX2, tyX2_ok⟩, List.forall_mem_cons.mpr ⟨⟨in_X3, nmX3, tyX3_ok⟩, List.forall_mem_cons.mpr ⟨⟨in_X4, nmX4, tyX4_ok⟩, List.forall_mem_cons.mpr ⟨⟨in_X6, nmX6, tyX6_ok⟩, List.forall_mem_cons.mpr ⟨⟨in_X7, nmX7, tyX7_ok⟩, List.forall_mem_cons.mpr ⟨⟨in_X8, nmX8, tyX8_ok⟩, List.forall_mem_cons.mpr ⟨⟨in_X9, nmX9, tyX9_ok⟩, List.forall_mem_cons.mpr ⟨⟨in_X10, nmX10, tyX10_ok⟩, List.forall_mem_cons.mpr ⟨⟨in_X11, nmX11, tyX11_ok⟩, List.forall_mem_cons.mpr ⟨⟨in_X12, nmX12, tyX12_ok⟩, List.forall_mem_cons.mpr ⟨⟨in_X13, nmX13, tyX13_ok⟩, fun _ h => absurd h List.not_mem_nil⟩⟩⟩⟩⟩⟩⟩⟩⟩⟩⟩⟩⟩⟩
/-- launch; class numbers; field places; the start; addresses of constants -/
abbrev Gl : Type := Launch × (Nat → ClassId) × (Nat → Nat → Nat) × State × (Nat → Nat)
abbrev Gl.l (G : Gl) : Launch := G.1
abbrev Gl.dC (G : Gl) : Nat → ClassId := G.2.1
abbrev Gl.dI (G : Gl) : Nat → Nat → Nat := G.2.2.1
abbrev Gl.s0 (G : Gl) : State := G.2.2.2.1
abbrev Gl.ad (G : Gl) : Nat → Nat := G.2.2.2.2
abbrev Gl.base (G : Gl) : Nat := G.2.2.2.1.heap.size
def fv (h : AH) (a j : Nat) (ty : FieldType) : Value := match ty with
  | .long => .long (h.L a j)
  | .object _ => va_rf (h.R a j)
  | .array _ => va_rf (h.R a j)
  | _ => .int (h.I a j)
def aTy (k : Nat) : Option FieldType := match k with
  | 31 => some .byte
  | 32 => some .int
  | 33 => some .long
  | 34 => some (.object "java/lang/Object")
  | 35 => some (.array .int)
  | 36 => some (.array .long)
  | 37 => some (.object "java/lang/String")
  | 41 => some .byte
  | 42 => some .int
  | 44 => some (.object "java/lang/Object")
  | _ => none
def aCell (G : Gl) (h : AH) (a : Nat) (ty : FieldType) (cell : Cell) : Prop :=
  G.s0.isArrayOf cell ty ∧ cell.vm ≠ .unknown ∧ (ty.isReference = true → G.s0.vm.findClass ("[" ++ ty.toString) = some cell.cls) ∧ (h.len a ≤ cell.slots.size ∧ cell.slots.size.toInt32 = nI (h.len a)) ∧ ∀ j, j < h.len a → cell.slots[j]? = some (fv h a j ty)
/-- a reference or null, as a number -/
def ko (x : Nat) : Option Nat := match x with
  | 0 => none
  | y + 1 => some y
/-- the String constants: owner, place in its pool, text -/
def strTab : List (String × Nat × String) := [("MiddleSheet$Reader", 108, "near stretch voter place win "), ("MiddleSheet$Reader", 116, "crow street side line "), ("MiddleSheet$Reader", 142, "by "), ("MiddleSheet$Reader", 148, "more over least "), ("MiddleSheetModel", 57, "crow"), ("MiddleSheetModel", 59, "street"), ("MiddleSheetModel", 61, "side"), ("MiddleSheetModel", 63, "line"), ("MiddleSheetModel", 201, "near"), ("MiddleSheetModel", 206, "stretch"), ("MiddleSheetModel", 210, "voter"), ("MiddleSheetModel", 180, "by"), ("MiddleSheetModel", 215, "place"), ("MiddleSheetModel", 220, "win"), ("MiddleSheetModel", 186, "more"), ("MiddleSheetModel", 188, "over"), ("MiddleSheetModel", 190, "least")]
def strLen : List Nat := [29, 22, 3, 16, 4, 6, 4, 4, 4, 7, 5, 2, 5, 3, 4, 4, 5]
def strByt : List (List Int32) := [[110, 101, 97, 114, 32, 115, 116, 114, 101, 116, 99, 104, 32, 118, 111, 116, 101, 114, 32, 112, 108, 97, 99, 101, 32, 119, 105, 110, 32], [99, 114, 111, 119, 32, 115, 116, 114, 101, 101, 116, 32, 115, 105, 100, 101, 32, 108, 105, 110, 101, 32], [98, 121, 32], [109, 111, 114, 101, 32, 111, 118, 101, 114, 32, 108, 101, 97, 115, 116, 32], [99, 114, 111, 119], [115, 116, 114, 101, 101, 116], [115, 105, 100, 101], [108, 105, 110, 101], [110, 101, 97, 114], [115, 116, 114, 101, 116, 99, 104], [118, 111, 116, 101, 114], [98, 121], [112, 108, 97, 99, 101], [119, 105, 110], [109, 111, 114, 101], [111, 118, 101, 114], [108, 101, 97, 115, 116]]
def sZ (G : Gl) (U : State) : Prop :=
  va_Z "java/util/ArrayList" "DEFAULTCAPACITY_EMPTY_ELEMENTDATA" "[Ljava/lang/Object;" (.ref (G.ad 0)) (fun q => G.base ≤ q) U G.s0.heap ∧
  va_Z "java/lang/String" "COMPACT_STRINGS" "Z" (.int 1) (fun q => G.base ≤ q) U G.s0.heap ∧
  va_Z "jdk/internal/util/Preconditions" "SIOOBE_FORMATTER" "Ljava/util/function/BiFunction;" (va_rf (ko (G.ad 200))) (fun q => G.base ≤ q) U G.s0.heap ∧
  va_Z "java/lang/Throwable" "UNASSIGNED_STACK" "[Ljava/lang/StackTraceElement;" (va_rf (ko (G.ad 201))) (fun q => G.base ≤ q) U G.s0.heap ∧
  va_Z "java/lang/Throwable" "SUPPRESSED_SENTINEL" "Ljava/util/List;" (va_rf (ko (G.ad 202))) (fun q => G.base ≤ q) U G.s0.heap
def Glob (G : Gl) (U : State) : Prop :=
  G.s0.WarmedH U.vm ∧ (∀ (k : Nat) (q : vw_C × (Nat → FieldType)), cT[k]? = some q → u_Kn U q.1.1 q.1.2.1 q.1.2.2 (G.dC k) (G.dI k)) ∧
  (∀ a i b n d hh, Cond.fieldLinkNest a i b n d hh ∈ lw_tbl → va_Nw (.fieldLinkNest a i b n d hh) U) ∧
  (∀ a i x hh, Cond.methodLinkNest a i x hh ∈ lw_tbl → va_Nw (.methodLinkNest a i x hh) U) ∧
  (∀ C T, Cond.castable C T ∈ lw_tbl → va_Nw (.castable C T) U) ∧
  (∀ x, Cond.declares x ∈ lw_tbl → va_Nw (.declares x) U) ∧
  sZ G U ∧ (∀ C, Cond.arrayOver (.object C) ∈ lw_tbl → va_AO C U) ∧ (∀ t, Cond.arrayOver (.array t) ∈ lw_tbl → (Cond.arrayOver (.array t)).before #[] U = true) ∧
  (∀ (i : Nat) (q : String × Nat × String), strTab[i]? = some q → vk_R q.1 q.2.1 q.2.2 (G.ad (i + 1)) U) ∧
  vk_S 17 strLen strByt (fun i => G.ad (i + 1)) (fun i => G.ad (i + 101)) (fun q => G.base ≤ q) U G.s0.heap ∧ va_Mi "[Ljava/lang/Object;" (G.ad 203) U
def Rep (G : Gl) (h : AH) (H : Heap) : Prop :=
  H.size = h.n ∧ (∀ a, h.kind a ≠ 0 → a < h.n) ∧ (∀ a, h.kind a ≠ 0 → h.kind a < 40 → h.kind a ≠ 20 → G.base ≤ a) ∧ (∀ a, a < G.base → H[a]? = G.s0.heap[a]?) ∧ G.base ≤ h.n ∧
  (∀ (a k : Nat) (q : vw_C × (Nat → FieldType)), h.kind a = k + 1 → cT[k]? = some q → t_OB a (G.dC k) q.1.2.2 (G.dI k) H (fun j => fv h a j (q.2 j))) ∧
  (∀ (a : Nat) (ty : FieldType), aTy (h.kind a) = some ty → ∃ cell, H[a]? = some cell ∧ aCell G h a ty cell) ∧
  (∀ a, h.kind a = 20 → ∃ i, i < 17 ∧ a = G.ad (i + 1) ∧ h.R a 0 = some (G.ad (i + 101)) ∧ h.I a 1 = 0)
/-! LOCALS: a narrow one at its slot, a wide one at 1000 + slot -/
def uns (q : Nat × Value) : Nat × Value := (if q.1 < 1000 then q.1 else q.1 - 1000, q.2)
def Lh (ls : Array Slot) (nL : Nat) (L : List (Nat × Value)) : Prop := lv_has ls nL (L.map uns) ∧ ∀ q ∈ L, q.1 < 1000 → q.2.category = 1
def stL (i : Nat) (v : Value) (L : List (Nat × Value)) : List (Nat × Value) := (i, v) :: L.filter (fun q => !(q.1 == i) && (!(q.1 == 1000 + i) && !(q.1 == 999 + i)))
def stW (i : Nat) (v : Value) (L : List (Nat × Value)) : List (Nat × Value) := (1000 + i, v) :: L.filter (fun q => !(q.1 == i) && (!(q.1 == 1000 + i) && (!(q.1 == 999 + i) && (!(q.1 == i + 1) && !(q.1 == 1001 + i)))))
theorem va_rfc (r : Option Nat) : (va_rf r).category = 1 := by cases r <;> rfl
theorem Lh.at {ls : Array Slot} {nL : Nat} {L : List (Nat × Value)} (h : Lh ls nL L) (k : Nat) {i : Nat} {v : Value} (hk : L[k]? = some (i, v)) (hi : i < 1000) : ls[i]? = some (.val v) := by
  have h1 := h.1.2.2 (uns (i, v)) (List.mem_map.mpr ⟨_, List.mem_of_getElem? hk, rfl⟩)
  simpa [uns, hi] using h1
theorem Lh.atW {ls : Array Slot} {nL : Nat} {L : List (Nat × Value)} (h : Lh ls nL L) (k : Nat) {i : Nat} {v : Value} (hk : L[k]? = some (1000 + i, v)) : ls[i]? = some (.val v) := by
  have h1 := h.1.2.2 (uns (1000 + i, v)) (List.mem_map.mpr ⟨_, List.mem_of_getElem? hk, rfl⟩)
  have e : ¬ (1000 + i < 1000) := by omega
  simpa [uns, e] using h1
theorem Lh.sub {ls : Array Slot} {nL : Nat} {L L' : List (Nat × Value)} (h : Lh ls nL L) (hs : ∀ q ∈ L', q ∈ L) : Lh ls nL L' :=
  ⟨⟨h.1.1, h.1.2.1, fun q hq => by
    obtain ⟨x, hx, e⟩ := List.mem_map.mp hq
    exact h.1.2.2 q (List.mem_map.mpr ⟨x, hs x hx, e⟩)⟩, fun q hq => h.2 q (hs q hq)⟩
theorem Lh.st {ls ls' : Array Slot} {nL i : Nat} {L : List (Nat × Value)} {v : Value} (h : Lh ls nL L) (hi : i < 1000) (hv : v.category = 1)
    (h' : lv_has ls' nL ((i, v) :: (L.map uns).filter (fun q => !(q.1 == i) && !(q.1 + 1 == i && q.2.category == 2)))) : Lh ls' nL (stL i v L) := by
  refine ⟨⟨h'.1, h'.2.1, fun q hq => ?_⟩, fun q hq h1 => ?_⟩
  · obtain ⟨x, hx, rfl⟩ := List.mem_map.mp hq
    rcases List.mem_cons.mp hx with rfl | hx
    · exact h'.2.2 _ (by simp [uns, hi])
    · obtain ⟨hx1, hx2⟩ := List.mem_filter.mp hx
      simp only [Bool.and_eq_true, Bool.not_eq_true', beq_eq_false_iff_ne] at hx2
      refine h'.2.2 _ (List.mem_cons_of_mem _ (List.mem_filter.mpr ⟨List.mem_map.mpr ⟨x, hx1, rfl⟩, ?_⟩))
      simp only [Bool.and_eq_true, Bool.not_eq_true', beq_eq_false_iff_ne]
      by_cases hl : x.1 < 1000
      · have hc := h.2 x hx1 hl
        refine ⟨by simp only [uns, hl, if_true]; exact hx2.1, ?_⟩
        simp [uns, hc]
      · refine ⟨by simp only [uns, hl, if_false]; have := hx2.2.1; omega, ?_⟩
        have h3 : ¬ (x.1 - 1000 + 1 = i) := by have := hx2.2.2; omega
        simp [uns, hl, h3]
  · rcases List.mem_cons.mp hq with rfl | hq
    · exact hv
    · exact h.2 q (List.mem_filter.mp hq).1 h1
theorem Lh.stW {ls ls' : Array Slot} {nL i : Nat} {L : List (Nat × Value)} {v : Value} (h : Lh ls nL L) (hi : i + 1 < 1000)
    (h' : lv_has ls' nL ((i, v) :: (L.map uns).filter (fun q => !(q.1 == i) && (!(q.1 == i + 1) && !(q.1 + 1 == i && q.2.category == 2))))) : Lh ls' nL (stW i v L) := by
  refine ⟨⟨h'.1, h'.2.1, fun q hq => ?_⟩, fun q hq h1 => ?_⟩
  · obtain ⟨x, hx, rfl⟩ := List.mem_map.mp hq
    rcases List.mem_cons.mp hx with rfl | hx
    · exact h'.2.2 _ (by simp [uns])
    · obtain ⟨hx1, hx2⟩ := List.mem_filter.mp hx
      simp only [Bool.and_eq_true, Bool.not_eq_true', beq_eq_false_iff_ne] at hx2
      refine h'.2.2 _ (List.mem_cons_of_mem _ (List.mem_filter.mpr ⟨List.mem_map.mpr ⟨x, hx1, rfl⟩, ?_⟩))
      simp only [Bool.and_eq_true, Bool.not_eq_true', beq_eq_false_iff_ne]
      by_cases hl : x.1 < 1000
      · have hc := h.2 x hx1 hl
        refine ⟨by simp only [uns, hl, if_true]; exact hx2.1, by simp only [uns, hl, if_true]; exact hx2.2.2.2.1, ?_⟩
        simp [uns, hc]
      · refine ⟨by simp only [uns, hl, if_false]; have := hx2.2.1; omega, by simp only [uns, hl, if_false]; have := hx2.2.2.2.2; omega, ?_⟩
        have h3 : ¬ (x.1 - 1000 + 1 = i) := by have := hx2.2.2.1; omega
        simp [uns, hl, h3]
  · rcases List.mem_cons.mp hq with rfl | hq
    · exact absurd h1 (by simp)
    · exact h.2 q (List.mem_filter.mp hq).1 h1
