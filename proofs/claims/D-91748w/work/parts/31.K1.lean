set_option maxRecDepth 100000
theorem hyJ6_checkIndex : yJ6_checkIndex.cls ≠ "java/lang/invoke/MethodHandle" ∧ yJ6_checkIndex.cls ≠ "java/lang/invoke/VarHandle" ∧ (parseMethodDescriptor yJ6_checkIndex.desc).map (fun d => d.parameters.length) = some 2 := by decide +kernel
theorem kJ6_checkIndex (G : Gl) (n : Nat) (K : Nat → Nat) (hK : K = G.ad) (p0 : Int32) (p1 : Int32) (h : AH) : OkM G yJ6_checkIndex cJ6_checkIndex 2 none 2 cvV [.int p0, .int p1] h (F_J6_checkIndex n K p0 p1 h) := by
  refine ok_of_sim [(0, .int p0), (1, .int p1)] (by decide +kernel) (fun r => ⟨_, rfl⟩) (by simp [uns, lv_args, lg_sl, catI, catL, catA, va_rfc]) (by simp [uns, lv_args, lg_sl, catI, catL, catA, va_rfc]) (by simp [uns, lv_args, lg_sl, catI, catL, catA, va_rfc]) ?_
  unfold F_J6_checkIndex
  refine s_iload_n dJ6_checkIndex_0 0 rfl ?_
  refine s_iload_n dJ6_checkIndex_1 1 rfl ?_
  refine s_gets (v := va_rf (ko (K 200))) dJ6_checkIndex_2 q500 (fun s hg => by rw [hK]; exact hg.2.2.2.2.2.2.1.2.2.1) ?_
  refine s_callS_I (kJ10_checkIndex G n K hK p0 p1 (ko (K 200)) h) (by decide) (by decide) dJ6_checkIndex_5 q541 q542 q118 q543 hyJ10_checkIndex rfl rfl (Nat.le_of_ble_eq_true rfl) (fun r1 h2 => ?_)
  refine s_pop dJ6_checkIndex_8 rfl ?_
  exact s_vret dJ6_checkIndex_9 rfl rfl
theorem hyJ7_charAt : yJ7_charAt.cls ≠ "java/lang/invoke/MethodHandle" ∧ yJ7_charAt.cls ≠ "java/lang/invoke/VarHandle" ∧ (parseMethodDescriptor yJ7_charAt.desc).map (fun d => d.parameters.length) = some 2 := by decide +kernel
theorem kJ7_charAt (G : Gl) (n : Nat) (K : Nat → Nat) (hK : K = G.ad) (p0 : Option Nat) (p1 : Int32) (h : AH) : OkM G yJ7_charAt cJ7_charAt 2 (some .char) 3 cvI [va_rf p0, .int p1] h (F_J7_charAt n K p0 p1 h) := by
  refine ok_of_sim [(0, va_rf p0), (1, .int p1)] (by decide +kernel) (fun r => ⟨_, rfl⟩) (by simp [uns, lv_args, lg_sl, catI, catL, catA, va_rfc]) (by simp [uns, lv_args, lg_sl, catI, catL, catA, va_rfc]) (by simp [uns, lv_args, lg_sl, catI, catL, catA, va_rfc]) ?_
  unfold F_J7_charAt
  refine s_iload_n dJ7_charAt_0 1 rfl ?_
  refine s_oload_n dJ7_charAt_1 0 rfl ?_
  refine s_ob (r := p0) (fun z => [(0, z), (1, .int p1)]) (fun z => [z, .int p1]) (fun a1 => ?_)
  refine s_chk (fun hk2 => ?_)
  refine s_alen dJ7_charAt_2 hk2 rfl ?_
  refine s_callS_V (kJ6_checkIndex G n K hK p1 (nI (h.len a1)) h) (by decide) (by decide) dJ7_charAt_3 q538 q539 q114 q540 hyJ6_checkIndex rfl rfl (Nat.le_of_ble_eq_true rfl) (fun r3 h4 => ?_)
  refine s_aload_n dJ7_charAt_6 0 rfl ?_
  refine s_iload_n dJ7_charAt_7 1 rfl ?_
  refine s_chk (fun hk5 => ?_)
  refine s_chk (fun hi6 => ?_)
  refine s_bald dJ7_charAt_8 hk5 rfl hi6 ?_
  refine s_sipush (255 : Int32) dJ7_charAt_9 (by decide) ?_
  refine s_iand dJ7_charAt_12 ?_
  refine s_i2c dJ7_charAt_13 ?_
  refine s_chk (fun hb7 => ?_)
  exact s_zret dJ7_charAt_14 rfl (nar_ok ⟨_, rfl⟩ hb7) rfl
theorem hyJ6_charAt : yJ6_charAt.cls ≠ "java/lang/invoke/MethodHandle" ∧ yJ6_charAt.cls ≠ "java/lang/invoke/VarHandle" ∧ (parseMethodDescriptor yJ6_charAt.desc).map (fun d => d.parameters.length) = some 1 := by decide +kernel
theorem kJ6_charAt (G : Gl) (n : Nat) (K : Nat → Nat) (hK : K = G.ad) (p0 : Nat) (p1 : Int32) (h : AH) : OkM G yJ6_charAt cJ6_charAt 2 (some .char) 4 cvI [.ref p0, .int p1] h (F_J6_charAt n K p0 p1 h) := by
  refine ok_of_sim [(0, .ref p0), (1, .int p1)] (by decide +kernel) (fun r => ⟨_, rfl⟩) (by simp [uns, lv_args, lg_sl, catI, catL, catA, va_rfc]) (by simp [uns, lv_args, lg_sl, catI, catL, catA, va_rfc]) (by simp [uns, lv_args, lg_sl, catI, catL, catA, va_rfc]) ?_
  unfold F_J6_charAt
  refine s_aload_n dJ6_charAt_0 0 rfl ?_
  refine s_chk (fun hk3 => ?_)
  refine s_callStr (kJ6_isLatin1 G n K hK p0 h) (by decide) (by decide) dJ6_charAt_1 hk3 rfl q462 q463 q464 q114 q465 hyJ6_isLatin1 rfl rfl (Nat.le_of_ble_eq_true rfl) (fun r1 h2 => ?_)
  refine s_if_eq 16 dJ6_charAt_4 (by decide) (fun c4 => ?_) (fun c4 => ?_)
  · refine s_aload_n dJ6_charAt_16 0 rfl ?_
    refine s_chk (fun hk5 => ?_)
    refine s_getStrV dJ6_charAt_17 hk5 q1796 ?_
    refine s_iload_n dJ6_charAt_20 1 rfl ?_
    exact s_none
  · refine s_aload_n dJ6_charAt_7 0 rfl ?_
    refine s_chk (fun hk6 => ?_)
    refine s_getStrV dJ6_charAt_8 hk6 q1796 ?_
    refine s_iload_n dJ6_charAt_11 1 rfl ?_
    refine s_callS_I (kJ7_charAt G n K hK (h2.R p0 0) p1 h2) (by decide) (by decide) dJ6_charAt_12 q535 q536 q115 q537 hyJ7_charAt rfl rfl (Nat.le_of_ble_eq_true rfl) (fun r7 h8 => ?_)
    refine s_chk (fun hb9 => ?_)
    exact s_zret dJ6_charAt_15 rfl (nar_ok ⟨_, rfl⟩ hb9) rfl
/-! the certificates of length, charAt, indexOf by table -/
theorem OkM_of {G : Gl} {y : MethodName} {cc : ByteArray} {nL : Nat} {rt : Option FieldType} {d : Nat} {α : Type} {cv : α → Outcome} {as : List Value} {h : AH} {f f' : Option (α × AH)} (hold : ∀ r h', f' = some (r, h') → h' = h ∧ ∀ U : State, Rep G h U.heap → Glob G U → f = some (r, h')) (ok : OkM G y cc nL rt d cv as h f) : OkM G y cc nL rt d cv as h f' := by
  intro r h' e
  obtain ⟨e1, e2⟩ := hold r h' e
  refine ⟨by rw [e1]; exact ⟨Nat.le_refl _, Nat.le_refl _⟩, fun p e ha hc hk s m args below hfr happ hP hK => ?_⟩
  exact (ok r h' (e2 s hP.2.1 hP.2.2)).2 p e ha hc hk s m args below hfr happ hP hK
theorem sIxA_ok {K : Nat → Nat} {a i : Nat} : ∀ k, sIxA K a k = some i → i < k ∧ K (i + 1) = a := by
  intro k
  induction k with
  | zero => intro h; cases h
  | succ k ih =>
    intro h
    rw [sIxA] at h
    by_cases c : K (k + 1) = a
    · rw [if_pos c] at h
      cases h
      exact ⟨by omega, c⟩
    · rw [if_neg c] at h
      obtain ⟨h1, h2⟩ := ih h
      exact ⟨by omega, h2⟩
theorem ob_ok {α : Type} {r : Option Nat} {f : Nat → Option α} {o : α} (h : ob r f = some o) : ∃ a, r = some a ∧ f a = some o := by
  cases r with
  | none => cases h
  | some a => exact ⟨a, rfl, h⟩
theorem str_facts {G : Gl} {h : AH} {U : State} (hR : Rep G h U.heap) (hG : Glob G U) {a i : Nat} (hk : h.kind a = 20) (hi : sIx G.ad a = some i) (ok : sOk G.ad h i) : i < 17 ∧ h.R a 0 = some (G.ad (i + 101)) ∧ h.I a 1 = 0 ∧ ∀ j, j < sLn i → h.I (G.ad (i + 101)) j = sBt i j := by
  obtain ⟨i17, ia⟩ := sIxA_ok 17 hi
  obtain ⟨i', hi', ea, r1, r2⟩ := hR.2.2.2.2.2.2.2 a hk
  have vk := hG.2.2.2.2.2.2.2.2.2.2.1
  have ei : i' = i := vk.2 i' i hi' i17 (by show G.ad (i' + 1) = G.ad (i + 1); rw [ia, ← ea])
  subst ei
  refine ⟨i17, r1, r2, fun j hj => ?_⟩
  obtain ⟨cell, c1, c2⟩ := hR.2.2.2.2.2.2.1 (G.ad (i' + 101)) .byte (by rw [ok.1]; rfl)
  obtain ⟨cell', d1, d2, d3, d4, d5, d6, d7⟩ := (vk.1 i' i17).2.2.2
  have hlt : G.ad (i' + 101) < G.base := by
    have : ¬ G.base ≤ G.ad (i' + 101) := d7
    omega
  have hb := hR.2.2.2.1 (G.ad (i' + 101)) hlt
  rw [c1] at hb
  have ec : cell = cell' := Option.some.inj (hb.trans d1)
  subst ec
  have q1 := c2.2.2.2.2 j (by rw [ok.2]; exact hj)
  have q2 := d6 j hj
  rw [q1] at q2
  have q3 : Value.int (h.I (G.ad (i' + 101)) j) = Value.int (sBt i' j) := Option.some.inj q2
  exact Value.int.inj q3
theorem kSJ6_length (G : Gl) (n : Nat) (K : Nat → Nat) (hK : K = G.ad) (p0 : Nat) (h : AH) : OkM G yJ6_length cJ6_length 1 (some .int) 2 cvI [.ref p0] h (F_SJ6_length n K p0 h) := by
  refine OkM_of (fun r h' e => ?_) (kJ6_length G n K hK p0 h)
  obtain ⟨hk, e⟩ := chk_some e
  obtain ⟨i, hi, e⟩ := ob_ok e
  obtain ⟨ok, e⟩ := chk_some e
  cases e
  refine ⟨rfl, fun U hR hG => ?_⟩
  subst hK
  obtain ⟨i17, r1, r2, _⟩ := str_facts hR hG hk hi ok
  have t1 : ∀ i, i < 17 → nI (sLn i) >>> ((0 : Int32) &&& 31) = nI (sLn i) := by decide
  have t2 : vp_nar .byte (0 : Int32) = 0 := by decide
  have z : ¬ ((1 : Int32) = 0) := by decide
  unfold F_J6_length F_J6_coder
  rw [chk_pos hk, r1]
  show (chk (h.kind (G.ad (i + 101)) = 41) _) = _
  rw [chk_pos ok.1, if_neg z, chk_pos hk, r2, chk_pos t2]
  show some (nI (h.len (G.ad (i + 101))) >>> ((0 : Int32) &&& 31), h) = _
  rw [ok.2, t1 i i17]
theorem kSJ6_charAt (G : Gl) (n : Nat) (K : Nat → Nat) (hK : K = G.ad) (p0 : Nat) (p1 : Int32) (h : AH) : OkM G yJ6_charAt cJ6_charAt 2 (some .char) 4 cvI [.ref p0, .int p1] h (F_SJ6_charAt n K p0 p1 h) := by
  refine OkM_of (fun r h' e => ?_) (kJ6_charAt G n K hK p0 p1 h)
  obtain ⟨hk, e⟩ := chk_some e
  obtain ⟨i, hi, e⟩ := ob_ok e
  obtain ⟨ok, e⟩ := chk_some e
  obtain ⟨hin, e⟩ := chk_some e
  cases e
  refine ⟨rfl, fun U hR hG => ?_⟩
  subst hK
  obtain ⟨i17, r1, r2, r3⟩ := str_facts hR hG hk hi ok
  have z : ¬ ((1 : Int32) = 0) := by decide
  have z0 : ¬ (¬ ((0 : Int32) = 0)) := by decide
  have l31 : ∀ i, i < 17 → sLn i < 100 := by decide
  have ll := l31 i i17
  have c1 : ¬ (p1 < 0) := by
    rw [Int32.lt_iff_toInt_lt]
    have := hin.1
    have e0 : (0 : Int32).toInt = 0 := rfl
    omega
  have c2 : p1 < nI (sLn i) := by
    rw [Int32.lt_iff_toInt_lt, nI_toInt (by omega)]
    exact hin.2
  obtain ⟨k, hk31, rfl⟩ := nI_of c1
  have ek : ix (nI k) = k := nI_clamp hk31
  have kl : k < sLn i := by
    have := hin.2
    rw [nI_toInt hk31] at this
    omega
  have t1 : ∀ i, i < 17 → ∀ j, j < sLn i → ((((sBt i j) &&& (255 : Int32)).toUInt32 % 65536).toInt32) = sBt i j ∧ vp_nar .char (sBt i j) = sBt i j := by decide
  obtain ⟨u1, u2⟩ := t1 i i17 k kl
  simp [-Int32.toUInt32_and, F_J6_charAt, F_J6_isLatin1, F_J7_charAt, F_J6_checkIndex, F_J10_checkIndex, chk, bnd, ob, jn, hk, r1, r2, ok.1, ok.2, ek, r3 k kl, u1, u2, if_pos hin, c1, c2]
theorem sp_loop {n : Nat} {K : Nat → Nat} {h : AH} {a i : Nat} (ok1 : h.kind a = 41) (ok2 : h.len a = sLn i) (l100 : sLn i < 100) (r3 : ∀ j, j < sLn i → h.I a j = sBt i j) : ∀ r k fuel, k + r = sLn i → r < fuel → F_J7_indexOfChar_L7 n K 32 (some a) (nI (sLn i)) h fuel (nI k) = some (sSp i r k, h) := by
  intro r
  induction r with
  | zero =>
    intro k fuel hk hf
    obtain ⟨f, rfl⟩ : ∃ f, fuel = f + 1 := ⟨fuel - 1, by omega⟩
    rw [F_J7_indexOfChar_L7, if_pos (nI_le (by omega) (by omega))]
    rfl
  | succ r ih =>
    intro k fuel hk hf
    obtain ⟨f, rfl⟩ : ∃ f, fuel = f + 1 := ⟨fuel - 1, by omega⟩
    have hin : inb (nI k) (h.len a) := by
      rw [ok2]
      show 0 ≤ (nI k).toInt ∧ (nI k).toInt < _
      rw [nI_toInt (by omega)]
      omega
    have ek : ix (nI k) = k := nI_clamp (by omega)
    rw [F_J7_indexOfChar_L7, if_neg (nI_ge (by omega) (by omega))]
    show (chk (h.kind a = 41) _) = _
    rw [chk_pos ok1, chk_pos hin, ek, r3 k (by omega), sSp]
    by_cases c : sBt i k = 32
    · rw [if_neg (fun z => z c), if_pos c]
    · rw [if_pos c, if_neg c, nI_1]
      exact ih (k + 1) f (by omega) (by omega)
theorem kSJ6_indexOf (G : Gl) (n : Nat) (K : Nat → Nat) (hK : K = G.ad) (p0 : Nat) (p1 : Int32) (p2 : Int32) (h : AH) : OkM G yJ6_indexOf cJ6_indexOf 3 (some .int) 3 cvI [.ref p0, .int p1, .int p2] h (F_SJ6_indexOf n K p0 p1 p2 h) := by
  refine OkM_of (fun r h' e => ?_) (kJ6_indexOf G n K hK p0 p1 p2 h)
  obtain ⟨hk, e⟩ := chk_some e
  obtain ⟨i, hi, e⟩ := ob_ok e
  obtain ⟨ok, e⟩ := chk_some e
  obtain ⟨⟨⟨h32, hin⟩, hn⟩, e⟩ := chk_some e
  cases e
  refine ⟨rfl, fun U hR hG => ?_⟩
  subst hK
  subst h32
  obtain ⟨i17, r1, r2, r3⟩ := str_facts hR hG hk hi ok
  have z : ¬ ((1 : Int32) = 0) := by decide
  have z0 : ¬ (¬ ((0 : Int32) = 0)) := by decide
  have l31 : ∀ i, i < 17 → sLn i < 100 := by decide
  have ll := l31 i i17
  have c1 : ¬ (p2 < 0) := by
    rw [Int32.lt_iff_toInt_lt]
    have := hin.1
    have e0 : (0 : Int32).toInt = 0 := rfl
    omega
  have c2 : p2 < nI (sLn i) := by
    rw [Int32.lt_iff_toInt_lt, nI_toInt (by omega)]
    exact hin.2
  obtain ⟨k, hk31, rfl⟩ := nI_of c1
  have ek : ix (nI k) = k := nI_clamp hk31
  have kl : k < sLn i := by
    have := hin.2
    rw [nI_toInt hk31] at this
    omega
  have t1 : ∀ i, i < 17 → nI (sLn i) >>> ((0 : Int32) &&& 31) = nI (sLn i) := by decide
  have t2 : vp_nar .byte (0 : Int32) = 0 := by decide
  have t3 : (32 : Int32).toInt8.toInt32 = 32 := by decide
  have t4 : ¬ ((32 : Int32) < 0) := by decide
  have t5 : ¬ ((255 : Int32) < 32) := by decide
  have lenE : F_J6_length n G.ad p0 h = some (nI (sLn i), h) := by
    unfold F_J6_length F_J6_coder
    rw [chk_pos hk, r1]
    show (chk (h.kind (G.ad (i + 101)) = 41) _) = _
    rw [chk_pos ok.1, if_neg z, chk_pos hk, r2, chk_pos t2]
    show some (nI (h.len (G.ad (i + 101))) >>> ((0 : Int32) &&& 31), h) = _
    rw [ok.2, t1 i i17]
  have loop := sp_loop (n := n) (K := G.ad) ok.1 ok.2 ll r3 (sLn i - k) k n (by omega) (by omega)
  simp [F_J6_indexOf, F_J6_isLatin1, F_J7_indexOf, F_J7_canEncode, F_J7_indexOfChar, chk, bnd, ob, jn, hk, r1, r2, ok.1, ok.2, ek, lenE, c1, c2, t3, t4, t5, loop]

theorem hyX1_word : yX1_word.cls ≠ "java/lang/invoke/MethodHandle" ∧ yX1_word.cls ≠ "java/lang/invoke/VarHandle" ∧ (parseMethodDescriptor yX1_word.desc).map (fun d => d.parameters.length) = some 1 := by decide +kernel
theorem sX1_word_L31 (G : Gl) (n : Nat) (K : Nat → Nat) (hK : K = G.ad) (y21 : Int32) (y22 : Int32) (y23 : Int32) (y24 : Nat) (y25 : Option Nat) : ∀ (f : Nat) (x20 : Int32) (h : AH) (k : Int32 → AH → Option (Int32 × AH)) (hk : ∀ (x20 : Int32) (h : AH), Sim G yX1_word.cls yX1_word.name cX1_word 6 (some .int) 5 cvI 83 [(5, .int x20), (4, .int y21), (3, .int y22), (2, .int y23), (0, .ref y24), (1, va_rf y25)] [] h (k x20 h)), Sim G yX1_word.cls yX1_word.name cX1_word 6 (some .int) 5 cvI 31 [(5, .int x20), (4, .int y21), (3, .int y22), (2, .int y23), (0, .ref y24), (1, va_rf y25)] [] h (F_X1_word_L31 n K y21 y22 y23 y24 y25 f x20 h k) := by
  intro f
  induction f with
  | zero =>
    intro x20 h k hk
    exact s_none
  | succ f ih =>
    intro x20 h k hk
    unfold F_X1_word_L31
    refine s_iload dX1_word_31 0 rfl (by decide) ?_
    refine s_iload dX1_word_33 1 rfl (by decide) ?_
    refine s_iload_n dX1_word_35 2 rfl ?_
    refine s_isub dX1_word_36 ?_
    refine s_icmp_ge 83 dX1_word_37 (by decide) (fun c26 => ?_) (fun c26 => ?_)
    · exact hk x20 h
    · refine s_aload_n dX1_word_40 4 rfl ?_
      refine s_chk (fun hk27 => ?_)
      refine s_get (j := 3) 1 (.int (h.I y24 3)) dX1_word_41 hk27 rfl (by decide) q179 (Or.inl rfl) rfl ?_
      refine s_iload dX1_word_44 0 rfl (by decide) ?_
      refine s_iadd dX1_word_46 ?_
      refine s_aload_n dX1_word_47 4 rfl ?_
      refine s_get (j := 2) 1 (.int (h.I y24 2)) dX1_word_48 hk27 rfl (by decide) q178 (Or.inl rfl) rfl ?_
      refine s_icmp_ge 83 dX1_word_51 (by decide) (fun c28 => ?_) (fun c28 => ?_)
      · exact hk x20 h
      · refine s_aload_n dX1_word_54 4 rfl ?_
        refine s_get (j := 0) 1 (va_rf (h.R y24 0)) dX1_word_55 hk27 rfl (by decide) q176 (Or.inl rfl) rfl ?_
        refine s_aload_n dX1_word_58 4 rfl ?_
        refine s_get (j := 3) 1 (.int (h.I y24 3)) dX1_word_59 hk27 rfl (by decide) q179 (Or.inl rfl) rfl ?_
        refine s_iload dX1_word_62 0 rfl (by decide) ?_
        refine s_iadd dX1_word_64 ?_
        refine s_ob (r := h.R y24 0) (fun z => [(5, .int x20), (4, .int y21), (3, .int y22), (2, .int y23), (0, .ref y24), (1, va_rf y25)]) (fun z => [.int ((h.I y24 3) + x20), z]) (fun a29 => ?_)
        refine s_chk (fun hk30 => ?_)
        refine s_chk (fun hi31 => ?_)
        refine s_bald dX1_word_65 hk30 rfl hi31 ?_
        refine s_oload_n dX1_word_66 5 rfl ?_
        refine s_iload_n dX1_word_67 2 rfl ?_
        refine s_iload dX1_word_68 0 rfl (by decide) ?_
        refine s_iadd dX1_word_70 ?_
        refine s_ob (r := y25) (fun z => [(5, .int x20), (4, .int y21), (3, .int y22), (2, .int y23), (0, .ref y24), (1, va_rf y25)]) (fun z => [.int (y22 + x20), z, .int (h.I a29 (ix ((h.I y24 3) + x20)))]) (fun a32 => ?_)
        refine s_chk (fun hk35 => ?_)
        refine s_callStr (kSJ6_charAt G n K hK a32 (y22 + x20) h) (by decide) (by decide) dX1_word_71 hk35 rfl q531 q532 q533 q114 q534 hyJ6_charAt rfl rfl (Nat.le_of_ble_eq_true rfl) (fun r33 h34 => ?_)
        refine s_icmp_ne 83 dX1_word_74 (by decide) (fun c36 => ?_) (fun c36 => ?_)
        · exact hk x20 h34
        · refine s_iinc (1 : Int32) [(5, .int (x20 + (1 : Int32))), (4, .int y21), (3, .int y22), (2, .int y23), (0, .ref y24), (1, va_rf y25)] dX1_word_77 0 rfl (by decide) (by decide) (by decide) rfl ?_
          refine s_goto 31 dX1_word_80 (by decide) ?_
          exact ih (x20 + (1 : Int32)) h34 k hk
theorem sX1_word_L4 (G : Gl) (n : Nat) (K : Nat → Nat) (hK : K = G.ad) (y4 : Nat) (y5 : Option Nat) : ∀ (f : Nat) (x2 : Int32) (x3 : Int32) (h : AH), Sim G yX1_word.cls yX1_word.name cX1_word 6 (some .int) 5 cvI 4 [(3, .int x2), (2, .int x3), (0, .ref y4), (1, va_rf y5)] [] h (F_X1_word_L4 n K y4 y5 f x2 x3 h) := by
  intro f
  induction f with
  | zero =>
    intro x2 x3 h
    exact s_none
  | succ f ih =>
    intro x2 x3 h
    unfold F_X1_word_L4
    refine s_iload_n dX1_word_4 0 rfl ?_
    refine s_oload_n dX1_word_5 3 rfl ?_
    refine s_ob (r := y5) (fun z => [(3, .int x2), (2, .int x3), (0, .ref y4), (1, va_rf y5)]) (fun z => [z, .int x2]) (fun a6 => ?_)
    refine s_chk (fun hk9 => ?_)
    refine s_callStr (kSJ6_length G n K hK a6 h) (by decide) (by decide) dX1_word_6 hk9 rfl q444 q445 q446 q114 q447 hyJ6_length rfl rfl (Nat.le_of_ble_eq_true rfl) (fun r7 h8 => ?_)
    refine s_icmp_ge 119 dX1_word_9 (by decide) (fun c10 => ?_) (fun c10 => ?_)
    · refine s_iconst (-1 : Int32) dX1_word_119 (by decide) ?_
      exact s_iret dX1_word_120 rfl rfl
    · refine s_aload_n dX1_word_12 2 rfl ?_
      refine s_chk (fun hk13 => ?_)
      refine s_callV_I 1 (kX1_isOver G n K hK y4 h8) (by decide) (by decide) dX1_word_13 hk13 rfl rfl q454 q456 qs6 q104 q457 hyX1_isOver rfl rfl (Nat.le_of_ble_eq_true rfl) (fun r11 h12 => ?_)
      refine s_if_ne 119 dX1_word_16 (by decide) (fun c14 => ?_) (fun c14 => ?_)
      · refine s_iconst (-1 : Int32) dX1_word_119 (by decide) ?_
        exact s_iret dX1_word_120 rfl rfl
      · refine s_oload_n dX1_word_19 3 rfl ?_
        refine s_bipush (32 : Int32) dX1_word_20 (by decide) ?_
        refine s_iload_n dX1_word_22 0 rfl ?_
        refine s_ob (r := y5) (fun z => [(3, .int x2), (2, .int x3), (0, .ref y4), (1, va_rf y5)]) (fun z => [.int x2, .int (32 : Int32), z]) (fun a15 => ?_)
        refine s_chk (fun hk18 => ?_)
        refine s_callStr (kSJ6_indexOf G n K hK a15 (32 : Int32) x2 h12) (by decide) (by decide) dX1_word_23 hk18 rfl q458 q459 q460 q114 q461 hyJ6_indexOf rfl rfl (Nat.le_of_ble_eq_true rfl) (fun r16 h17 => ?_)
        refine s_istore [(4, .int r16), (3, .int x2), (2, .int x3), (0, .ref y4), (1, va_rf y5)] dX1_word_26 (by decide) (by decide) rfl ?_
        refine s_iconst (0 : Int32) dX1_word_28 (by decide) ?_
        refine s_istore [(5, .int (0 : Int32)), (4, .int r16), (3, .int x2), (2, .int x3), (0, .ref y4), (1, va_rf y5)] dX1_word_29 (by decide) (by decide) rfl ?_
        refine sX1_word_L31 G n K hK r16 x2 x3 y4 y5 n (0 : Int32) h17 _ ?_
        intro x37 h38
        refine s_iload dX1_word_83 0 rfl (by decide) ?_
        refine s_iload dX1_word_85 1 rfl (by decide) ?_
        refine s_iload_n dX1_word_87 2 rfl ?_
        refine s_isub dX1_word_88 ?_
        refine s_icmp_ne 108 dX1_word_89 (by decide) (fun c39 => ?_) (fun c39 => ?_)
        · refine s_iload dX1_word_108 1 rfl (by decide) ?_
          refine s_iconst (1 : Int32) dX1_word_110 (by decide) ?_
          refine s_iadd dX1_word_111 ?_
          refine s_istore_n [(3, .int (r16 + (1 : Int32))), (5, .int x37), (4, .int r16), (2, .int x3), (0, .ref y4), (1, va_rf y5)] dX1_word_112 (by decide) (by decide) rfl ?_
          refine s_iinc (1 : Int32) [(2, .int (x3 + (1 : Int32))), (3, .int (r16 + (1 : Int32))), (5, .int x37), (4, .int r16), (0, .ref y4), (1, va_rf y5)] dX1_word_113 3 rfl (by decide) (by decide) (by decide) rfl ?_
          refine s_goto 4 dX1_word_116 (by decide) ?_
          refine s_sub [1, 0, 4, 5] rfl ?_
          exact ih (r16 + (1 : Int32)) (x3 + (1 : Int32)) h38
        · refine s_iload dX1_word_92 0 rfl (by decide) ?_
          refine s_aload_n dX1_word_94 4 rfl ?_
          refine s_chk (fun hk40 => ?_)
          refine s_get (j := 2) 1 (.int (h38.I y4 2)) dX1_word_95 hk40 rfl (by decide) q178 (Or.inl rfl) rfl ?_
          refine s_aload_n dX1_word_98 4 rfl ?_
          refine s_get (j := 3) 1 (.int (h38.I y4 3)) dX1_word_99 hk40 rfl (by decide) q179 (Or.inl rfl) rfl ?_
          refine s_isub dX1_word_102 ?_
          refine s_icmp_ne 108 dX1_word_103 (by decide) (fun c41 => ?_) (fun c41 => ?_)
          · refine s_iload dX1_word_108 1 rfl (by decide) ?_
            refine s_iconst (1 : Int32) dX1_word_110 (by decide) ?_
            refine s_iadd dX1_word_111 ?_
            refine s_istore_n [(3, .int (r16 + (1 : Int32))), (5, .int x37), (4, .int r16), (2, .int x3), (0, .ref y4), (1, va_rf y5)] dX1_word_112 (by decide) (by decide) rfl ?_
            refine s_iinc (1 : Int32) [(2, .int (x3 + (1 : Int32))), (3, .int (r16 + (1 : Int32))), (5, .int x37), (4, .int r16), (0, .ref y4), (1, va_rf y5)] dX1_word_113 3 rfl (by decide) (by decide) (by decide) rfl ?_
            refine s_goto 4 dX1_word_116 (by decide) ?_
            refine s_sub [1, 0, 4, 5] rfl ?_
            exact ih (r16 + (1 : Int32)) (x3 + (1 : Int32)) h38
          · refine s_iload_n dX1_word_106 3 rfl ?_
            exact s_iret dX1_word_107 rfl rfl
theorem kX1_word (G : Gl) (n : Nat) (K : Nat → Nat) (hK : K = G.ad) (p0 : Nat) (p1 : Option Nat) (h : AH) : OkM G yX1_word cX1_word 6 (some .int) 5 cvI [.ref p0, va_rf p1] h (F_X1_word n K p0 p1 h) := by
  refine ok_of_sim [(0, .ref p0), (1, va_rf p1)] (by decide +kernel) (fun r => ⟨_, rfl⟩) (by simp [uns, lv_args, lg_sl, catI, catL, catA, va_rfc]) (by simp [uns, lv_args, lg_sl, catI, catL, catA, va_rfc]) (by simp [uns, lv_args, lg_sl, catI, catL, catA, va_rfc]) ?_
  unfold F_X1_word
  refine s_iconst (0 : Int32) dX1_word_0 (by decide) ?_
  refine s_istore_n [(2, .int (0 : Int32)), (0, .ref p0), (1, va_rf p1)] dX1_word_1 (by decide) (by decide) rfl ?_
  refine s_iconst (0 : Int32) dX1_word_2 (by decide) ?_
  refine s_istore_n [(3, .int (0 : Int32)), (2, .int (0 : Int32)), (0, .ref p0), (1, va_rf p1)] dX1_word_3 (by decide) (by decide) rfl ?_
  exact sX1_word_L4 G n K hK p0 p1 n (0 : Int32) (0 : Int32) h
theorem hyJ2_size : yJ2_size.cls ≠ "java/lang/invoke/MethodHandle" ∧ yJ2_size.cls ≠ "java/lang/invoke/VarHandle" ∧ (parseMethodDescriptor yJ2_size.desc).map (fun d => d.parameters.length) = some 0 := by decide +kernel
theorem kJ2_size (G : Gl) (n : Nat) (K : Nat → Nat) (hK : K = G.ad) (p0 : Nat) (h : AH) : OkM G yJ2_size cJ2_size 1 (some .int) 1 cvI [.ref p0] h (F_J2_size n K p0 h) := by
  refine ok_of_sim [(0, .ref p0)] (by decide +kernel) (fun r => ⟨_, rfl⟩) (by simp [uns, lv_args, lg_sl, catI, catL, catA, va_rfc]) (by simp [uns, lv_args, lg_sl, catI, catL, catA, va_rfc]) (by simp [uns, lv_args, lg_sl, catI, catL, catA, va_rfc]) ?_
  unfold F_J2_size
  refine s_aload_n dJ2_size_0 0 rfl ?_
  refine s_chk (fun hk1 => ?_)
  refine s_get (j := 2) 2 (.int (h.I p0 2)) dJ2_size_1 hk1 rfl (by decide) q164 (Or.inl rfl) rfl ?_
  exact s_iret dJ2_size_4 rfl rfl
theorem hyX1_needsWord : yX1_needsWord.cls ≠ "java/lang/invoke/MethodHandle" ∧ yX1_needsWord.cls ≠ "java/lang/invoke/VarHandle" ∧ (parseMethodDescriptor yX1_needsWord.desc).map (fun d => d.parameters.length) = some 1 := by decide +kernel
theorem kX1_needsWord (G : Gl) (n : Nat) (K : Nat → Nat) (hK : K = G.ad) (p0 : Nat) (p1 : Option Nat) (h : AH) : OkT G yX1_needsWord cX1_needsWord 3 (some .int) 7 (cvT cvI) [.ref p0, va_rf p1] h (F_X1_needsWord n K p0 p1 h) := by
  refine okT_of_sim [(0, .ref p0), (1, va_rf p1)] (by decide +kernel) (by simp [uns, lv_args, lg_sl, catI, catL, catA, va_rfc]) (by simp [uns, lv_args, lg_sl, catI, catL, catA, va_rfc]) (by simp [uns, lv_args, lg_sl, catI, catL, catA, va_rfc]) ?_
  unfold F_X1_needsWord
  refine s_aload_n dX1_needsWord_0 0 rfl ?_
  refine s_oload_n dX1_needsWord_1 1 rfl ?_
  refine s_chk (fun hk3 => ?_)
  refine s_callV_I 1 (kX1_word G n K hK p0 p1 h) (by decide) (by decide) dX1_needsWord_2 hk3 rfl rfl q440 q442 qs5 q104 q443 hyX1_word rfl rfl (Nat.le_of_ble_eq_true rfl) (fun r1 h2 => ?_)
  refine s_istore_n [(2, .int r1), (0, .ref p0), (1, va_rf p1)] dX1_needsWord_5 (by decide) (by decide) rfl ?_
  refine s_iload_n dX1_needsWord_6 0 rfl ?_
  refine s_iconst (-1 : Int32) dX1_needsWord_7 (by decide) ?_
  refine s_icmp_ne 16 dX1_needsWord_8 (by decide) (fun c4 => ?_) (fun c4 => ?_)
  · refine s_aload_n dX1_needsWord_16 1 rfl ?_
    refine s_chk (fun hk7 => ?_)
    refine s_callT_V 1 (kX1_next G n K hK p0 h2) (by decide) (by decide) dX1_needsWord_17 hk7 rfl rfl q353 q355 qs1 q104 q356 hyX1_next rfl rfl (Nat.le_of_ble_eq_true rfl) (fun r5 h6 => ?_)
    refine s_iload_n dX1_needsWord_20 0 rfl ?_
    exact s_iret dX1_needsWord_21 rfl rfl
  · refine s_aload_n dX1_needsWord_11 1 rfl ?_
    refine s_chk (fun hk10 => ?_)
    refine s_callV_R 1 (kX1_wrong G n K hK p0 h2) (by decide) (by decide) dX1_needsWord_12 hk10 rfl rfl q363 q365 qs2 q104 q366 hyX1_wrong rfl rfl (Nat.le_of_ble_eq_true rfl) (fun r8 h9 => ?_)
    refine s_ob (r := r8) (fun z => [(2, .int r1), (0, .ref p0), (1, va_rf p1)]) (fun z => [z]) (fun a11 => ?_)
    exact s_athrow dX1_needsWord_15
theorem hyX1_number : yX1_number.cls ≠ "java/lang/invoke/MethodHandle" ∧ yX1_number.cls ≠ "java/lang/invoke/VarHandle" ∧ (parseMethodDescriptor yX1_number.desc).map (fun d => d.parameters.length) = some 2 := by decide +kernel
theorem sX1_number_L35 (G : Gl) (n : Nat) (K : Nat → Nat) (hK : K = G.ad) (y23 : Nat) (y24 : Int32) (y25 : Int32) : ∀ (f : Nat) (x21 : Int32) (x22 : Int32) (h : AH), Sim G yX1_number.cls yX1_number.name cX1_number 5 (some .int) 7 (cvT cvI) 35 [(4, .int x21), (3, .int x22), (0, .ref y23), (1, .int y24), (2, .int y25)] [] h (F_X1_number_L35 n K y23 y24 y25 f x21 x22 h) := by
  intro f
  induction f with
  | zero =>
    intro x21 x22 h
    exact s_none
  | succ f ih =>
    intro x21 x22 h
    unfold F_X1_number_L35
    refine s_iload dX1_number_35 0 rfl (by decide) ?_
    refine s_aload_n dX1_number_37 2 rfl ?_
    refine s_chk (fun hk26 => ?_)
    refine s_get (j := 2) 1 (.int (h.I y23 2)) dX1_number_38 hk26 rfl (by decide) q178 (Or.inl rfl) rfl ?_
    refine s_icmp_ge 72 dX1_number_41 (by decide) (fun c27 => ?_) (fun c27 => ?_)
    · refine s_iload_n dX1_number_72 1 rfl ?_
      refine s_iload_n dX1_number_73 3 rfl ?_
      refine s_iload_n dX1_number_74 4 rfl ?_
      refine s_callSN_I (kX0_in G n K hK x22 y24 y25 h) (by decide) (by decide) dX1_number_75 q565 q336 q103 q337 hyX0_in rfl rfl (Nat.le_of_ble_eq_true rfl) (fun r28 h29 => ?_)
      refine s_if_ne 86 dX1_number_78 (by decide) (fun c30 => ?_) (fun c30 => ?_)
      · refine s_aload_n dX1_number_86 2 rfl ?_
        refine s_chk (fun hk33 => ?_)
        refine s_callT_V 1 (kX1_next G n K hK y23 h29) (by decide) (by decide) dX1_number_87 hk33 rfl rfl q353 q355 qs1 q104 q356 hyX1_next rfl rfl (Nat.le_of_ble_eq_true rfl) (fun r31 h32 => ?_)
        refine s_iload_n dX1_number_90 1 rfl ?_
        exact s_iret dX1_number_91 rfl rfl
      · refine s_aload_n dX1_number_81 2 rfl ?_
        refine s_chk (fun hk36 => ?_)
        refine s_callV_R 1 (kX1_wrong G n K hK y23 h29) (by decide) (by decide) dX1_number_82 hk36 rfl rfl q363 q365 qs2 q104 q366 hyX1_wrong rfl rfl (Nat.le_of_ble_eq_true rfl) (fun r34 h35 => ?_)
        refine s_ob (r := r34) (fun z => [(4, .int x21), (3, .int x22), (0, .ref y23), (1, .int y24), (2, .int y25)]) (fun z => [z]) (fun a37 => ?_)
        exact s_athrow dX1_number_85
    · refine s_sipush (1000 : Int32) dX1_number_44 (by decide) ?_
      refine s_bipush (10 : Int32) dX1_number_47 (by decide) ?_
      refine s_iload_n dX1_number_49 1 rfl ?_
      refine s_imul dX1_number_50 ?_
      refine s_aload_n dX1_number_51 2 rfl ?_
      refine s_get (j := 0) 1 (va_rf (h.R y23 0)) dX1_number_52 hk26 rfl (by decide) q176 (Or.inl rfl) rfl ?_
      refine s_iload dX1_number_55 0 rfl (by decide) ?_
      refine s_ob (r := h.R y23 0) (fun z => [(4, .int x21), (3, .int x22), (0, .ref y23), (1, .int y24), (2, .int y25)]) (fun z => [.int x21, z, .int ((10 : Int32) * x22), .int (1000 : Int32)]) (fun a38 => ?_)
      refine s_chk (fun hk39 => ?_)
      refine s_chk (fun hi40 => ?_)
      refine s_bald dX1_number_57 hk39 rfl hi40 ?_
      refine s_iadd dX1_number_58 ?_
      refine s_bipush (48 : Int32) dX1_number_59 (by decide) ?_
      refine s_isub dX1_number_61 ?_
      refine s_mmin dX1_number_62 (by decide) q564 q477 q116 q478 (Nat.le_of_ble_eq_true rfl) ?_
      refine s_istore_n [(3, .int (if ((((10 : Int32) * x22) + (h.I a38 (ix x21))) - (48 : Int32)) < (1000 : Int32) then ((((10 : Int32) * x22) + (h.I a38 (ix x21))) - (48 : Int32)) else (1000 : Int32))), (4, .int x21), (0, .ref y23), (1, .int y24), (2, .int y25)] dX1_number_65 (by decide) (by decide) rfl ?_
      refine s_iinc (1 : Int32) [(4, .int (x21 + (1 : Int32))), (3, .int (if ((((10 : Int32) * x22) + (h.I a38 (ix x21))) - (48 : Int32)) < (1000 : Int32) then ((((10 : Int32) * x22) + (h.I a38 (ix x21))) - (48 : Int32)) else (1000 : Int32))), (0, .ref y23), (1, .int y24), (2, .int y25)] dX1_number_66 1 rfl (by decide) (by decide) (by decide) rfl ?_
      refine s_goto 35 dX1_number_69 (by decide) ?_
      exact ih (x21 + (1 : Int32)) (if ((((10 : Int32) * x22) + (h.I a38 (ix x21))) - (48 : Int32)) < (1000 : Int32) then ((((10 : Int32) * x22) + (h.I a38 (ix x21))) - (48 : Int32)) else (1000 : Int32)) h
theorem kX1_number (G : Gl) (n : Nat) (K : Nat → Nat) (hK : K = G.ad) (p0 : Nat) (p1 : Int32) (p2 : Int32) (h : AH) : OkT G yX1_number cX1_number 5 (some .int) 7 (cvT cvI) [.ref p0, .int p1, .int p2] h (F_X1_number n K p0 p1 p2 h) := by
  refine okT_of_sim [(0, .ref p0), (1, .int p1), (2, .int p2)] (by decide +kernel) (by simp [uns, lv_args, lg_sl, catI, catL, catA, va_rfc]) (by simp [uns, lv_args, lg_sl, catI, catL, catA, va_rfc]) (by simp [uns, lv_args, lg_sl, catI, catL, catA, va_rfc]) ?_
  unfold F_X1_number
  refine s_aload_n dX1_number_0 0 rfl ?_
  refine s_chk (fun hk3 => ?_)
  refine s_callV_I 1 (kX1_isOver G n K hK p0 h) (by decide) (by decide) dX1_number_1 hk3 rfl rfl q454 q456 qs6 q104 q457 hyX1_isOver rfl rfl (Nat.le_of_ble_eq_true rfl) (fun r1 h2 => ?_)
  refine s_jn (fun j5 => ∀ (h4 : AH), Sim G yX1_number.cls yX1_number.name cX1_number 5 (some .int) 7 (cvT cvI) 22 [(0, .ref p0)] [] h4 (j5 h4)) ?_ (fun j5 hj10 => ?_)
  · intro h4
    refine s_aload_n dX1_number_22 0 rfl ?_
    refine s_chk (fun hk8 => ?_)
    refine s_callV_R 1 (kX1_wrong G n K hK p0 h4) (by decide) (by decide) dX1_number_23 hk8 rfl rfl q363 q365 qs2 q104 q366 hyX1_wrong rfl rfl (Nat.le_of_ble_eq_true rfl) (fun r6 h7 => ?_)
    refine s_ob (r := r6) (fun z => [(0, .ref p0)]) (fun z => [z]) (fun a9 => ?_)
    exact s_athrow dX1_number_26
  refine s_if_ne 22 dX1_number_4 (by decide) (fun c11 => ?_) (fun c11 => ?_)
  · refine s_sub [0] rfl ?_
    exact hj10 h2
  · refine s_aload_n dX1_number_7 0 rfl ?_
    refine s_chk (fun hk12 => ?_)
    refine s_get (j := 0) 1 (va_rf (h2.R p0 0)) dX1_number_8 hk12 rfl (by decide) q176 (Or.inl rfl) rfl ?_
    refine s_aload_n dX1_number_11 0 rfl ?_
    refine s_get (j := 3) 1 (.int (h2.I p0 3)) dX1_number_12 hk12 rfl (by decide) q179 (Or.inl rfl) rfl ?_
    refine s_ob (r := h2.R p0 0) (fun z => [(0, .ref p0), (1, .int p1), (2, .int p2)]) (fun z => [.int (h2.I p0 3), z]) (fun a13 => ?_)
    refine s_chk (fun hk14 => ?_)
    refine s_chk (fun hi15 => ?_)
    refine s_bald dX1_number_15 hk14 rfl hi15 ?_
    refine s_callS_I (kX1_isDigit G n K hK (h2.I a13 (ix (h2.I p0 3))) h2) (by decide) (by decide) dX1_number_16 q360 q361 q104 q362 hyX1_isDigit rfl rfl (Nat.le_of_ble_eq_true rfl) (fun r16 h17 => ?_)
    refine s_if_ne 27 dX1_number_19 (by decide) (fun c18 => ?_) (fun c18 => ?_)
    · refine s_iconst (0 : Int32) dX1_number_27 (by decide) ?_
      refine s_istore_n [(3, .int (0 : Int32)), (0, .ref p0), (1, .int p1), (2, .int p2)] dX1_number_28 (by decide) (by decide) rfl ?_
      refine s_aload_n dX1_number_29 1 rfl ?_
      refine s_chk (fun hk19 => ?_)
      refine s_get (j := 3) 1 (.int (h17.I p0 3)) dX1_number_30 hk19 rfl (by decide) q179 (Or.inl rfl) rfl ?_
      refine s_istore [(4, .int (h17.I p0 3)), (3, .int (0 : Int32)), (0, .ref p0), (1, .int p1), (2, .int p2)] dX1_number_33 (by decide) (by decide) rfl ?_
      exact sX1_number_L35 G n K hK p0 p1 p2 n (h17.I p0 3) (0 : Int32) h17
    · refine s_sub [0] rfl ?_
      exact hj10 h17
theorem hyX5_init : yX5_init.cls ≠ "java/lang/invoke/MethodHandle" ∧ yX5_init.cls ≠ "java/lang/invoke/VarHandle" ∧ (parseMethodDescriptor yX5_init.desc).map (fun d => d.parameters.length) = some 5 := by decide +kernel
theorem kX5_init (G : Gl) (n : Nat) (K : Nat → Nat) (hK : K = G.ad) (p0 : Nat) (p1 : Int32) (p2 : Int32) (p3 : Int32) (p4 : Int32) (p5 : Int32) (h : AH) : OkM G yX5_init cX5_init 6 none 1 cvV [.ref p0, .int p1, .int p2, .int p3, .int p4, .int p5] h (F_X5_init n K p0 p1 p2 p3 p4 p5 h) := by
  refine ok_of_sim [(0, .ref p0), (1, .int p1), (2, .int p2), (3, .int p3), (4, .int p4), (5, .int p5)] (by decide +kernel) (fun r => ⟨_, rfl⟩) (by simp [uns, lv_args, lg_sl, catI, catL, catA, va_rfc]) (by simp [uns, lv_args, lg_sl, catI, catL, catA, va_rfc]) (by simp [uns, lv_args, lg_sl, catI, catL, catA, va_rfc]) ?_
  unfold F_X5_init
  refine s_aload_n dX5_init_0 0 rfl ?_
  refine s_objInit dX5_init_1 q583 q141 q142 (by decide) (Nat.le_of_ble_eq_true rfl) ?_
  refine s_aload_n dX5_init_4 0 rfl ?_
  refine s_iload_n dX5_init_5 1 rfl ?_
  refine s_chk (fun hk1 => ?_)
  refine s_putV (j := 3) dX5_init_6 hk1 (by decide) q590 (by decide) ?_
  refine s_hl (fun h2 e3 => ?_)
  refine s_aload_n dX5_init_9 0 rfl ?_
  refine s_iload_n dX5_init_10 2 rfl ?_
  refine s_putV (j := 4) dX5_init_11 (show 7 ≤ h2.kind p0 ∧ h2.kind p0 ≤ 10 by rw [e3]; exact hk1) (by decide) q592 (by decide) ?_
  refine s_hl (fun h4 e5 => ?_)
  refine s_aload_n dX5_init_14 0 rfl ?_
  refine s_iload_n dX5_init_15 3 rfl ?_
  refine s_putVF (j := 0) dX5_init_16 (show 7 ≤ h4.kind p0 ∧ h4.kind p0 ≤ 10 by rw [e5, e3]; exact hk1) (by decide) q584 (by decide) rfl rfl ?_
  refine s_hl (fun h6 e7 => ?_)
  refine s_aload_n dX5_init_19 0 rfl ?_
  refine s_iload dX5_init_20 4 rfl (by decide) ?_
  refine s_putVF (j := 1) dX5_init_22 (show 7 ≤ h6.kind p0 ∧ h6.kind p0 ≤ 10 by rw [e7, e5, e3]; exact hk1) (by decide) q586 (by decide) rfl rfl ?_
  refine s_hl (fun h8 e9 => ?_)
  refine s_aload_n dX5_init_25 0 rfl ?_
  refine s_iload dX5_init_26 5 rfl (by decide) ?_
  refine s_putVF (j := 2) dX5_init_28 (show 7 ≤ h8.kind p0 ∧ h8.kind p0 ≤ 10 by rw [e9, e7, e5, e3]; exact hk1) (by decide) q588 (by decide) rfl rfl ?_
  refine s_hl (fun h10 e11 => ?_)
  exact s_vret dX5_init_31 rfl rfl
theorem hyX6_init : yX6_init.cls ≠ "java/lang/invoke/MethodHandle" ∧ yX6_init.cls ≠ "java/lang/invoke/VarHandle" ∧ (parseMethodDescriptor yX6_init.desc).map (fun d => d.parameters.length) = some 5 := by decide +kernel
theorem kX6_init (G : Gl) (n : Nat) (K : Nat → Nat) (hK : K = G.ad) (p0 : Nat) (p1 : Int32) (p2 : Int32) (p3 : Int32) (p4 : Int32) (p5 : Int32) (h : AH) : OkM G yX6_init cX6_init 6 none 2 cvV [.ref p0, .int p1, .int p2, .int p3, .int p4, .int p5] h (F_X6_init n K p0 p1 p2 p3 p4 p5 h) := by
  refine ok_of_sim [(0, .ref p0), (1, .int p1), (2, .int p2), (3, .int p3), (4, .int p4), (5, .int p5)] (by decide +kernel) (fun r => ⟨_, rfl⟩) (by simp [uns, lv_args, lg_sl, catI, catL, catA, va_rfc]) (by simp [uns, lv_args, lg_sl, catI, catL, catA, va_rfc]) (by simp [uns, lv_args, lg_sl, catI, catL, catA, va_rfc]) ?_
  unfold F_X6_init
  refine s_aload_n dX6_init_0 0 rfl ?_
  refine s_iload_n dX6_init_1 1 rfl ?_
  refine s_iload_n dX6_init_2 2 rfl ?_
  refine s_iload_n dX6_init_3 3 rfl ?_
  refine s_iload dX6_init_4 4 rfl (by decide) ?_
  refine s_iload dX6_init_6 5 rfl (by decide) ?_
  refine s_callI_V (kX5_init G n K hK p0 p1 p2 p3 p4 p5 h) (by decide) (by decide) dX6_init_8 q580 q581 q120 q582 rfl hyX5_init rfl rfl (Nat.le_of_ble_eq_true rfl) (fun r1 h2 => ?_)
  exact s_vret dX6_init_11 rfl rfl
theorem hyX7_init : yX7_init.cls ≠ "java/lang/invoke/MethodHandle" ∧ yX7_init.cls ≠ "java/lang/invoke/VarHandle" ∧ (parseMethodDescriptor yX7_init.desc).map (fun d => d.parameters.length) = some 5 := by decide +kernel
theorem kX7_init (G : Gl) (n : Nat) (K : Nat → Nat) (hK : K = G.ad) (p0 : Nat) (p1 : Int32) (p2 : Int32) (p3 : Int32) (p4 : Int32) (p5 : Int32) (h : AH) : OkM G yX7_init cX7_init 6 none 2 cvV [.ref p0, .int p1, .int p2, .int p3, .int p4, .int p5] h (F_X7_init n K p0 p1 p2 p3 p4 p5 h) := by
  refine ok_of_sim [(0, .ref p0), (1, .int p1), (2, .int p2), (3, .int p3), (4, .int p4), (5, .int p5)] (by decide +kernel) (fun r => ⟨_, rfl⟩) (by simp [uns, lv_args, lg_sl, catI, catL, catA, va_rfc]) (by simp [uns, lv_args, lg_sl, catI, catL, catA, va_rfc]) (by simp [uns, lv_args, lg_sl, catI, catL, catA, va_rfc]) ?_
  unfold F_X7_init
  refine s_aload_n dX7_init_0 0 rfl ?_
  refine s_iload_n dX7_init_1 1 rfl ?_
  refine s_iload_n dX7_init_2 2 rfl ?_
  refine s_iload_n dX7_init_3 3 rfl ?_
  refine s_iload dX7_init_4 4 rfl (by decide) ?_
  refine s_iload dX7_init_6 5 rfl (by decide) ?_
  refine s_callI_V (kX5_init G n K hK p0 p1 p2 p3 p4 p5 h) (by decide) (by decide) dX7_init_8 q610 q581 q120 q582 rfl hyX5_init rfl rfl (Nat.le_of_ble_eq_true rfl) (fun r1 h2 => ?_)
  exact s_vret dX7_init_11 rfl rfl
theorem hyX8_init : yX8_init.cls ≠ "java/lang/invoke/MethodHandle" ∧ yX8_init.cls ≠ "java/lang/invoke/VarHandle" ∧ (parseMethodDescriptor yX8_init.desc).map (fun d => d.parameters.length) = some 5 := by decide +kernel
theorem kX8_init (G : Gl) (n : Nat) (K : Nat → Nat) (hK : K = G.ad) (p0 : Nat) (p1 : Int32) (p2 : Int32) (p3 : Int32) (p4 : Int32) (p5 : Int32) (h : AH) : OkM G yX8_init cX8_init 6 none 3 cvV [.ref p0, .int p1, .int p2, .int p3, .int p4, .int p5] h (F_X8_init n K p0 p1 p2 p3 p4 p5 h) := by
  refine ok_of_sim [(0, .ref p0), (1, .int p1), (2, .int p2), (3, .int p3), (4, .int p4), (5, .int p5)] (by decide +kernel) (fun r => ⟨_, rfl⟩) (by simp [uns, lv_args, lg_sl, catI, catL, catA, va_rfc]) (by simp [uns, lv_args, lg_sl, catI, catL, catA, va_rfc]) (by simp [uns, lv_args, lg_sl, catI, catL, catA, va_rfc]) ?_
  unfold F_X8_init
  refine s_aload_n dX8_init_0 0 rfl ?_
  refine s_iload_n dX8_init_1 1 rfl ?_
  refine s_iload_n dX8_init_2 2 rfl ?_
  refine s_iload_n dX8_init_3 3 rfl ?_
  refine s_iload dX8_init_4 4 rfl (by decide) ?_
  refine s_iload dX8_init_6 5 rfl (by decide) ?_
  refine s_callI_V (kX7_init G n K hK p0 p1 p2 p3 p4 p5 h) (by decide) (by decide) dX8_init_8 q622 q608 q122 q609 rfl hyX7_init rfl rfl (Nat.le_of_ble_eq_true rfl) (fun r1 h2 => ?_)
  exact s_vret dX8_init_11 rfl rfl
theorem hyX9_init : yX9_init.cls ≠ "java/lang/invoke/MethodHandle" ∧ yX9_init.cls ≠ "java/lang/invoke/VarHandle" ∧ (parseMethodDescriptor yX9_init.desc).map (fun d => d.parameters.length) = some 5 := by decide +kernel
theorem kX9_init (G : Gl) (n : Nat) (K : Nat → Nat) (hK : K = G.ad) (p0 : Nat) (p1 : Int32) (p2 : Int32) (p3 : Int32) (p4 : Int32) (p5 : Int32) (h : AH) : OkM G yX9_init cX9_init 6 none 3 cvV [.ref p0, .int p1, .int p2, .int p3, .int p4, .int p5] h (F_X9_init n K p0 p1 p2 p3 p4 p5 h) := by
  refine ok_of_sim [(0, .ref p0), (1, .int p1), (2, .int p2), (3, .int p3), (4, .int p4), (5, .int p5)] (by decide +kernel) (fun r => ⟨_, rfl⟩) (by simp [uns, lv_args, lg_sl, catI, catL, catA, va_rfc]) (by simp [uns, lv_args, lg_sl, catI, catL, catA, va_rfc]) (by simp [uns, lv_args, lg_sl, catI, catL, catA, va_rfc]) ?_
  unfold F_X9_init
  refine s_aload_n dX9_init_0 0 rfl ?_
  refine s_iload_n dX9_init_1 1 rfl ?_
  refine s_iload_n dX9_init_2 2 rfl ?_
  refine s_iload_n dX9_init_3 3 rfl ?_
  refine s_iload dX9_init_4 4 rfl (by decide) ?_
  refine s_iload dX9_init_6 5 rfl (by decide) ?_
  refine s_callI_V (kX7_init G n K hK p0 p1 p2 p3 p4 p5 h) (by decide) (by decide) dX9_init_8 q634 q608 q122 q609 rfl hyX7_init rfl rfl (Nat.le_of_ble_eq_true rfl) (fun r1 h2 => ?_)
  exact s_vret dX9_init_11 rfl rfl
theorem hyX1_made : yX1_made.cls ≠ "java/lang/invoke/MethodHandle" ∧ yX1_made.cls ≠ "java/lang/invoke/VarHandle" ∧ (parseMethodDescriptor yX1_made.desc).map (fun d => d.parameters.length) = some 3 := by decide +kernel
theorem kX1_made (G : Gl) (n : Nat) (K : Nat → Nat) (hK : K = G.ad) (p0 : Nat) (p1 : Int32) (p2 : Int32) (p3 : Int32) (h : AH) : OkM G yX1_made cX1_made 4 (some (.object "MiddleSheet$Voter")) 4 cvR [.ref p0, .int p1, .int p2, .int p3] h (F_X1_made n K p0 p1 p2 p3 h) := by
  refine ok_of_sim [(0, .ref p0), (1, .int p1), (2, .int p2), (3, .int p3)] (by decide +kernel) (fun r => ⟨_, rfl⟩) (by simp [uns, lv_args, lg_sl, catI, catL, catA, va_rfc]) (by simp [uns, lv_args, lg_sl, catI, catL, catA, va_rfc]) (by simp [uns, lv_args, lg_sl, catI, catL, catA, va_rfc]) ?_
  unfold F_X1_made
  refine s_aload_n dX1_made_0 0 rfl ?_
  refine s_chk (fun hk1 => ?_)
  refine s_get (j := 4) 1 (.int (h.I p0 4)) dX1_made_1 hk1 rfl (by decide) q180 (Or.inl rfl) rfl ?_
  refine s_ite (fun c2 => ?_) (fun c2 => ?_)
  · refine s_tblIn (0 : Int32) 32 c2 dX1_made_4 (by decide) (by decide) rfl (by decide) ?_
    refine s_new 6 dX1_made_32 rfl q575 q576 q121 ?_
    refine s_hl (fun h3 e4 => ?_)
    refine s_dup dX1_made_35 rfl ?_
    refine s_iload_n dX1_made_36 1 rfl ?_
    refine s_iload_n dX1_made_37 2 rfl ?_
    refine s_iload_n dX1_made_38 3 rfl ?_
    refine s_aload_n dX1_made_39 0 rfl ?_
    refine s_chk (fun hk5 => ?_)
    refine s_get (j := 5) 1 (.int (h3.I p0 5)) dX1_made_40 hk5 rfl (by decide) q181 (Or.inl rfl) rfl ?_
    refine s_aload_n dX1_made_43 0 rfl ?_
    refine s_get (j := 6) 1 (.int (h3.I p0 6)) dX1_made_44 hk5 rfl (by decide) q182 (Or.inl rfl) rfl ?_
    refine s_callI_V (kX6_init G n K hK h.n p1 p2 p3 (h3.I p0 5) (h3.I p0 6) h3) (by decide) (by decide) dX1_made_47 q577 q578 q121 q579 rfl hyX6_init rfl rfl (Nat.le_of_ble_eq_true rfl) (fun r6 h7 => ?_)
    exact s_aret (v := (some h.n)) dX1_made_50 rfl (Or.inl ⟨_, rfl⟩) rfl
  refine s_ite (fun c8 => ?_) (fun c8 => ?_)
  · refine s_tblIn (1 : Int32) 51 c8 dX1_made_4 (by decide) (by decide) rfl (by decide) ?_
    refine s_new 7 dX1_made_51 rfl q605 q606 q122 ?_
    refine s_hl (fun h9 e10 => ?_)
    refine s_dup dX1_made_54 rfl ?_
    refine s_iload_n dX1_made_55 1 rfl ?_
    refine s_iload_n dX1_made_56 2 rfl ?_
    refine s_iload_n dX1_made_57 3 rfl ?_
    refine s_aload_n dX1_made_58 0 rfl ?_
    refine s_chk (fun hk11 => ?_)
    refine s_get (j := 5) 1 (.int (h9.I p0 5)) dX1_made_59 hk11 rfl (by decide) q181 (Or.inl rfl) rfl ?_
    refine s_aload_n dX1_made_62 0 rfl ?_
    refine s_get (j := 6) 1 (.int (h9.I p0 6)) dX1_made_63 hk11 rfl (by decide) q182 (Or.inl rfl) rfl ?_
    refine s_callI_V (kX7_init G n K hK h.n p1 p2 p3 (h9.I p0 5) (h9.I p0 6) h9) (by decide) (by decide) dX1_made_66 q607 q608 q122 q609 rfl hyX7_init rfl rfl (Nat.le_of_ble_eq_true rfl) (fun r12 h13 => ?_)
    exact s_aret (v := (some h.n)) dX1_made_69 rfl (Or.inl ⟨_, rfl⟩) rfl
  refine s_ite (fun c14 => ?_) (fun c14 => ?_)
  · refine s_tblIn (2 : Int32) 70 c14 dX1_made_4 (by decide) (by decide) rfl (by decide) ?_
    refine s_new 8 dX1_made_70 rfl q617 q618 q123 ?_
    refine s_hl (fun h15 e16 => ?_)
    refine s_dup dX1_made_73 rfl ?_
    refine s_iload_n dX1_made_74 1 rfl ?_
    refine s_iload_n dX1_made_75 2 rfl ?_
    refine s_iload_n dX1_made_76 3 rfl ?_
    refine s_aload_n dX1_made_77 0 rfl ?_
    refine s_chk (fun hk17 => ?_)
    refine s_get (j := 5) 1 (.int (h15.I p0 5)) dX1_made_78 hk17 rfl (by decide) q181 (Or.inl rfl) rfl ?_
    refine s_aload_n dX1_made_81 0 rfl ?_
    refine s_get (j := 6) 1 (.int (h15.I p0 6)) dX1_made_82 hk17 rfl (by decide) q182 (Or.inl rfl) rfl ?_
    refine s_callI_V (kX8_init G n K hK h.n p1 p2 p3 (h15.I p0 5) (h15.I p0 6) h15) (by decide) (by decide) dX1_made_85 q619 q620 q123 q621 rfl hyX8_init rfl rfl (Nat.le_of_ble_eq_true rfl) (fun r18 h19 => ?_)
    exact s_aret (v := (some h.n)) dX1_made_88 rfl (Or.inl ⟨_, rfl⟩) rfl
  have zc2 := lv_neT c2 (a := 0) rfl
  have zc8 := lv_neT c8 (a := 1) rfl
  have zc14 := lv_neT c14 (a := 2) rfl
  refine s_tblOut 89 dX1_made_4 (by omega) (by decide) ?_
  refine s_new 9 dX1_made_89 rfl q629 q630 q124 ?_
  refine s_hl (fun h20 e21 => ?_)
  refine s_dup dX1_made_92 rfl ?_
  refine s_iload_n dX1_made_93 1 rfl ?_
  refine s_iload_n dX1_made_94 2 rfl ?_
  refine s_iload_n dX1_made_95 3 rfl ?_
  refine s_aload_n dX1_made_96 0 rfl ?_
  refine s_chk (fun hk22 => ?_)
  refine s_get (j := 5) 1 (.int (h20.I p0 5)) dX1_made_97 hk22 rfl (by decide) q181 (Or.inl rfl) rfl ?_
  refine s_aload_n dX1_made_100 0 rfl ?_
  refine s_get (j := 6) 1 (.int (h20.I p0 6)) dX1_made_101 hk22 rfl (by decide) q182 (Or.inl rfl) rfl ?_
  refine s_callI_V (kX9_init G n K hK h.n p1 p2 p3 (h20.I p0 5) (h20.I p0 6) h20) (by decide) (by decide) dX1_made_104 q631 q632 q124 q633 rfl hyX9_init rfl rfl (Nat.le_of_ble_eq_true rfl) (fun r23 h24 => ?_)
  exact s_aret (v := (some h.n)) dX1_made_107 rfl (Or.inl ⟨_, rfl⟩) rfl
theorem hyJ12_newLength : yJ12_newLength.cls ≠ "java/lang/invoke/MethodHandle" ∧ yJ12_newLength.cls ≠ "java/lang/invoke/VarHandle" ∧ (parseMethodDescriptor yJ12_newLength.desc).map (fun d => d.parameters.length) = some 3 := by decide +kernel
theorem kJ12_newLength (G : Gl) (n : Nat) (K : Nat → Nat) (hK : K = G.ad) (p0 : Int32) (p1 : Int32) (p2 : Int32) (h : AH) : OkM G yJ12_newLength cJ12_newLength 4 (some .int) 1 cvI [.int p0, .int p1, .int p2] h (F_J12_newLength n K p0 p1 p2 h) := by
  refine ok_of_sim [(0, .int p0), (1, .int p1), (2, .int p2)] (by decide +kernel) (fun r => ⟨_, rfl⟩) (by simp [uns, lv_args, lg_sl, catI, catL, catA, va_rfc]) (by simp [uns, lv_args, lg_sl, catI, catL, catA, va_rfc]) (by simp [uns, lv_args, lg_sl, catI, catL, catA, va_rfc]) ?_
  unfold F_J12_newLength
  refine s_iload_n dJ12_newLength_0 0 rfl ?_
  refine s_iload_n dJ12_newLength_1 1 rfl ?_
  refine s_iload_n dJ12_newLength_2 2 rfl ?_
  refine s_mmax dJ12_newLength_3 (by decide) q660 q474 q116 q475 (Nat.le_of_ble_eq_true rfl) ?_
  refine s_iadd dJ12_newLength_6 ?_
  refine s_istore_n [(3, .int (p0 + (if p1 < p2 then p2 else p1))), (0, .int p0), (1, .int p1), (2, .int p2)] dJ12_newLength_7 (by decide) (by decide) rfl ?_
  refine s_iconst (0 : Int32) dJ12_newLength_8 (by decide) ?_
  refine s_iload_n dJ12_newLength_9 0 rfl ?_
  refine s_jn (fun j1 => Sim G yJ12_newLength.cls yJ12_newLength.name cJ12_newLength 4 (some .int) 1 cvI 21 [(0, .int p0), (1, .int p1)] [] h (j1 )) ?_ (fun j1 hj2 => ?_)
  · skip
    refine s_iload_n dJ12_newLength_21 0 rfl ?_
    refine s_iload_n dJ12_newLength_22 1 rfl ?_
    exact s_none
  refine s_icmp_ge 21 dJ12_newLength_10 (by decide) (fun c3 => ?_) (fun c3 => ?_)
  · refine s_sub [1, 2] rfl ?_
    exact hj2
  · refine s_iload_n dJ12_newLength_13 0 rfl ?_
    refine s_ldc (v := (2147483639 : Int32)) dJ12_newLength_14 q661 ?_
    refine s_icmp_gt 21 dJ12_newLength_16 (by decide) (fun c4 => ?_) (fun c4 => ?_)
    · refine s_sub [1, 2] rfl ?_
      exact hj2
    · refine s_iload_n dJ12_newLength_19 0 rfl ?_
      exact s_iret dJ12_newLength_20 rfl rfl
theorem hyJ13_copyOf_2 : yJ13_copyOf_2.cls ≠ "java/lang/invoke/MethodHandle" ∧ yJ13_copyOf_2.cls ≠ "java/lang/invoke/VarHandle" ∧ (parseMethodDescriptor yJ13_copyOf_2.desc).map (fun d => d.parameters.length) = some 3 := by decide +kernel
theorem kJ13_copyOf_2 (G : Gl) (n : Nat) (K : Nat → Nat) (hK : K = G.ad) (p0 : Option Nat) (p1 : Int32) (p2 : Option Nat) (h : AH) : OkM G yJ13_copyOf_2 cJ13_copyOf_2 4 (some (.array (.object "java/lang/Object"))) 1 cvR [va_rf p0, .int p1, va_rf p2] h (F_J13_copyOf_2 n K p0 p1 p2 h) := by
  refine ok_of_sim [(0, va_rf p0), (1, .int p1), (2, va_rf p2)] (by decide +kernel) (fun r => ⟨_, rfl⟩) (by simp [uns, lv_args, lg_sl, catI, catL, catA, va_rfc]) (by simp [uns, lv_args, lg_sl, catI, catL, catA, va_rfc]) (by simp [uns, lv_args, lg_sl, catI, catL, catA, va_rfc]) ?_
  unfold F_J13_copyOf_2
  refine s_oload_n dJ13_copyOf_2_0 2 rfl ?_
  refine s_ldcM dJ13_copyOf_2_1 q689 hK ?_
  refine s_jn (fun j3 => ∀ (x1 : Option Nat) (h2 : AH), Sim G yJ13_copyOf_2.cls yJ13_copyOf_2.name cJ13_copyOf_2 4 (some (.array (.object "java/lang/Object"))) 1 cvR 24 [(0, va_rf p0), (1, .int p1)] [va_rf x1] h2 (j3 x1 h2)) ?_ (fun j3 hj12 => ?_)
  · intro x1 h2
    refine s_ostore_n [(3, va_rf x1), (0, va_rf p0), (1, .int p1)] dJ13_copyOf_2_24 (by decide) (by decide) rfl ?_
    refine s_oload_n dJ13_copyOf_2_25 1 rfl ?_
    refine s_iconst (0 : Int32) dJ13_copyOf_2_26 (by decide) ?_
    refine s_oload_n dJ13_copyOf_2_27 0 rfl ?_
    refine s_iconst (0 : Int32) dJ13_copyOf_2_28 (by decide) ?_
    refine s_oload_n dJ13_copyOf_2_29 1 rfl ?_
    refine s_ob (r := p0) (fun z => [(3, va_rf x1), (0, z), (1, .int p1)]) (fun z => [z, .int (0 : Int32), va_rf x1, .int (0 : Int32), z]) (fun a4 => ?_)
    refine s_chk (fun hk5 => ?_)
    refine s_alen dJ13_copyOf_2_30 hk5 rfl ?_
    refine s_iload_n dJ13_copyOf_2_31 2 rfl ?_
    refine s_mmin dJ13_copyOf_2_32 (by decide) q692 q477 q116 q478 (by simp [catI, catL, catA, va_rfc]) ?_
    refine s_ob (r := x1) (fun z => [(3, z), (0, .ref a4), (1, .int p1)]) (fun z => [.int (if p1 < (nI (h2.len a4)) then p1 else (nI (h2.len a4))), .int (0 : Int32), z, .int (0 : Int32), .ref a4]) (fun a6 => ?_)
    refine s_chk (fun hk7 => ?_)
    refine s_chk (fun hc8 => ?_)
    refine s_chk (fun he9 => ?_)
    refine s_acopy dJ13_copyOf_2_35 (by decide) q693 q695 q694 q127 hk5 hk7 hc8 he9 (Nat.le_of_ble_eq_true rfl) ?_
    refine s_hl (fun h10 e11 => ?_)
    refine s_aload_n dJ13_copyOf_2_38 0 rfl ?_
    exact s_aret (v := (some a6)) dJ13_copyOf_2_39 rfl (Or.inr ⟨_, rfl⟩) rfl
  refine s_acmp_ne (rx := p2) (ry := (some (K 203))) 13 dJ13_copyOf_2_3 (by decide) (fun c13 => ?_) (fun c13 => ?_)
  · refine s_oload_n dJ13_copyOf_2_13 2 rfl ?_
    exact s_none
  · refine s_iload_n dJ13_copyOf_2_6 1 rfl ?_
    refine s_chk (fun hn14 => ?_)
    refine s_anewO dJ13_copyOf_2_7 q691 hn14 ?_
    refine s_hl (fun h15 e16 => ?_)
    refine s_goto 24 dJ13_copyOf_2_10 (by decide) ?_
    refine s_sub [0, 1] rfl ?_
    exact hj12 (some h.n) h15
theorem hyJ13_copyOf : yJ13_copyOf.cls ≠ "java/lang/invoke/MethodHandle" ∧ yJ13_copyOf.cls ≠ "java/lang/invoke/VarHandle" ∧ (parseMethodDescriptor yJ13_copyOf.desc).map (fun d => d.parameters.length) = some 2 := by decide +kernel
theorem kJ13_copyOf (G : Gl) (n : Nat) (K : Nat → Nat) (hK : K = G.ad) (p0 : Option Nat) (p1 : Int32) (h : AH) : OkM G yJ13_copyOf cJ13_copyOf 2 (some (.array (.object "java/lang/Object"))) 2 cvR [va_rf p0, .int p1] h (F_J13_copyOf n K p0 p1 h) := by
  refine ok_of_sim [(0, va_rf p0), (1, .int p1)] (by decide +kernel) (fun r => ⟨_, rfl⟩) (by simp [uns, lv_args, lg_sl, catI, catL, catA, va_rfc]) (by simp [uns, lv_args, lg_sl, catI, catL, catA, va_rfc]) (by simp [uns, lv_args, lg_sl, catI, catL, catA, va_rfc]) ?_
  unfold F_J13_copyOf
  refine s_oload_n dJ13_copyOf_0 0 rfl ?_
  refine s_iload_n dJ13_copyOf_1 1 rfl ?_
  refine s_oload_n dJ13_copyOf_2 0 rfl ?_
  refine s_ob (r := p0) (fun z => [(0, z), (1, .int p1)]) (fun z => [z, .int p1, z]) (fun a1 => ?_)
  refine s_chk (fun hk2 => ?_)
  refine s_getC dJ13_copyOf_3 (by decide) q668 q669 q685 hK hk2 (Nat.le_of_ble_eq_true rfl) ?_
  refine s_callS_R (kJ13_copyOf_2 G n K hK (some a1) p1 (some (K 203)) h) (by decide) (by decide) dJ13_copyOf_6 q686 q687 q126 q688 hyJ13_copyOf_2 rfl rfl (Nat.le_of_ble_eq_true rfl) (fun r3 h4 => ?_)
  exact s_aret (v := r3) dJ13_copyOf_9 rfl (Or.inr ⟨_, rfl⟩) rfl
theorem hyJ2_grow_2 : yJ2_grow_2.cls ≠ "java/lang/invoke/MethodHandle" ∧ yJ2_grow_2.cls ≠ "java/lang/invoke/VarHandle" ∧ (parseMethodDescriptor yJ2_grow_2.desc).map (fun d => d.parameters.length) = some 1 := by decide +kernel
theorem kJ2_grow_2 (G : Gl) (n : Nat) (K : Nat → Nat) (hK : K = G.ad) (p0 : Nat) (p1 : Int32) (h : AH) : OkM G yJ2_grow_2 cJ2_grow_2 4 (some (.array (.object "java/lang/Object"))) 3 cvR [.ref p0, .int p1] h (F_J2_grow_2 n K p0 p1 h) := by
  refine ok_of_sim [(0, .ref p0), (1, .int p1)] (by decide +kernel) (fun r => ⟨_, rfl⟩) (by simp [uns, lv_args, lg_sl, catI, catL, catA, va_rfc]) (by simp [uns, lv_args, lg_sl, catI, catL, catA, va_rfc]) (by simp [uns, lv_args, lg_sl, catI, catL, catA, va_rfc]) ?_
  unfold F_J2_grow_2
  refine s_aload_n dJ2_grow_2_0 0 rfl ?_
  refine s_chk (fun hk1 => ?_)
  refine s_get (j := 1) 2 (va_rf (h.R p0 1)) dJ2_grow_2_1 hk1 rfl (by decide) q163 (Or.inl rfl) rfl ?_
  refine s_ob (r := h.R p0 1) (fun z => [(0, .ref p0), (1, .int p1)]) (fun z => [z]) (fun a2 => ?_)
  refine s_chk (fun hk3 => ?_)
  refine s_alenO dJ2_grow_2_4 hk3 ?_
  refine s_istore_n [(2, .int (nI (h.len a2))), (0, .ref p0), (1, .int p1)] dJ2_grow_2_5 (by decide) (by decide) rfl ?_
  refine s_iload_n dJ2_grow_2_6 0 rfl ?_
  refine s_jn (fun j4 => Sim G yJ2_grow_2.cls yJ2_grow_2.name cJ2_grow_2 4 (some (.array (.object "java/lang/Object"))) 3 cvR 20 [(2, .int (nI (h.len a2))), (0, .ref p0), (1, .int p1)] [] h (j4 )) ?_ (fun j4 hj13 => ?_)
  · skip
    refine s_iload_n dJ2_grow_2_20 0 rfl ?_
    refine s_iload_n dJ2_grow_2_21 2 rfl ?_
    refine s_iload_n dJ2_grow_2_22 0 rfl ?_
    refine s_isub dJ2_grow_2_23 ?_
    refine s_iload_n dJ2_grow_2_24 0 rfl ?_
    refine s_iconst (1 : Int32) dJ2_grow_2_25 (by decide) ?_
    refine s_ishr dJ2_grow_2_26 ?_
    refine s_callS_I (kJ12_newLength G n K hK (nI (h.len a2)) (p1 - (nI (h.len a2))) ((nI (h.len a2)) >>> ((1 : Int32) &&& 31)) h) (by decide) (by decide) dJ2_grow_2_27 q657 q658 q125 q659 hyJ12_newLength rfl rfl (Nat.le_of_ble_eq_true rfl) (fun r5 h6 => ?_)
    refine s_istore_n [(3, .int r5), (2, .int (nI (h.len a2))), (0, .ref p0), (1, .int p1)] dJ2_grow_2_30 (by decide) (by decide) rfl ?_
    refine s_aload_n dJ2_grow_2_31 2 rfl ?_
    refine s_aload_n dJ2_grow_2_32 2 rfl ?_
    refine s_chk (fun hk7 => ?_)
    refine s_get (j := 1) 2 (va_rf (h6.R p0 1)) dJ2_grow_2_33 hk7 rfl (by decide) q163 (Or.inl rfl) rfl ?_
    refine s_iload_n dJ2_grow_2_36 0 rfl ?_
    refine s_callS_R (kJ13_copyOf G n K hK (h6.R p0 1) r5 h6) (by decide) (by decide) dJ2_grow_2_37 q665 q666 q126 q667 hyJ13_copyOf rfl rfl (Nat.le_of_ble_eq_true rfl) (fun r8 h9 => ?_)
    refine s_dup_x1 dJ2_grow_2_40 (va_rfc _) rfl ?_
    refine s_chk (fun hk10 => ?_)
    refine s_put (j := 1) 2 (v := va_rf r8) dJ2_grow_2_41 hk10 rfl (by decide) q163 (Or.inl rfl) rfl (nr02 _ _) (fr02 _ _) (Upd.r (fun _ => rfl)) ?_
    refine s_hl (fun h11 e12 => ?_)
    exact s_aret (v := r8) dJ2_grow_2_44 rfl (Or.inr ⟨_, rfl⟩) rfl
  refine s_if_gt 20 dJ2_grow_2_7 (by decide) (fun c14 => ?_) (fun c14 => ?_)
  · exact hj13
  · refine s_aload_n dJ2_grow_2_10 1 rfl ?_
    refine s_get (j := 1) 2 (va_rf (h.R p0 1)) dJ2_grow_2_11 hk1 rfl (by decide) q163 (Or.inl rfl) rfl ?_
    refine s_gets (v := .ref (K 0)) dJ2_grow_2_14 q161 (fun s hg => by rw [hK]; exact hg.2.2.2.2.2.2.1.1) ?_
    refine s_acmp_eq (rx := (h.R p0 1)) (ry := (some (K 0))) 45 dJ2_grow_2_17 (by decide) (fun c15 => ?_) (fun c15 => ?_)
    · refine s_aload_n dJ2_grow_2_45 1 rfl ?_
      refine s_bipush (10 : Int32) dJ2_grow_2_46 (by decide) ?_
      refine s_iload_n dJ2_grow_2_48 2 rfl ?_
      refine s_mmax dJ2_grow_2_49 (by decide) q696 q474 q116 q475 (Nat.le_of_ble_eq_true rfl) ?_
      refine s_chk (fun hn16 => ?_)
      refine s_anewO dJ2_grow_2_52 q697 hn16 ?_
      refine s_hl (fun h17 e18 => ?_)
      refine s_dup_x1 dJ2_grow_2_55 rfl rfl ?_
      refine s_chk (fun hk19 => ?_)
      refine s_put (j := 1) 2 (v := va_rf (some h.n)) dJ2_grow_2_56 hk19 rfl (by decide) q163 (Or.inl rfl) rfl rfl rfl (Upd.r (fun _ => rfl)) ?_
      refine s_hl (fun h20 e21 => ?_)
      exact s_aret (v := (some h.n)) dJ2_grow_2_59 rfl (Or.inr ⟨_, rfl⟩) rfl
    · exact hj13
theorem hyJ2_grow : yJ2_grow.cls ≠ "java/lang/invoke/MethodHandle" ∧ yJ2_grow.cls ≠ "java/lang/invoke/VarHandle" ∧ (parseMethodDescriptor yJ2_grow.desc).map (fun d => d.parameters.length) = some 0 := by decide +kernel
theorem kJ2_grow (G : Gl) (n : Nat) (K : Nat → Nat) (hK : K = G.ad) (p0 : Nat) (h : AH) : OkM G yJ2_grow cJ2_grow 1 (some (.array (.object "java/lang/Object"))) 4 cvR [.ref p0] h (F_J2_grow n K p0 h) := by
  refine ok_of_sim [(0, .ref p0)] (by decide +kernel) (fun r => ⟨_, rfl⟩) (by simp [uns, lv_args, lg_sl, catI, catL, catA, va_rfc]) (by simp [uns, lv_args, lg_sl, catI, catL, catA, va_rfc]) (by simp [uns, lv_args, lg_sl, catI, catL, catA, va_rfc]) ?_
  unfold F_J2_grow
  refine s_aload_n dJ2_grow_0 0 rfl ?_
  refine s_aload_n dJ2_grow_1 0 rfl ?_
  refine s_chk (fun hk1 => ?_)
  refine s_get (j := 2) 2 (.int (h.I p0 2)) dJ2_grow_2 hk1 rfl (by decide) q164 (Or.inl rfl) rfl ?_
  refine s_iconst (1 : Int32) dJ2_grow_5 (by decide) ?_
  refine s_iadd dJ2_grow_6 ?_
  refine s_callV_R 2 (kJ2_grow_2 G n K hK p0 ((h.I p0 2) + (1 : Int32)) h) (by decide) (by decide) dJ2_grow_7 hk1 rfl rfl q653 q655 qs13 q107 q656 hyJ2_grow_2 rfl rfl (Nat.le_of_ble_eq_true rfl) (fun r2 h3 => ?_)
  exact s_aret (v := r2) dJ2_grow_10 rfl (Or.inr ⟨_, rfl⟩) rfl
theorem hyJ2_add_2 : yJ2_add_2.cls ≠ "java/lang/invoke/MethodHandle" ∧ yJ2_add_2.cls ≠ "java/lang/invoke/VarHandle" ∧ (parseMethodDescriptor yJ2_add_2.desc).map (fun d => d.parameters.length) = some 3 := by decide +kernel
theorem kJ2_add_2 (G : Gl) (n : Nat) (K : Nat → Nat) (hK : K = G.ad) (p0 : Nat) (p1 : Option Nat) (p2 : Option Nat) (p3 : Int32) (h : AH) : OkM G yJ2_add_2 cJ2_add_2 4 none 5 cvV [.ref p0, va_rf p1, va_rf p2, .int p3] h (F_J2_add_2 n K p0 p1 p2 p3 h) := by
  refine ok_of_sim [(0, .ref p0), (1, va_rf p1), (2, va_rf p2), (3, .int p3)] (by decide +kernel) (fun r => ⟨_, rfl⟩) (by simp [uns, lv_args, lg_sl, catI, catL, catA, va_rfc]) (by simp [uns, lv_args, lg_sl, catI, catL, catA, va_rfc]) (by simp [uns, lv_args, lg_sl, catI, catL, catA, va_rfc]) ?_
  unfold F_J2_add_2
  refine s_iload_n dJ2_add_2_0 3 rfl ?_
  refine s_oload_n dJ2_add_2_1 2 rfl ?_
  refine s_ob (r := p2) (fun z => [(0, .ref p0), (1, va_rf p1), (2, z), (3, .int p3)]) (fun z => [z, .int p3]) (fun a1 => ?_)
  refine s_chk (fun hk2 => ?_)
  refine s_alenO dJ2_add_2_2 hk2 ?_
  refine s_jn (fun j5 => ∀ (x3 : Option Nat) (h4 : AH), Sim G yJ2_add_2.cls yJ2_add_2.name cJ2_add_2 4 none 5 cvV 11 [(0, .ref p0), (1, va_rf p1), (3, .int p3), (2, va_rf x3)] [] h4 (j5 x3 h4)) ?_ (fun j5 hj16 => ?_)
  · intro x3 h4
    refine s_oload_n dJ2_add_2_11 3 rfl ?_
    refine s_iload_n dJ2_add_2_12 2 rfl ?_
    refine s_oload_n dJ2_add_2_13 1 rfl ?_
    refine s_ob (r := x3) (fun z => [(0, .ref p0), (1, va_rf p1), (3, .int p3), (2, z)]) (fun z => [va_rf p1, .int p3, z]) (fun a6 => ?_)
    refine s_chk (fun hk7 => ?_)
    refine s_chk (fun hi8 => ?_)
    refine s_ob (r := p1) (fun z => [(0, .ref p0), (1, z), (3, .int p3), (2, .ref a6)]) (fun z => [z, .int p3, .ref a6]) (fun a9 => ?_)
    refine s_chk (fun hs10 => ?_)
    refine s_aast dJ2_add_2_14 hk7 hi8 hs10 ?_
    refine s_hl (fun h11 e12 => ?_)
    refine s_aload_n dJ2_add_2_15 0 rfl ?_
    refine s_iload_n dJ2_add_2_16 2 rfl ?_
    refine s_iconst (1 : Int32) dJ2_add_2_17 (by decide) ?_
    refine s_iadd dJ2_add_2_18 ?_
    refine s_chk (fun hk13 => ?_)
    refine s_put (j := 2) 2 (v := .int (p3 + (1 : Int32))) dJ2_add_2_19 hk13 rfl (by decide) q164 (Or.inl rfl) rfl rfl rfl (Upd.i (fun _ => rfl)) ?_
    refine s_hl (fun h14 e15 => ?_)
    exact s_vret dJ2_add_2_22 rfl rfl
  refine s_icmp_ne 11 dJ2_add_2_3 (by decide) (fun c17 => ?_) (fun c17 => ?_)
  · refine s_sub [0, 1, 3, 2] rfl ?_
    exact hj16 (some a1) h
  · refine s_aload_n dJ2_add_2_6 0 rfl ?_
    refine s_chk (fun hk20 => ?_)
    refine s_callV_R 2 (kJ2_grow G n K hK p0 h) (by decide) (by decide) dJ2_add_2_7 hk20 rfl rfl q649 q651 qs12 q107 q652 hyJ2_grow rfl rfl (Nat.le_of_ble_eq_true rfl) (fun r18 h19 => ?_)
    refine s_ostore_n [(2, va_rf r18), (0, .ref p0), (1, va_rf p1), (3, .int p3)] dJ2_add_2_10 (by decide) (by decide) rfl ?_
    refine s_sub [1, 2, 3, 0] rfl ?_
    exact hj16 r18 h19
theorem hyJ2_add : yJ2_add.cls ≠ "java/lang/invoke/MethodHandle" ∧ yJ2_add.cls ≠ "java/lang/invoke/VarHandle" ∧ (parseMethodDescriptor yJ2_add.desc).map (fun d => d.parameters.length) = some 1 := by decide +kernel
theorem kJ2_add (G : Gl) (n : Nat) (K : Nat → Nat) (hK : K = G.ad) (p0 : Nat) (p1 : Option Nat) (h : AH) : OkM G yJ2_add cJ2_add 2 (some .boolean) 6 cvI [.ref p0, va_rf p1] h (F_J2_add n K p0 p1 h) := by
  refine ok_of_sim [(0, .ref p0), (1, va_rf p1)] (by decide +kernel) (fun r => ⟨_, rfl⟩) (by simp [uns, lv_args, lg_sl, catI, catL, catA, va_rfc]) (by simp [uns, lv_args, lg_sl, catI, catL, catA, va_rfc]) (by simp [uns, lv_args, lg_sl, catI, catL, catA, va_rfc]) ?_
  unfold F_J2_add
  refine s_aload_n dJ2_add_0 0 rfl ?_
  refine s_dup dJ2_add_1 rfl ?_
  refine s_chk (fun hk1 => ?_)
  refine s_get (j := 0) 2 (.int (h.I p0 0)) dJ2_add_2 hk1 rfl (by decide) q166 (Or.inr q167) rfl ?_
  refine s_iconst (1 : Int32) dJ2_add_5 (by decide) ?_
  refine s_iadd dJ2_add_6 ?_
  refine s_put (j := 0) 2 (v := .int ((h.I p0 0) + (1 : Int32))) dJ2_add_7 hk1 rfl (by decide) q166 (Or.inr q167) rfl rfl rfl (Upd.i (fun _ => rfl)) ?_
  refine s_hl (fun h2 e3 => ?_)
  refine s_aload_n dJ2_add_10 0 rfl ?_
  refine s_oload_n dJ2_add_11 1 rfl ?_
  refine s_aload_n dJ2_add_12 0 rfl ?_
  refine s_get (j := 1) 2 (va_rf (h2.R p0 1)) dJ2_add_13 (show h2.kind p0 = 3 by rw [e3]; exact hk1) rfl (by decide) q163 (Or.inl rfl) rfl ?_
  refine s_aload_n dJ2_add_16 0 rfl ?_
  refine s_get (j := 2) 2 (.int (h2.I p0 2)) dJ2_add_17 (show h2.kind p0 = 3 by rw [e3]; exact hk1) rfl (by decide) q164 (Or.inl rfl) rfl ?_
  refine s_callV_V 2 (kJ2_add_2 G n K hK p0 p1 (h2.R p0 1) (h2.I p0 2) h2) (by decide) (by decide) dJ2_add_20 (show h2.kind p0 = 3 by rw [e3]; exact hk1) rfl rfl q645 q647 qs11 q107 q648 hyJ2_add_2 rfl rfl (Nat.le_of_ble_eq_true rfl) (fun r4 h5 => ?_)
  refine s_iconst (1 : Int32) dJ2_add_23 (by decide) ?_
  exact s_zret dJ2_add_24 rfl rfl rfl
theorem hyX1_voter : yX1_voter.cls ≠ "java/lang/invoke/MethodHandle" ∧ yX1_voter.cls ≠ "java/lang/invoke/VarHandle" ∧ (parseMethodDescriptor yX1_voter.desc).map (fun d => d.parameters.length) = some 0 := by decide +kernel
theorem kX1_voter (G : Gl) (n : Nat) (K : Nat → Nat) (hK : K = G.ad) (p0 : Nat) (h : AH) : OkT G yX1_voter cX1_voter 4 none 8 (cvT cvV) [.ref p0] h (F_X1_voter n K p0 h) := by
  refine okT_of_sim [(0, .ref p0)] (by decide +kernel) (by simp [uns, lv_args, lg_sl, catI, catL, catA, va_rfc]) (by simp [uns, lv_args, lg_sl, catI, catL, catA, va_rfc]) (by simp [uns, lv_args, lg_sl, catI, catL, catA, va_rfc]) ?_
  unfold F_X1_voter
  refine s_aload_n dX1_voter_0 0 rfl ?_
  refine s_iconst (0 : Int32) dX1_voter_1 (by decide) ?_
  refine s_bipush (99 : Int32) dX1_voter_2 (by decide) ?_
  refine s_chk (fun hk3 => ?_)
  refine s_callT_I 1 (kX1_number G n K hK p0 (0 : Int32) (99 : Int32) h) (by decide) (by decide) dX1_voter_4 hk3 rfl rfl q560 q562 qs8 q104 q563 hyX1_number rfl rfl (Nat.le_of_ble_eq_true rfl) (fun r1 h2 => ?_)
  refine s_istore_n [(1, .int r1), (0, .ref p0)] dX1_voter_7 (by decide) (by decide) rfl ?_
  refine s_aload_n dX1_voter_8 1 rfl ?_
  refine s_iconst (0 : Int32) dX1_voter_9 (by decide) ?_
  refine s_bipush (99 : Int32) dX1_voter_10 (by decide) ?_
  refine s_chk (fun hk6 => ?_)
  refine s_callT_I 1 (kX1_number G n K hK p0 (0 : Int32) (99 : Int32) h2) (by decide) (by decide) dX1_voter_12 hk6 rfl rfl q560 q562 qs8 q104 q563 hyX1_number rfl rfl (Nat.le_of_ble_eq_true rfl) (fun r4 h5 => ?_)
  refine s_istore_n [(2, .int r4), (1, .int r1), (0, .ref p0)] dX1_voter_15 (by decide) (by decide) rfl ?_
  refine s_iconst (1 : Int32) dX1_voter_16 (by decide) ?_
  refine s_istore_n [(3, .int (1 : Int32)), (2, .int r4), (1, .int r1), (0, .ref p0)] dX1_voter_17 (by decide) (by decide) rfl ?_
  refine s_aload_n dX1_voter_18 3 rfl ?_
  refine s_ldcS dX1_voter_19 2 rfl hK ?_
  refine s_chk (fun hk9 => ?_)
  refine s_callV_I 1 (kX1_word G n K hK p0 (some (K 3)) h5) (by decide) (by decide) dX1_voter_21 hk9 rfl rfl q440 q442 qs5 q104 q443 hyX1_word rfl rfl (Nat.le_of_ble_eq_true rfl) (fun r7 h8 => ?_)
  refine s_jn (fun j12 => ∀ (x10 : Int32) (h11 : AH), Sim G yX1_voter.cls yX1_voter.name cX1_voter 4 none 8 (cvT cvV) 39 [(2, .int r4), (1, .int r1), (0, .ref p0), (3, .int x10)] [] h11 (j12 x10 h11)) ?_ (fun j12 hj20 => ?_)
  · intro x10 h11
    refine s_aload_n dX1_voter_39 2 rfl ?_
    refine s_chk (fun hk13 => ?_)
    refine s_get (j := 8) 1 (va_rf (h11.R p0 8)) dX1_voter_40 hk13 rfl (by decide) q184 (Or.inl rfl) rfl ?_
    refine s_aload_n dX1_voter_43 2 rfl ?_
    refine s_iload_n dX1_voter_44 1 rfl ?_
    refine s_iload_n dX1_voter_45 0 rfl ?_
    refine s_iload_n dX1_voter_46 3 rfl ?_
    refine s_callV_R 1 (kX1_made G n K hK p0 r1 r4 x10 h11) (by decide) (by decide) dX1_voter_47 hk13 rfl rfl q571 q573 qs10 q104 q574 hyX1_made rfl rfl (by simp [catI, catL, catA, va_rfc]) (fun r14 h15 => ?_)
    refine s_ob (r := h11.R p0 8) (fun z => [(2, .int r4), (1, .int r1), (0, .ref p0), (3, .int x10)]) (fun z => [va_rf r14, z]) (fun a16 => ?_)
    refine s_chk (fun hk19 => ?_)
    refine s_callV_I 2 (kJ2_add G n K hK a16 r14 h15) (by decide) (by decide) dX1_voter_50 hk19 rfl rfl q641 q642 q643 q107 q644 hyJ2_add rfl rfl (Nat.le_of_ble_eq_true rfl) (fun r17 h18 => ?_)
    refine s_pop dX1_voter_53 rfl ?_
    exact s_vret dX1_voter_54 rfl rfl
  refine s_if_ne 39 dX1_voter_24 (by decide) (fun c21 => ?_) (fun c21 => ?_)
  · refine s_sub [1, 2, 3, 0] rfl ?_
    exact hj20 (1 : Int32) h8
  · refine s_aload_n dX1_voter_27 3 rfl ?_
    refine s_chk (fun hk24 => ?_)
    refine s_callT_V 1 (kX1_next G n K hK p0 h8) (by decide) (by decide) dX1_voter_28 hk24 rfl rfl q353 q355 qs1 q104 q356 hyX1_next rfl rfl (Nat.le_of_ble_eq_true rfl) (fun r22 h23 => ?_)
    refine s_aload_n dX1_voter_31 3 rfl ?_
    refine s_iconst (1 : Int32) dX1_voter_32 (by decide) ?_
    refine s_bipush (9 : Int32) dX1_voter_33 (by decide) ?_
    refine s_chk (fun hk27 => ?_)
    refine s_callT_I 1 (kX1_number G n K hK p0 (1 : Int32) (9 : Int32) h23) (by decide) (by decide) dX1_voter_35 hk27 rfl rfl q560 q562 qs8 q104 q563 hyX1_number rfl rfl (Nat.le_of_ble_eq_true rfl) (fun r25 h26 => ?_)
    refine s_istore_n [(3, .int r25), (2, .int r4), (1, .int r1), (0, .ref p0)] dX1_voter_38 (by decide) (by decide) rfl ?_
    refine s_sub [1, 2, 3, 0] rfl ?_
    exact hj20 r25 h26
theorem hyX10_init : yX10_init.cls ≠ "java/lang/invoke/MethodHandle" ∧ yX10_init.cls ≠ "java/lang/invoke/VarHandle" ∧ (parseMethodDescriptor yX10_init.desc).map (fun d => d.parameters.length) = some 2 := by decide +kernel
theorem kX10_init (G : Gl) (n : Nat) (K : Nat → Nat) (hK : K = G.ad) (p0 : Nat) (p1 : Int32) (p2 : Int32) (h : AH) : OkM G yX10_init cX10_init 3 none 1 cvV [.ref p0, .int p1, .int p2] h (F_X10_init n K p0 p1 p2 h) := by
  refine ok_of_sim [(0, .ref p0), (1, .int p1), (2, .int p2)] (by decide +kernel) (fun r => ⟨_, rfl⟩) (by simp [uns, lv_args, lg_sl, catI, catL, catA, va_rfc]) (by simp [uns, lv_args, lg_sl, catI, catL, catA, va_rfc]) (by simp [uns, lv_args, lg_sl, catI, catL, catA, va_rfc]) ?_
  unfold F_X10_init
  refine s_aload_n dX10_init_0 0 rfl ?_
  refine s_objInit dX10_init_1 q703 q141 q142 (by decide) (Nat.le_of_ble_eq_true rfl) ?_
  refine s_aload_n dX10_init_4 0 rfl ?_
  refine s_iload_n dX10_init_5 1 rfl ?_
  refine s_chk (fun hk1 => ?_)
  refine s_putF (j := 0) 10 (v := .int p1) dX10_init_6 hk1 rfl (by decide) q704 (Or.inl rfl) rfl rfl rfl rfl rfl (Upd.i (fun _ => rfl)) ?_
  refine s_hl (fun h2 e3 => ?_)
  refine s_aload_n dX10_init_9 0 rfl ?_
  refine s_iload_n dX10_init_10 2 rfl ?_
  refine s_putF (j := 1) 10 (v := .int p2) dX10_init_11 (show h2.kind p0 = 11 by rw [e3]; exact hk1) rfl (by decide) q706 (Or.inl rfl) rfl rfl rfl rfl rfl (Upd.i (fun _ => rfl)) ?_
  refine s_hl (fun h4 e5 => ?_)
  exact s_vret dX10_init_14 rfl rfl
theorem hyX1_needs : yX1_needs.cls ≠ "java/lang/invoke/MethodHandle" ∧ yX1_needs.cls ≠ "java/lang/invoke/VarHandle" ∧ (parseMethodDescriptor yX1_needs.desc).map (fun d => d.parameters.length) = some 1 := by decide +kernel
theorem kX1_needs (G : Gl) (n : Nat) (K : Nat → Nat) (hK : K = G.ad) (p0 : Nat) (p1 : Int32) (h : AH) : OkT G yX1_needs cX1_needs 2 none 7 (cvT cvV) [.ref p0, .int p1] h (F_X1_needs n K p0 p1 h) := by
  refine okT_of_sim [(0, .ref p0), (1, .int p1)] (by decide +kernel) (by simp [uns, lv_args, lg_sl, catI, catL, catA, va_rfc]) (by simp [uns, lv_args, lg_sl, catI, catL, catA, va_rfc]) (by simp [uns, lv_args, lg_sl, catI, catL, catA, va_rfc]) ?_
  unfold F_X1_needs
  refine s_aload_n dX1_needs_0 0 rfl ?_
  refine s_chk (fun hk3 => ?_)
  refine s_callV_I 1 (kX1_isOver G n K hK p0 h) (by decide) (by decide) dX1_needs_1 hk3 rfl rfl q454 q456 qs6 q104 q457 hyX1_isOver rfl rfl (Nat.le_of_ble_eq_true rfl) (fun r1 h2 => ?_)
  refine s_jn (fun j4 => Sim G yX1_needs.cls yX1_needs.name cX1_needs 2 none 7 (cvT cvV) 20 [(0, .ref p0)] [] h2 (j4 )) ?_ (fun j4 hj9 => ?_)
  · skip
    refine s_aload_n dX1_needs_20 0 rfl ?_
    refine s_chk (fun hk7 => ?_)
    refine s_callV_R 1 (kX1_wrong G n K hK p0 h2) (by decide) (by decide) dX1_needs_21 hk7 rfl rfl q363 q365 qs2 q104 q366 hyX1_wrong rfl rfl (Nat.le_of_ble_eq_true rfl) (fun r5 h6 => ?_)
    refine s_ob (r := r5) (fun z => [(0, .ref p0)]) (fun z => [z]) (fun a8 => ?_)
    exact s_athrow dX1_needs_24
  refine s_if_ne 20 dX1_needs_4 (by decide) (fun c10 => ?_) (fun c10 => ?_)
  · refine s_sub [0] rfl ?_
    exact hj9
  · refine s_aload_n dX1_needs_7 0 rfl ?_
    refine s_chk (fun hk11 => ?_)
    refine s_get (j := 0) 1 (va_rf (h2.R p0 0)) dX1_needs_8 hk11 rfl (by decide) q176 (Or.inl rfl) rfl ?_
    refine s_aload_n dX1_needs_11 0 rfl ?_
    refine s_get (j := 3) 1 (.int (h2.I p0 3)) dX1_needs_12 hk11 rfl (by decide) q179 (Or.inl rfl) rfl ?_
    refine s_ob (r := h2.R p0 0) (fun z => [(0, .ref p0), (1, .int p1)]) (fun z => [.int (h2.I p0 3), z]) (fun a12 => ?_)
    refine s_chk (fun hk13 => ?_)
    refine s_chk (fun hi14 => ?_)
    refine s_bald dX1_needs_15 hk13 rfl hi14 ?_
    refine s_iload_n dX1_needs_16 1 rfl ?_
    refine s_icmp_eq 25 dX1_needs_17 (by decide) (fun c15 => ?_) (fun c15 => ?_)
    · refine s_aload_n dX1_needs_25 0 rfl ?_
      refine s_callT_V 1 (kX1_next G n K hK p0 h2) (by decide) (by decide) dX1_needs_26 hk11 rfl rfl q353 q355 qs1 q104 q356 hyX1_next rfl rfl (Nat.le_of_ble_eq_true rfl) (fun r16 h17 => ?_)
      exact s_vret dX1_needs_29 rfl rfl
    · refine s_sub [0] rfl ?_
      exact hj9
theorem hyX1_win : yX1_win.cls ≠ "java/lang/invoke/MethodHandle" ∧ yX1_win.cls ≠ "java/lang/invoke/VarHandle" ∧ (parseMethodDescriptor yX1_win.desc).map (fun d => d.parameters.length) = some 0 := by decide +kernel
theorem kX1_win (G : Gl) (n : Nat) (K : Nat → Nat) (hK : K = G.ad) (p0 : Nat) (h : AH) : OkT G yX1_win cX1_win 3 none 8 (cvT cvV) [.ref p0] h (F_X1_win n K p0 h) := by
  refine okT_of_sim [(0, .ref p0)] (by decide +kernel) (by simp [uns, lv_args, lg_sl, catI, catL, catA, va_rfc]) (by simp [uns, lv_args, lg_sl, catI, catL, catA, va_rfc]) (by simp [uns, lv_args, lg_sl, catI, catL, catA, va_rfc]) ?_
  unfold F_X1_win
  refine s_aload_n dX1_win_0 0 rfl ?_
  refine s_iconst (1 : Int32) dX1_win_1 (by decide) ?_
  refine s_chk (fun hk1 => ?_)
  refine s_put (j := 7) 1 (v := .int (1 : Int32)) dX1_win_2 hk1 rfl (by decide) q183 (Or.inl rfl) rfl rfl rfl (Upd.i (fun _ => rfl)) ?_
  refine s_hl (fun h2 e3 => ?_)
  refine s_aload_n dX1_win_5 0 rfl ?_
  refine s_ldcS dX1_win_6 3 rfl hK ?_
  refine s_callT_I 1 (kX1_needsWord G n K hK p0 (some (K 4)) h2) (by decide) (by decide) dX1_win_8 (show h2.kind p0 = 2 by rw [e3]; exact hk1) rfl rfl q556 q558 qs7 q104 q559 hyX1_needsWord rfl rfl (Nat.le_of_ble_eq_true rfl) (fun r4 h5 => ?_)
  refine s_istore_n [(1, .int r4), (0, .ref p0)] dX1_win_11 (by decide) (by decide) rfl ?_
  refine s_iload_n dX1_win_12 0 rfl ?_
  refine s_if_ne 17 dX1_win_13 (by decide) (fun c6 => ?_) (fun c6 => ?_)
  · refine s_aload_n dX1_win_17 1 rfl ?_
    refine s_iconst (1 : Int32) dX1_win_18 (by decide) ?_
    refine s_bipush (99 : Int32) dX1_win_19 (by decide) ?_
    refine s_chk (fun hk9 => ?_)
    refine s_callT_I 1 (kX1_number G n K hK p0 (1 : Int32) (99 : Int32) h5) (by decide) (by decide) dX1_win_21 hk9 rfl rfl q560 q562 qs8 q104 q563 hyX1_number rfl rfl (Nat.le_of_ble_eq_true rfl) (fun r7 h8 => ?_)
    refine s_istore_n [(2, .int r7), (1, .int r4), (0, .ref p0)] dX1_win_24 (by decide) (by decide) rfl ?_
    refine s_aload_n dX1_win_25 2 rfl ?_
    refine s_bipush (47 : Int32) dX1_win_26 (by decide) ?_
    refine s_chk (fun hk12 => ?_)
    refine s_callT_V 1 (kX1_needs G n K hK p0 (47 : Int32) h8) (by decide) (by decide) dX1_win_28 hk12 rfl rfl q718 q720 qs15 q104 q721 hyX1_needs rfl rfl (Nat.le_of_ble_eq_true rfl) (fun r10 h11 => ?_)
    refine s_aload_n dX1_win_31 2 rfl ?_
    refine s_new 3 dX1_win_32 rfl q351 q216 q108 ?_
    refine s_hl (fun h13 e14 => ?_)
    refine s_dup dX1_win_35 rfl ?_
    refine s_iload_n dX1_win_36 1 rfl ?_
    refine s_iload_n dX1_win_37 0 rfl ?_
    refine s_aload_n dX1_win_38 2 rfl ?_
    refine s_iload_n dX1_win_39 0 rfl ?_
    refine s_bipush (99 : Int32) dX1_win_40 (by decide) ?_
    refine s_iconst (2 : Int32) dX1_win_42 (by decide) ?_
    refine s_iload_n dX1_win_43 0 rfl ?_
    refine s_imul dX1_win_44 ?_
    refine s_mmin dX1_win_45 (by decide) q564 q477 q116 q478 (Nat.le_of_ble_eq_true rfl) ?_
    refine s_chk (fun hk17 => ?_)
    refine s_callT_I 1 (kX1_number G n K hK p0 r7 (if ((2 : Int32) * r7) < (99 : Int32) then ((2 : Int32) * r7) else (99 : Int32)) h13) (by decide) (by decide) dX1_win_48 hk17 rfl rfl q560 q562 qs8 q104 q563 hyX1_number rfl rfl (Nat.le_of_ble_eq_true rfl) (fun r15 h16 => ?_)
    refine s_callI_V (kX2_init G n K hK h11.n r4 r7 r15 h16) (by decide) (by decide) dX1_win_51 q352 q218 q108 q219 rfl hyX2_init rfl rfl (Nat.le_of_ble_eq_true rfl) (fun r18 h19 => ?_)
    refine s_chk (fun hk20 => ?_)
    refine s_put (j := 10) 1 (v := va_rf (some h11.n)) dX1_win_54 hk20 rfl (by decide) q189 (Or.inl rfl) rfl rfl rfl (Upd.r (fun _ => rfl)) ?_
    refine s_hl (fun h21 e22 => ?_)
    exact s_vret dX1_win_57 rfl rfl
  · exact s_vret dX1_win_16 rfl rfl
