set_option maxRecDepth 100000
/-! the script: below the base, so it stands; its ints by table -/
def scI (K : Nat → Nat) (j : Nat) : Int32 := Int32.ofNat (K (1000 + j))
def ScOk (G : Gl) : Prop := G.ad 999 < G.base ∧ ∃ cell, G.s0.heap[G.ad 999]? = some cell ∧ ∀ j, j < G.ad 998 → cell.slots[j]? = some (.int (scI G.ad j))
theorem s_iasc {G : Gl} {own nm : String} {cc : ByteArray} {nL : Nat} {rt : Option FieldType} {d : Nat} {α : Type} {cv : α → Outcome} {pc : Nat} {L : List (Nat × Value)} {st : List Value} {h : AH} {f : Option (α × AH)} {a : Nat} {i : Int32} {K : Nat → Nat} (hK : K = G.ad) (hS : ScOk G) (hd : decode cc pc = .ok (.iaload, 1)) (hk : h.kind a = 42) (ha : a = K 999 ∧ h.len a = K 998) (hi : inb i (h.len a)) (k : Sim G own nm cc nL rt d cv (pc + 1) L (.int (scI K (ix i)) :: st) h f) : Sim G own nm cc nL rt d cv pc L (.int i :: .ref a :: st) h f :=
  Sim.rd k (fun C hR kw => by
    obtain ⟨cell, q1, q2, q3, q4, q5, q6⟩ := hR.arr (ty := .int) (by rw [hk]; rfl)
    obtain ⟨s1, c2, s2, s3⟩ := hS
    rw [hK] at ha kw
    have e := hR.2.2.2.1 a (by rw [ha.1]; exact s1)
    have ec : c2 = cell := by
      rw [ha.1] at e q1
      rw [e, s2] at q1
      exact Option.some.inj q1
    rw [ec] at s3
    exact W.iald C.hx C.hb q1 (State.isArrayOf_alike C.alike q2) q3 (hi.vp2 q5.1) (s3 _ (by rw [← ha.2]; exact hi.lt)) rfl rfl hd kw)
/-- the text's fault: what the reader throws is caught here -/
def F_X0_fault (n : Nat) (K : Nat → Nat) (p0 : Nat) (h : AH) : Option (Int32 × AH) :=
  chk (h.kind p0 = 1) <|
  ob (h.R p0 1) fun a2 =>
  chk (h.kind a2 = 2) <|
  bnd (F_X1_read n K a2 (h.R p0 0) (h.I p0 6) h) fun r4 h5 =>
  match r4 with
  | .inl a6 => chk (h5.kind a6 = 6) <| some (h5.I a6 6, h5)
  | .inr _ => some ((-1 : Int32), h5)

def F_X0_sheet_L38 (n : Nat) (K : Nat → Nat) (y25 : Nat) : Nat → Int32 → AH → (AH → Option (Int32 × AH)) → Option (Int32 × AH)
  | 0, _, _, _ => none
  | f + 1, x24, h, k =>
    chk (h.kind y25 = 1) <|
    ob (h.R y25 1) fun a27 =>
    chk (h.kind a27 = 2) <|
    ob (h.R a27 8) fun a29 =>
    chk (h.kind a29 = 3) <|
    bnd (F_J2_size n K a29 h) fun r30 h31 =>
    if r30 ≤ x24 then (
      k h31
    ) else (
      chk (h31.kind y25 = 1) <|
      ob (h31.R y25 1) fun a35 =>
      chk (h31.kind a35 = 2) <|
      ob (h31.R a35 8) fun a37 =>
      chk (h31.kind a37 = 3) <|
      bnd (F_J2_get n K a37 x24 h31) fun r38 h39 =>
      ob r38 fun a41 =>
      chk (7 ≤ h39.kind a41 ∧ h39.kind a41 ≤ 10) <|
      ob (h31.R y25 2) fun a43 =>
      chk (h39.kind a43 = 3) <|
      bnd (F_J2_add n K a43 (some a41) h39) fun r44 h45 =>
      chk (h45.kind y25 = 1) <|
      ob (h45.R y25 2) fun a48 =>
      chk (h45.kind a48 = 3) <|
      bnd (F_J2_get n K a48 x24 h45) fun r49 h50 =>
      ob r49 fun a52 =>
      chk (7 ≤ h50.kind a52 ∧ h50.kind a52 ≤ 10) <|
      chk (h50.kind y25 = 1) <|
      hl (h50.setI y25 7 ((h45.I y25 7) + (h50.I a52 0))) fun h55 =>
      F_X0_sheet_L38 n K y25 f (x24 + (1 : Int32)) h55 k
    )
def F_X0_sheet_L105 (n : Nat) (K : Nat → Nat) (y60 : Nat) : Nat → Int32 → AH → Option (Int32 × AH)
  | 0, _, _ => none
  | f + 1, x59, h =>
    chk (h.kind y60 = 1) <|
    ob (h.R y60 1) fun a62 =>
    chk (h.kind a62 = 2) <|
    ob (h.R a62 9) fun a64 =>
    chk (h.kind a64 = 3) <|
    bnd (F_J2_size n K a64 h) fun r65 h66 =>
    if r65 ≤ x59 then (
      chk (h66.kind y60 = 1) <|
      ob (h66.R y60 1) fun a70 =>
      chk (h66.kind a70 = 2) <|
      hl (h66.setR y60 5 (h66.R a70 10)) fun h72 =>
      hl (h72.setI y60 6 (0 : Int32)) fun h74 =>
      bnd (F_X0_stale n K y60 h74) fun _ h77 =>
      chk (h77.kind y60 = 1) <|
      ob (h77.R y60 2) fun a79 =>
      chk (h77.kind a79 = 3) <|
      bnd (F_J2_size n K a79 h77) fun r80 h81 =>
      some (r80, h81)
    ) else (
      chk (h66.kind y60 = 1) <|
      ob (h66.R y60 1) fun a84 =>
      chk (h66.kind a84 = 2) <|
      ob (h66.R a84 9) fun a86 =>
      chk (h66.kind a86 = 3) <|
      bnd (F_J2_get n K a86 x59 h66) fun r87 h88 =>
      ob r87 fun a90 =>
      chk (h88.kind a90 = 11) <|
      ob (h66.R y60 3) fun a92 =>
      chk (h88.kind a92 = 3) <|
      bnd (F_J2_add n K a92 (some a90) h88) fun r93 h94 =>
      F_X0_sheet_L105 n K y60 f (x59 + (1 : Int32)) h94
    )
def F_X0_sheet (n : Nat) (K : Nat → Nat) (p0 : Nat) (h : AH) : Option (Int32 × AH) :=
  chk (h.kind p0 = 1) <|
  bnd (F_X0_fault n K p0 h) fun r1 h2 =>
  if r1 = (-1 : Int32) then (
    chk (h2.kind p0 = 1) <|
    ob (h2.R p0 2) fun a6 =>
    chk (h2.kind a6 = 3) <|
    bnd (F_J2_clear n K a6 h2) fun _ h8 =>
    chk (h8.kind p0 = 1) <|
    ob (h8.R p0 3) fun a11 =>
    chk (h8.kind a11 = 3) <|
    bnd (F_J2_clear n K a11 h8) fun _ h13 =>
    chk (h13.kind p0 = 1) <|
    ob (h13.R p0 4) fun a16 =>
    chk (h13.kind a16 = 3) <|
    bnd (F_J2_clear n K a16 h13) fun _ h18 =>
    chk (h18.kind p0 = 1) <|
    hl (h18.setI p0 7 (0 : Int32)) fun h21 =>
    F_X0_sheet_L38 n K p0 n (0 : Int32) h21 fun h57 =>
    F_X0_sheet_L105 n K p0 n (0 : Int32) h57
  ) else (
    some ((-1 : Int32), h2)
  )
def F_L_law_L18 (n : Nat) (K : Nat → Nat) (y11 : Nat) (y12 : Nat) (y13 : Option Nat) : Nat → Int32 → AH → Option (Int32 × AH)
  | 0, _, _ => none
  | f + 1, x10, h =>
    ob y13 fun a14 =>
    chk (h.kind a14 = 42) <|
    if ((nI (h.len a14)) - (6 : Int32)) < x10 then (
      some ((1 : Int32), h)
    ) else (
      ob y13 fun a17 =>
      chk (h.kind a17 = 42) <|
      chk (inb x10 (h.len a17)) <|
      chk (a17 = K 999 ∧ h.len a17 = K 998) <|
      if ((scI K (ix x10)) &&& (31 : Int32)) = (0 : Int32) then (
        ob y13 fun a22 =>
        chk (h.kind a22 = 42) <|
        chk (inb (x10 + (1 : Int32)) (h.len a22)) <|
        chk (a22 = K 999 ∧ h.len a22 = K 998) <|
        ob y13 fun a26 =>
        chk (h.kind a26 = 42) <|
        chk (inb (x10 + (2 : Int32)) (h.len a26)) <|
        chk (a26 = K 999 ∧ h.len a26 = K 998) <|
        ob y13 fun a30 =>
        chk (h.kind a30 = 42) <|
        chk (inb (x10 + (3 : Int32)) (h.len a30)) <|
        chk (a30 = K 999 ∧ h.len a30 = K 998) <|
        ob y13 fun a34 =>
        chk (h.kind a34 = 42) <|
        chk (inb (x10 + (4 : Int32)) (h.len a34)) <|
        chk (a34 = K 999 ∧ h.len a34 = K 998) <|
        ob y13 fun a38 =>
        chk (h.kind a38 = 42) <|
        chk (inb (x10 + (5 : Int32)) (h.len a38)) <|
        chk (a38 = K 999 ∧ h.len a38 = K 998) <|
        chk (h.kind y12 = 1) <|
        bnd (F_X0_feed n K y12 (scI K (ix (x10 + (1 : Int32)))) (scI K (ix (x10 + (2 : Int32)))) (scI K (ix (x10 + (3 : Int32)))) (scI K (ix (x10 + (4 : Int32)))) (scI K (ix (x10 + (5 : Int32)))) h) fun r42 h43 =>
        ob y13 fun a45 =>
        chk (h43.kind a45 = 42) <|
        chk (inb (x10 + (1 : Int32)) (h43.len a45)) <|
        chk (a45 = K 999 ∧ h43.len a45 = K 998) <|
        ob y13 fun a49 =>
        chk (h43.kind a49 = 42) <|
        chk (inb (x10 + (2 : Int32)) (h43.len a49)) <|
        chk (a49 = K 999 ∧ h43.len a49 = K 998) <|
        ob y13 fun a53 =>
        chk (h43.kind a53 = 42) <|
        chk (inb (x10 + (3 : Int32)) (h43.len a53)) <|
        chk (a53 = K 999 ∧ h43.len a53 = K 998) <|
        ob y13 fun a57 =>
        chk (h43.kind a57 = 42) <|
        chk (inb (x10 + (4 : Int32)) (h43.len a57)) <|
        chk (a57 = K 999 ∧ h43.len a57 = K 998) <|
        ob y13 fun a61 =>
        chk (h43.kind a61 = 42) <|
        chk (inb (x10 + (5 : Int32)) (h43.len a61)) <|
        chk (a61 = K 999 ∧ h43.len a61 = K 998) <|
        chk (h43.kind y11 = 5) <|
        bnd (F_X3_feed n K y11 (scI K (ix (x10 + (1 : Int32)))) (scI K (ix (x10 + (2 : Int32)))) (scI K (ix (x10 + (3 : Int32)))) (scI K (ix (x10 + (4 : Int32)))) (scI K (ix (x10 + (5 : Int32)))) h43) fun r65 h66 =>
        if r42 = r65 then (
          F_L_law_L18 n K y11 y12 y13 f (x10 + (6 : Int32)) h66
        ) else (
          some ((0 : Int32), h66)
        )
      ) else
      if ((scI K (ix x10)) &&& (31 : Int32)) = (1 : Int32) then (
        ob y13 fun a70 =>
        chk (h.kind a70 = 42) <|
        chk (inb (x10 + (1 : Int32)) (h.len a70)) <|
        chk (a70 = K 999 ∧ h.len a70 = K 998) <|
        chk (h.kind y12 = 1) <|
        bnd (F_X0_end n K y12 (scI K (ix (x10 + (1 : Int32)))) h) fun r74 h75 =>
        ob y13 fun a77 =>
        chk (h75.kind a77 = 42) <|
        chk (inb (x10 + (1 : Int32)) (h75.len a77)) <|
        chk (a77 = K 999 ∧ h75.len a77 = K 998) <|
        chk (h75.kind y11 = 5) <|
        bnd (F_X3_end n K y11 (scI K (ix (x10 + (1 : Int32)))) h75) fun r81 h82 =>
        if r74 = r81 then (
          F_L_law_L18 n K y11 y12 y13 f (x10 + (6 : Int32)) h82
        ) else (
          some ((0 : Int32), h82)
        )
      ) else
      if ((scI K (ix x10)) &&& (31 : Int32)) = (2 : Int32) then (
        chk (h.kind y12 = 1) <|
        bnd (F_X0_fault n K y12 h) fun r86 h87 =>
        chk (h87.kind y11 = 5) <|
        bnd (F_X3_fault n K y11 h87) fun r89 h90 =>
        if r86 = r89 then (
          F_L_law_L18 n K y11 y12 y13 f (x10 + (6 : Int32)) h90
        ) else (
          some ((0 : Int32), h90)
        )
      ) else
      if ((scI K (ix x10)) &&& (31 : Int32)) = (3 : Int32) then (
        chk (h.kind y12 = 1) <|
        bnd (F_X0_sheet n K y12 h) fun r94 h95 =>
        chk (h95.kind y11 = 5) <|
        bnd (F_X3_sheet n K y11 h95) fun r97 h98 =>
        if r94 = r97 then (
          F_L_law_L18 n K y11 y12 y13 f (x10 + (6 : Int32)) h98
        ) else (
          some ((0 : Int32), h98)
        )
      ) else
      if ((scI K (ix x10)) &&& (31 : Int32)) = (4 : Int32) then (
        ob y13 fun a102 =>
        chk (h.kind a102 = 42) <|
        chk (inb (x10 + (1 : Int32)) (h.len a102)) <|
        chk (a102 = K 999 ∧ h.len a102 = K 998) <|
        ob y13 fun a106 =>
        chk (h.kind a106 = 42) <|
        chk (inb (x10 + (2 : Int32)) (h.len a106)) <|
        chk (a106 = K 999 ∧ h.len a106 = K 998) <|
        chk (h.kind y12 = 1) <|
        bnd (F_X0_voter n K y12 (scI K (ix (x10 + (1 : Int32)))) (scI K (ix (x10 + (2 : Int32)))) h) fun r110 h111 =>
        ob y13 fun a113 =>
        chk (h111.kind a113 = 42) <|
        chk (inb (x10 + (1 : Int32)) (h111.len a113)) <|
        chk (a113 = K 999 ∧ h111.len a113 = K 998) <|
        ob y13 fun a117 =>
        chk (h111.kind a117 = 42) <|
        chk (inb (x10 + (2 : Int32)) (h111.len a117)) <|
        chk (a117 = K 999 ∧ h111.len a117 = K 998) <|
        chk (h111.kind y11 = 5) <|
        bnd (F_X3_voter n K y11 (scI K (ix (x10 + (1 : Int32)))) (scI K (ix (x10 + (2 : Int32)))) h111) fun r121 h122 =>
        if r110 = r121 then (
          F_L_law_L18 n K y11 y12 y13 f (x10 + (6 : Int32)) h122
        ) else (
          some ((0 : Int32), h122)
        )
      ) else
      if ((scI K (ix x10)) &&& (31 : Int32)) = (5 : Int32) then (
        ob y13 fun a126 =>
        chk (h.kind a126 = 42) <|
        chk (inb (x10 + (1 : Int32)) (h.len a126)) <|
        chk (a126 = K 999 ∧ h.len a126 = K 998) <|
        ob y13 fun a130 =>
        chk (h.kind a130 = 42) <|
        chk (inb (x10 + (2 : Int32)) (h.len a130)) <|
        chk (a130 = K 999 ∧ h.len a130 = K 998) <|
        chk (h.kind y12 = 1) <|
        bnd (F_X0_place n K y12 (scI K (ix (x10 + (1 : Int32)))) (scI K (ix (x10 + (2 : Int32)))) h) fun r134 h135 =>
        ob y13 fun a137 =>
        chk (h135.kind a137 = 42) <|
        chk (inb (x10 + (1 : Int32)) (h135.len a137)) <|
        chk (a137 = K 999 ∧ h135.len a137 = K 998) <|
        ob y13 fun a141 =>
        chk (h135.kind a141 = 42) <|
        chk (inb (x10 + (2 : Int32)) (h135.len a141)) <|
        chk (a141 = K 999 ∧ h135.len a141 = K 998) <|
        chk (h135.kind y11 = 5) <|
        bnd (F_X3_place n K y11 (scI K (ix (x10 + (1 : Int32)))) (scI K (ix (x10 + (2 : Int32)))) h135) fun r145 h146 =>
        if r134 = r145 then (
          F_L_law_L18 n K y11 y12 y13 f (x10 + (6 : Int32)) h146
        ) else (
          some ((0 : Int32), h146)
        )
      ) else
      if ((scI K (ix x10)) &&& (31 : Int32)) = (6 : Int32) then (
        ob y13 fun a150 =>
        chk (h.kind a150 = 42) <|
        chk (inb (x10 + (1 : Int32)) (h.len a150)) <|
        chk (a150 = K 999 ∧ h.len a150 = K 998) <|
        ob y13 fun a154 =>
        chk (h.kind a154 = 42) <|
        chk (inb (x10 + (2 : Int32)) (h.len a154)) <|
        chk (a154 = K 999 ∧ h.len a154 = K 998) <|
        chk (h.kind y12 = 1) <|
        bnd (F_X0_propose n K y12 (scI K (ix (x10 + (1 : Int32)))) (scI K (ix (x10 + (2 : Int32)))) h) fun r158 h159 =>
        ob y13 fun a161 =>
        chk (h159.kind a161 = 42) <|
        chk (inb (x10 + (1 : Int32)) (h159.len a161)) <|
        chk (a161 = K 999 ∧ h159.len a161 = K 998) <|
        ob y13 fun a165 =>
        chk (h159.kind a165 = 42) <|
        chk (inb (x10 + (2 : Int32)) (h159.len a165)) <|
        chk (a165 = K 999 ∧ h159.len a165 = K 998) <|
        chk (h159.kind y11 = 5) <|
        bnd (F_X3_propose n K y11 (scI K (ix (x10 + (1 : Int32)))) (scI K (ix (x10 + (2 : Int32)))) h159) fun r169 h170 =>
        if r158 = r169 then (
          F_L_law_L18 n K y11 y12 y13 f (x10 + (6 : Int32)) h170
        ) else (
          some ((0 : Int32), h170)
        )
      ) else
      if ((scI K (ix x10)) &&& (31 : Int32)) = (7 : Int32) then (
        ob y13 fun a174 =>
        chk (h.kind a174 = 42) <|
        chk (inb (x10 + (1 : Int32)) (h.len a174)) <|
        chk (a174 = K 999 ∧ h.len a174 = K 998) <|
        ob y13 fun a178 =>
        chk (h.kind a178 = 42) <|
        chk (inb (x10 + (2 : Int32)) (h.len a178)) <|
        chk (a178 = K 999 ∧ h.len a178 = K 998) <|
        ob y13 fun a182 =>
        chk (h.kind a182 = 42) <|
        chk (inb (x10 + (3 : Int32)) (h.len a182)) <|
        chk (a182 = K 999 ∧ h.len a182 = K 998) <|
        chk (h.kind y12 = 1) <|
        bnd (F_X0_way n K y12 (scI K (ix (x10 + (1 : Int32)))) (scI K (ix (x10 + (2 : Int32)))) (scI K (ix (x10 + (3 : Int32)))) h) fun r186 h187 =>
        ob y13 fun a189 =>
        chk (h187.kind a189 = 42) <|
        chk (inb (x10 + (1 : Int32)) (h187.len a189)) <|
        chk (a189 = K 999 ∧ h187.len a189 = K 998) <|
        ob y13 fun a193 =>
        chk (h187.kind a193 = 42) <|
        chk (inb (x10 + (2 : Int32)) (h187.len a193)) <|
        chk (a193 = K 999 ∧ h187.len a193 = K 998) <|
        ob y13 fun a197 =>
        chk (h187.kind a197 = 42) <|
        chk (inb (x10 + (3 : Int32)) (h187.len a197)) <|
        chk (a197 = K 999 ∧ h187.len a197 = K 998) <|
        chk (h187.kind y11 = 5) <|
        bnd (F_X3_way n K y11 (scI K (ix (x10 + (1 : Int32)))) (scI K (ix (x10 + (2 : Int32)))) (scI K (ix (x10 + (3 : Int32)))) h187) fun r201 h202 =>
        if r186 = r201 then (
          F_L_law_L18 n K y11 y12 y13 f (x10 + (6 : Int32)) h202
        ) else (
          some ((0 : Int32), h202)
        )
      ) else
      if ((scI K (ix x10)) &&& (31 : Int32)) = (8 : Int32) then (
        ob y13 fun a206 =>
        chk (h.kind a206 = 42) <|
        chk (inb (x10 + (1 : Int32)) (h.len a206)) <|
        chk (a206 = K 999 ∧ h.len a206 = K 998) <|
        ob y13 fun a210 =>
        chk (h.kind a210 = 42) <|
        chk (inb (x10 + (2 : Int32)) (h.len a210)) <|
        chk (a210 = K 999 ∧ h.len a210 = K 998) <|
        chk (h.kind y12 = 1) <|
        bnd (F_X0_votes n K y12 (scI K (ix (x10 + (1 : Int32)))) (scI K (ix (x10 + (2 : Int32)))) h) fun r214 h215 =>
        ob y13 fun a217 =>
        chk (h215.kind a217 = 42) <|
        chk (inb (x10 + (1 : Int32)) (h215.len a217)) <|
        chk (a217 = K 999 ∧ h215.len a217 = K 998) <|
        ob y13 fun a221 =>
        chk (h215.kind a221 = 42) <|
        chk (inb (x10 + (2 : Int32)) (h215.len a221)) <|
        chk (a221 = K 999 ∧ h215.len a221 = K 998) <|
        chk (h215.kind y11 = 5) <|
        bnd (F_X3_votes n K y11 (scI K (ix (x10 + (1 : Int32)))) (scI K (ix (x10 + (2 : Int32)))) h215) fun r225 h226 =>
        if r214 = r225 then (
          F_L_law_L18 n K y11 y12 y13 f (x10 + (6 : Int32)) h226
        ) else (
          some ((0 : Int32), h226)
        )
      ) else
      if ((scI K (ix x10)) &&& (31 : Int32)) = (9 : Int32) then (
        ob y13 fun a230 =>
        chk (h.kind a230 = 42) <|
        chk (inb (x10 + (1 : Int32)) (h.len a230)) <|
        chk (a230 = K 999 ∧ h.len a230 = K 998) <|
        ob y13 fun a234 =>
        chk (h.kind a234 = 42) <|
        chk (inb (x10 + (2 : Int32)) (h.len a234)) <|
        chk (a234 = K 999 ∧ h.len a234 = K 998) <|
        chk (h.kind y12 = 1) <|
        bnd (F_X0_beats n K y12 (scI K (ix (x10 + (1 : Int32)))) (scI K (ix (x10 + (2 : Int32)))) h) fun r238 h239 =>
        ob y13 fun a241 =>
        chk (h239.kind a241 = 42) <|
        chk (inb (x10 + (1 : Int32)) (h239.len a241)) <|
        chk (a241 = K 999 ∧ h239.len a241 = K 998) <|
        ob y13 fun a245 =>
        chk (h239.kind a245 = 42) <|
        chk (inb (x10 + (2 : Int32)) (h239.len a245)) <|
        chk (a245 = K 999 ∧ h239.len a245 = K 998) <|
        chk (h239.kind y11 = 5) <|
        bnd (F_X3_beats n K y11 (scI K (ix (x10 + (1 : Int32)))) (scI K (ix (x10 + (2 : Int32)))) h239) fun r249 h250 =>
        if r238 = r249 then (
          F_L_law_L18 n K y11 y12 y13 f (x10 + (6 : Int32)) h250
        ) else (
          some ((0 : Int32), h250)
        )
      ) else
      if ((scI K (ix x10)) &&& (31 : Int32)) = (10 : Int32) then (
        ob y13 fun a254 =>
        chk (h.kind a254 = 42) <|
        chk (inb (x10 + (1 : Int32)) (h.len a254)) <|
        chk (a254 = K 999 ∧ h.len a254 = K 998) <|
        ob y13 fun a258 =>
        chk (h.kind a258 = 42) <|
        chk (inb (x10 + (2 : Int32)) (h.len a258)) <|
        chk (a258 = K 999 ∧ h.len a258 = K 998) <|
        chk (h.kind y12 = 1) <|
        bnd (F_X0_wins n K y12 (scI K (ix (x10 + (1 : Int32)))) (scI K (ix (x10 + (2 : Int32)))) h) fun r262 h263 =>
        ob y13 fun a265 =>
        chk (h263.kind a265 = 42) <|
        chk (inb (x10 + (1 : Int32)) (h263.len a265)) <|
        chk (a265 = K 999 ∧ h263.len a265 = K 998) <|
        ob y13 fun a269 =>
        chk (h263.kind a269 = 42) <|
        chk (inb (x10 + (2 : Int32)) (h263.len a269)) <|
        chk (a269 = K 999 ∧ h263.len a269 = K 998) <|
        chk (h263.kind y11 = 5) <|
        bnd (F_X3_wins n K y11 (scI K (ix (x10 + (1 : Int32)))) (scI K (ix (x10 + (2 : Int32)))) h263) fun r273 h274 =>
        if r262 = r273 then (
          F_L_law_L18 n K y11 y12 y13 f (x10 + (6 : Int32)) h274
        ) else (
          some ((0 : Int32), h274)
        )
      ) else
      if ((scI K (ix x10)) &&& (31 : Int32)) = (11 : Int32) then (
        ob y13 fun a278 =>
        chk (h.kind a278 = 42) <|
        chk (inb (x10 + (1 : Int32)) (h.len a278)) <|
        chk (a278 = K 999 ∧ h.len a278 = K 998) <|
        ob y13 fun a282 =>
        chk (h.kind a282 = 42) <|
        chk (inb (x10 + (2 : Int32)) (h.len a282)) <|
        chk (a282 = K 999 ∧ h.len a282 = K 998) <|
        chk (h.kind y12 = 1) <|
        bnd (F_X0_line n K y12 (scI K (ix (x10 + (1 : Int32)))) (scI K (ix (x10 + (2 : Int32)))) h) fun r286 h287 =>
        ob y13 fun a289 =>
        chk (h287.kind a289 = 42) <|
        chk (inb (x10 + (1 : Int32)) (h287.len a289)) <|
        chk (a289 = K 999 ∧ h287.len a289 = K 998) <|
        ob y13 fun a293 =>
        chk (h287.kind a293 = 42) <|
        chk (inb (x10 + (2 : Int32)) (h287.len a293)) <|
        chk (a293 = K 999 ∧ h287.len a293 = K 998) <|
        chk (h287.kind y11 = 5) <|
        bnd (F_X3_line n K y11 (scI K (ix (x10 + (1 : Int32)))) (scI K (ix (x10 + (2 : Int32)))) h287) fun r297 h298 =>
        if r286 = r297 then (
          F_L_law_L18 n K y11 y12 y13 f (x10 + (6 : Int32)) h298
        ) else (
          some ((0 : Int32), h298)
        )
      ) else
      if ((scI K (ix x10)) &&& (31 : Int32)) = (12 : Int32) then (
        ob y13 fun a302 =>
        chk (h.kind a302 = 42) <|
        chk (inb (x10 + (1 : Int32)) (h.len a302)) <|
        chk (a302 = K 999 ∧ h.len a302 = K 998) <|
        ob y13 fun a306 =>
        chk (h.kind a306 = 42) <|
        chk (inb (x10 + (2 : Int32)) (h.len a306)) <|
        chk (a306 = K 999 ∧ h.len a306 = K 998) <|
        chk (h.kind y12 = 1) <|
        bnd (F_X0_middle n K y12 (scI K (ix (x10 + (1 : Int32)))) (scI K (ix (x10 + (2 : Int32)))) h) fun r310 h311 =>
        ob y13 fun a313 =>
        chk (h311.kind a313 = 42) <|
        chk (inb (x10 + (1 : Int32)) (h311.len a313)) <|
        chk (a313 = K 999 ∧ h311.len a313 = K 998) <|
        ob y13 fun a317 =>
        chk (h311.kind a317 = 42) <|
        chk (inb (x10 + (2 : Int32)) (h311.len a317)) <|
        chk (a317 = K 999 ∧ h311.len a317 = K 998) <|
        chk (h311.kind y11 = 5) <|
        bnd (F_X3_middle n K y11 (scI K (ix (x10 + (1 : Int32)))) (scI K (ix (x10 + (2 : Int32)))) h311) fun r321 h322 =>
        if r310 = r321 then (
          F_L_law_L18 n K y11 y12 y13 f (x10 + (6 : Int32)) h322
        ) else (
          some ((0 : Int32), h322)
        )
      ) else
      if ((scI K (ix x10)) &&& (31 : Int32)) = (13 : Int32) then (
        ob y13 fun a326 =>
        chk (h.kind a326 = 42) <|
        chk (inb (x10 + (1 : Int32)) (h.len a326)) <|
        chk (a326 = K 999 ∧ h.len a326 = K 998) <|
        chk (h.kind y12 = 1) <|
        bnd (F_X0_proof n K y12 (scI K (ix (x10 + (1 : Int32)))) h) fun r330 h331 =>
        ob y13 fun a333 =>
        chk (h331.kind a333 = 42) <|
        chk (inb (x10 + (1 : Int32)) (h331.len a333)) <|
        chk (a333 = K 999 ∧ h331.len a333 = K 998) <|
        chk (h331.kind y11 = 5) <|
        bnd (F_X3_proof n K y11 (scI K (ix (x10 + (1 : Int32)))) h331) fun r337 h338 =>
        if r330 = r337 then (
          F_L_law_L18 n K y11 y12 y13 f (x10 + (6 : Int32)) h338
        ) else (
          some ((0 : Int32), h338)
        )
      ) else
      if ((scI K (ix x10)) &&& (31 : Int32)) = (14 : Int32) then (
        ob y13 fun a342 =>
        chk (h.kind a342 = 42) <|
        chk (inb (x10 + (1 : Int32)) (h.len a342)) <|
        chk (a342 = K 999 ∧ h.len a342 = K 998) <|
        chk (h.kind y12 = 1) <|
        bnd (F_X0_round n K y12 (scI K (ix (x10 + (1 : Int32)))) h) fun r346 h347 =>
        ob y13 fun a349 =>
        chk (h347.kind a349 = 42) <|
        chk (inb (x10 + (1 : Int32)) (h347.len a349)) <|
        chk (a349 = K 999 ∧ h347.len a349 = K 998) <|
        chk (h347.kind y11 = 5) <|
        bnd (F_X3_round n K y11 (scI K (ix (x10 + (1 : Int32)))) h347) fun r353 h354 =>
        if r346 = r353 then (
          F_L_law_L18 n K y11 y12 y13 f (x10 + (6 : Int32)) h354
        ) else (
          some ((0 : Int32), h354)
        )
      ) else
      if ((scI K (ix x10)) &&& (31 : Int32)) = (15 : Int32) then (
        ob y13 fun a358 =>
        chk (h.kind a358 = 42) <|
        chk (inb (x10 + (1 : Int32)) (h.len a358)) <|
        chk (a358 = K 999 ∧ h.len a358 = K 998) <|
        ob y13 fun a362 =>
        chk (h.kind a362 = 42) <|
        chk (inb (x10 + (2 : Int32)) (h.len a362)) <|
        chk (a362 = K 999 ∧ h.len a362 = K 998) <|
        ob y13 fun a366 =>
        chk (h.kind a366 = 42) <|
        chk (inb (x10 + (3 : Int32)) (h.len a366)) <|
        chk (a366 = K 999 ∧ h.len a366 = K 998) <|
        chk (h.kind y12 = 1) <|
        bnd (F_X0_winSet n K y12 (scI K (ix (x10 + (1 : Int32)))) (scI K (ix (x10 + (2 : Int32)))) (scI K (ix (x10 + (3 : Int32)))) h) fun r370 h371 =>
        ob y13 fun a373 =>
        chk (h371.kind a373 = 42) <|
        chk (inb (x10 + (1 : Int32)) (h371.len a373)) <|
        chk (a373 = K 999 ∧ h371.len a373 = K 998) <|
        ob y13 fun a377 =>
        chk (h371.kind a377 = 42) <|
        chk (inb (x10 + (2 : Int32)) (h371.len a377)) <|
        chk (a377 = K 999 ∧ h371.len a377 = K 998) <|
        ob y13 fun a381 =>
        chk (h371.kind a381 = 42) <|
        chk (inb (x10 + (3 : Int32)) (h371.len a381)) <|
        chk (a381 = K 999 ∧ h371.len a381 = K 998) <|
        chk (h371.kind y11 = 5) <|
        bnd (F_X3_winSet n K y11 (scI K (ix (x10 + (1 : Int32)))) (scI K (ix (x10 + (2 : Int32)))) (scI K (ix (x10 + (3 : Int32)))) h371) fun r385 h386 =>
        if r370 = r385 then (
          F_L_law_L18 n K y11 y12 y13 f (x10 + (6 : Int32)) h386
        ) else (
          some ((0 : Int32), h386)
        )
      ) else
      if ((scI K (ix x10)) &&& (31 : Int32)) = (16 : Int32) then (
        ob y13 fun a390 =>
        chk (h.kind a390 = 42) <|
        chk (inb (x10 + (1 : Int32)) (h.len a390)) <|
        chk (a390 = K 999 ∧ h.len a390 = K 998) <|
        ob y13 fun a394 =>
        chk (h.kind a394 = 42) <|
        chk (inb (x10 + (2 : Int32)) (h.len a394)) <|
        chk (a394 = K 999 ∧ h.len a394 = K 998) <|
        ob y13 fun a398 =>
        chk (h.kind a398 = 42) <|
        chk (inb (x10 + (3 : Int32)) (h.len a398)) <|
        chk (a398 = K 999 ∧ h.len a398 = K 998) <|
        ob y13 fun a402 =>
        chk (h.kind a402 = 42) <|
        chk (inb (x10 + (4 : Int32)) (h.len a402)) <|
        chk (a402 = K 999 ∧ h.len a402 = K 998) <|
        chk (h.kind y12 = 1) <|
        bnd (F_X0_piece n K y12 (scI K (ix (x10 + (1 : Int32)))) (scI K (ix (x10 + (2 : Int32)))) (scI K (ix (x10 + (3 : Int32)))) (scI K (ix (x10 + (4 : Int32)))) h) fun r406 h407 =>
        ob y13 fun a409 =>
        chk (h407.kind a409 = 42) <|
        chk (inb (x10 + (1 : Int32)) (h407.len a409)) <|
        chk (a409 = K 999 ∧ h407.len a409 = K 998) <|
        ob y13 fun a413 =>
        chk (h407.kind a413 = 42) <|
        chk (inb (x10 + (2 : Int32)) (h407.len a413)) <|
        chk (a413 = K 999 ∧ h407.len a413 = K 998) <|
        ob y13 fun a417 =>
        chk (h407.kind a417 = 42) <|
        chk (inb (x10 + (3 : Int32)) (h407.len a417)) <|
        chk (a417 = K 999 ∧ h407.len a417 = K 998) <|
        ob y13 fun a421 =>
        chk (h407.kind a421 = 42) <|
        chk (inb (x10 + (4 : Int32)) (h407.len a421)) <|
        chk (a421 = K 999 ∧ h407.len a421 = K 998) <|
        chk (h407.kind y11 = 5) <|
        bnd (F_X3_piece n K y11 (scI K (ix (x10 + (1 : Int32)))) (scI K (ix (x10 + (2 : Int32)))) (scI K (ix (x10 + (3 : Int32)))) (scI K (ix (x10 + (4 : Int32)))) h407) fun r425 h426 =>
        if r406 = r425 then (
          F_L_law_L18 n K y11 y12 y13 f (x10 + (6 : Int32)) h426
        ) else (
          some ((0 : Int32), h426)
        )
      ) else
      if ((scI K (ix x10)) &&& (31 : Int32)) = (17 : Int32) then (
        ob y13 fun a430 =>
        chk (h.kind a430 = 42) <|
        chk (inb (x10 + (1 : Int32)) (h.len a430)) <|
        chk (a430 = K 999 ∧ h.len a430 = K 998) <|
        ob y13 fun a434 =>
        chk (h.kind a434 = 42) <|
        chk (inb (x10 + (2 : Int32)) (h.len a434)) <|
        chk (a434 = K 999 ∧ h.len a434 = K 998) <|
        ob y13 fun a438 =>
        chk (h.kind a438 = 42) <|
        chk (inb (x10 + (3 : Int32)) (h.len a438)) <|
        chk (a438 = K 999 ∧ h.len a438 = K 998) <|
        chk (h.kind y12 = 1) <|
        bnd (F_X0_led n K y12 (scI K (ix (x10 + (1 : Int32)))) (scI K (ix (x10 + (2 : Int32)))) (scI K (ix (x10 + (3 : Int32)))) h) fun r442 h443 =>
        ob y13 fun a445 =>
        chk (h443.kind a445 = 42) <|
        chk (inb (x10 + (1 : Int32)) (h443.len a445)) <|
        chk (a445 = K 999 ∧ h443.len a445 = K 998) <|
        ob y13 fun a449 =>
        chk (h443.kind a449 = 42) <|
        chk (inb (x10 + (2 : Int32)) (h443.len a449)) <|
        chk (a449 = K 999 ∧ h443.len a449 = K 998) <|
        ob y13 fun a453 =>
        chk (h443.kind a453 = 42) <|
        chk (inb (x10 + (3 : Int32)) (h443.len a453)) <|
        chk (a453 = K 999 ∧ h443.len a453 = K 998) <|
        chk (h443.kind y11 = 5) <|
        bnd (F_X3_led n K y11 (scI K (ix (x10 + (1 : Int32)))) (scI K (ix (x10 + (2 : Int32)))) (scI K (ix (x10 + (3 : Int32)))) h443) fun r457 h458 =>
        if r442 = r457 then (
          F_L_law_L18 n K y11 y12 y13 f (x10 + (6 : Int32)) h458
        ) else (
          some ((0 : Int32), h458)
        )
      ) else
      if ((scI K (ix x10)) &&& (31 : Int32)) = (18 : Int32) then (
        ob y13 fun a462 =>
        chk (h.kind a462 = 42) <|
        chk (inb (x10 + (1 : Int32)) (h.len a462)) <|
        chk (a462 = K 999 ∧ h.len a462 = K 998) <|
        chk (h.kind y12 = 1) <|
        bnd (F_X0_best n K y12 (scI K (ix (x10 + (1 : Int32)))) h) fun r466 h467 =>
        ob y13 fun a469 =>
        chk (h467.kind a469 = 42) <|
        chk (inb (x10 + (1 : Int32)) (h467.len a469)) <|
        chk (a469 = K 999 ∧ h467.len a469 = K 998) <|
        chk (h467.kind y11 = 5) <|
        bnd (F_X3_best n K y11 (scI K (ix (x10 + (1 : Int32)))) h467) fun r473 h474 =>
        if r466 = r473 then (
          F_L_law_L18 n K y11 y12 y13 f (x10 + (6 : Int32)) h474
        ) else (
          some ((0 : Int32), h474)
        )
      ) else
      if ((scI K (ix x10)) &&& (31 : Int32)) = (19 : Int32) then (
        ob y13 fun a478 =>
        chk (h.kind a478 = 42) <|
        chk (inb (x10 + (1 : Int32)) (h.len a478)) <|
        chk (a478 = K 999 ∧ h.len a478 = K 998) <|
        ob y13 fun a482 =>
        chk (h.kind a482 = 42) <|
        chk (inb (x10 + (2 : Int32)) (h.len a482)) <|
        chk (a482 = K 999 ∧ h.len a482 = K 998) <|
        chk (h.kind y12 = 1) <|
        bnd (F_X0_between n K y12 (scI K (ix (x10 + (1 : Int32)))) (scI K (ix (x10 + (2 : Int32)))) h) fun r486 h487 =>
        ob y13 fun a489 =>
        chk (h487.kind a489 = 42) <|
        chk (inb (x10 + (1 : Int32)) (h487.len a489)) <|
        chk (a489 = K 999 ∧ h487.len a489 = K 998) <|
        ob y13 fun a493 =>
        chk (h487.kind a493 = 42) <|
        chk (inb (x10 + (2 : Int32)) (h487.len a493)) <|
        chk (a493 = K 999 ∧ h487.len a493 = K 998) <|
        chk (h487.kind y11 = 5) <|
        bnd (F_X3_between n K y11 (scI K (ix (x10 + (1 : Int32)))) (scI K (ix (x10 + (2 : Int32)))) h487) fun r497 h498 =>
        if r486 = r497 then (
          F_L_law_L18 n K y11 y12 y13 f (x10 + (6 : Int32)) h498
        ) else (
          some ((0 : Int32), h498)
        )
      ) else
      if ((scI K (ix x10)) &&& (31 : Int32)) = (20 : Int32) then (
        chk (h.kind y12 = 1) <|
        bnd (F_X0_rest n K y12 h) fun r502 h503 =>
        chk (h503.kind y11 = 5) <|
        bnd (F_X3_rest n K y11 h503) fun r505 h506 =>
        if r502 = r505 then (
          F_L_law_L18 n K y11 y12 y13 f (x10 + (6 : Int32)) h506
        ) else (
          some ((0 : Int32), h506)
        )
      ) else
      if ((scI K (ix x10)) &&& (31 : Int32)) = (21 : Int32) then (
        ob y13 fun a510 =>
        chk (h.kind a510 = 42) <|
        chk (inb (x10 + (1 : Int32)) (h.len a510)) <|
        chk (a510 = K 999 ∧ h.len a510 = K 998) <|
        chk (h.kind y12 = 1) <|
        bnd (F_X0_lot n K y12 (scI K (ix (x10 + (1 : Int32)))) h) fun r514 h515 =>
        ob y13 fun a517 =>
        chk (h515.kind a517 = 42) <|
        chk (inb (x10 + (1 : Int32)) (h515.len a517)) <|
        chk (a517 = K 999 ∧ h515.len a517 = K 998) <|
        chk (h515.kind y11 = 5) <|
        bnd (F_X3_lot n K y11 (scI K (ix (x10 + (1 : Int32)))) h515) fun r521 h522 =>
        if r514 = r521 then (
          F_L_law_L18 n K y11 y12 y13 f (x10 + (6 : Int32)) h522
        ) else (
          some ((0 : Int32), h522)
        )
      ) else
      if ((scI K (ix x10)) &&& (31 : Int32)) = (22 : Int32) then (
        ob y13 fun a526 =>
        chk (h.kind a526 = 42) <|
        chk (inb (x10 + (1 : Int32)) (h.len a526)) <|
        chk (a526 = K 999 ∧ h.len a526 = K 998) <|
        chk (h.kind y12 = 1) <|
        bnd (F_X0_need n K y12 (scI K (ix (x10 + (1 : Int32)))) h) fun r530 h531 =>
        ob y13 fun a533 =>
        chk (h531.kind a533 = 42) <|
        chk (inb (x10 + (1 : Int32)) (h531.len a533)) <|
        chk (a533 = K 999 ∧ h531.len a533 = K 998) <|
        chk (h531.kind y11 = 5) <|
        bnd (F_X3_need n K y11 (scI K (ix (x10 + (1 : Int32)))) h531) fun r537 h538 =>
        if r530 = r537 then (
          F_L_law_L18 n K y11 y12 y13 f (x10 + (6 : Int32)) h538
        ) else (
          some ((0 : Int32), h538)
        )
      ) else
      if ((scI K (ix x10)) &&& (31 : Int32)) = (23 : Int32) then (
        ob y13 fun a542 =>
        chk (h.kind a542 = 42) <|
        chk (inb (x10 + (1 : Int32)) (h.len a542)) <|
        chk (a542 = K 999 ∧ h.len a542 = K 998) <|
        ob y13 fun a546 =>
        chk (h.kind a546 = 42) <|
        chk (inb (x10 + (2 : Int32)) (h.len a546)) <|
        chk (a546 = K 999 ∧ h.len a546 = K 998) <|
        chk (h.kind y12 = 1) <|
        bnd (F_X0_most n K y12 (scI K (ix (x10 + (1 : Int32)))) (scI K (ix (x10 + (2 : Int32)))) h) fun r550 h551 =>
        ob y13 fun a553 =>
        chk (h551.kind a553 = 42) <|
        chk (inb (x10 + (1 : Int32)) (h551.len a553)) <|
        chk (a553 = K 999 ∧ h551.len a553 = K 998) <|
        ob y13 fun a557 =>
        chk (h551.kind a557 = 42) <|
        chk (inb (x10 + (2 : Int32)) (h551.len a557)) <|
        chk (a557 = K 999 ∧ h551.len a557 = K 998) <|
        chk (h551.kind y11 = 5) <|
        bnd (F_X3_most n K y11 (scI K (ix (x10 + (1 : Int32)))) (scI K (ix (x10 + (2 : Int32)))) h551) fun r561 h562 =>
        if r550 = r561 then (
          F_L_law_L18 n K y11 y12 y13 f (x10 + (6 : Int32)) h562
        ) else (
          some ((0 : Int32), h562)
        )
      ) else
      if ((scI K (ix x10)) &&& (31 : Int32)) = (24 : Int32) then (
        chk (h.kind y12 = 1) <|
        bnd (F_X0_peace n K y12 h) fun r566 h567 =>
        chk (h567.kind y11 = 5) <|
        bnd (F_X3_peace n K y11 h567) fun r569 h570 =>
        if r566 = r569 then (
          F_L_law_L18 n K y11 y12 y13 f (x10 + (6 : Int32)) h570
        ) else (
          some ((0 : Int32), h570)
        )
      ) else
      if ((scI K (ix x10)) &&& (31 : Int32)) = (25 : Int32) then (
        ob y13 fun a574 =>
        chk (h.kind a574 = 42) <|
        chk (inb (x10 + (1 : Int32)) (h.len a574)) <|
        chk (a574 = K 999 ∧ h.len a574 = K 998) <|
        chk (h.kind y12 = 1) <|
        bnd (F_X0_make n K y12 (scI K (ix (x10 + (1 : Int32)))) h) fun r578 h579 =>
        ob y13 fun a581 =>
        chk (h579.kind a581 = 42) <|
        chk (inb (x10 + (1 : Int32)) (h579.len a581)) <|
        chk (a581 = K 999 ∧ h579.len a581 = K 998) <|
        chk (h579.kind y11 = 5) <|
        bnd (F_X3_make n K y11 (scI K (ix (x10 + (1 : Int32)))) h579) fun r585 h586 =>
        if r578 = r585 then (
          F_L_law_L18 n K y11 y12 y13 f (x10 + (6 : Int32)) h586
        ) else (
          some ((0 : Int32), h586)
        )
      ) else
      if ((scI K (ix x10)) &&& (31 : Int32)) = (26 : Int32) then (
        ob y13 fun a590 =>
        chk (h.kind a590 = 42) <|
        chk (inb (x10 + (1 : Int32)) (h.len a590)) <|
        chk (a590 = K 999 ∧ h.len a590 = K 998) <|
        chk (h.kind y12 = 1) <|
        bnd (F_X0_join n K y12 (scI K (ix (x10 + (1 : Int32)))) h) fun r594 h595 =>
        ob y13 fun a597 =>
        chk (h595.kind a597 = 42) <|
        chk (inb (x10 + (1 : Int32)) (h595.len a597)) <|
        chk (a597 = K 999 ∧ h595.len a597 = K 998) <|
        chk (h595.kind y11 = 5) <|
        bnd (F_X3_join n K y11 (scI K (ix (x10 + (1 : Int32)))) h595) fun r601 h602 =>
        if r594 = r601 then (
          F_L_law_L18 n K y11 y12 y13 f (x10 + (6 : Int32)) h602
        ) else (
          some ((0 : Int32), h602)
        )
      ) else
      if ((scI K (ix x10)) &&& (31 : Int32)) = (27 : Int32) then (
        ob y13 fun a606 =>
        chk (h.kind a606 = 42) <|
        chk (inb (x10 + (1 : Int32)) (h.len a606)) <|
        chk (a606 = K 999 ∧ h.len a606 = K 998) <|
        ob y13 fun a610 =>
        chk (h.kind a610 = 42) <|
        chk (inb (x10 + (2 : Int32)) (h.len a610)) <|
        chk (a610 = K 999 ∧ h.len a610 = K 998) <|
        chk (h.kind y12 = 1) <|
        bnd (F_X0_doubt n K y12 (scI K (ix (x10 + (1 : Int32)))) (scI K (ix (x10 + (2 : Int32)))) h) fun r614 h615 =>
        ob y13 fun a617 =>
        chk (h615.kind a617 = 42) <|
        chk (inb (x10 + (1 : Int32)) (h615.len a617)) <|
        chk (a617 = K 999 ∧ h615.len a617 = K 998) <|
        ob y13 fun a621 =>
        chk (h615.kind a621 = 42) <|
        chk (inb (x10 + (2 : Int32)) (h615.len a621)) <|
        chk (a621 = K 999 ∧ h615.len a621 = K 998) <|
        chk (h615.kind y11 = 5) <|
        bnd (F_X3_doubt n K y11 (scI K (ix (x10 + (1 : Int32)))) (scI K (ix (x10 + (2 : Int32)))) h615) fun r625 h626 =>
        if r614 = r625 then (
          F_L_law_L18 n K y11 y12 y13 f (x10 + (6 : Int32)) h626
        ) else (
          some ((0 : Int32), h626)
        )
      ) else
      if ((scI K (ix x10)) &&& (31 : Int32)) = (28 : Int32) then (
        ob y13 fun a630 =>
        chk (h.kind a630 = 42) <|
        chk (inb (x10 + (1 : Int32)) (h.len a630)) <|
        chk (a630 = K 999 ∧ h.len a630 = K 998) <|
        ob y13 fun a634 =>
        chk (h.kind a634 = 42) <|
        chk (inb (x10 + (2 : Int32)) (h.len a634)) <|
        chk (a634 = K 999 ∧ h.len a634 = K 998) <|
        ob y13 fun a638 =>
        chk (h.kind a638 = 42) <|
        chk (inb (x10 + (3 : Int32)) (h.len a638)) <|
        chk (a638 = K 999 ∧ h.len a638 = K 998) <|
        chk (h.kind y12 = 1) <|
        bnd (F_X0_move n K y12 (scI K (ix (x10 + (1 : Int32)))) (scI K (ix (x10 + (2 : Int32)))) (scI K (ix (x10 + (3 : Int32)))) h) fun r642 h643 =>
        ob y13 fun a645 =>
        chk (h643.kind a645 = 42) <|
        chk (inb (x10 + (1 : Int32)) (h643.len a645)) <|
        chk (a645 = K 999 ∧ h643.len a645 = K 998) <|
        ob y13 fun a649 =>
        chk (h643.kind a649 = 42) <|
        chk (inb (x10 + (2 : Int32)) (h643.len a649)) <|
        chk (a649 = K 999 ∧ h643.len a649 = K 998) <|
        ob y13 fun a653 =>
        chk (h643.kind a653 = 42) <|
        chk (inb (x10 + (3 : Int32)) (h643.len a653)) <|
        chk (a653 = K 999 ∧ h643.len a653 = K 998) <|
        chk (h643.kind y11 = 5) <|
        bnd (F_X3_move n K y11 (scI K (ix (x10 + (1 : Int32)))) (scI K (ix (x10 + (2 : Int32)))) (scI K (ix (x10 + (3 : Int32)))) h643) fun r657 h658 =>
        if r642 = r657 then (
          F_L_law_L18 n K y11 y12 y13 f (x10 + (6 : Int32)) h658
        ) else (
          some ((0 : Int32), h658)
        )
      ) else
      if ((scI K (ix x10)) &&& (31 : Int32)) = (29 : Int32) then (
        chk (h.kind y12 = 1) <|
        bnd (F_X0_undo n K y12 h) fun r662 h663 =>
        chk (h663.kind y11 = 5) <|
        bnd (F_X3_undo n K y11 h663) fun r665 h666 =>
        if r662 = r665 then (
          F_L_law_L18 n K y11 y12 y13 f (x10 + (6 : Int32)) h666
        ) else (
          some ((0 : Int32), h666)
        )
      ) else
      if ((scI K (ix x10)) &&& (31 : Int32)) = (30 : Int32) then (
        ob y13 fun a670 =>
        chk (h.kind a670 = 42) <|
        chk (inb (x10 + (1 : Int32)) (h.len a670)) <|
        chk (a670 = K 999 ∧ h.len a670 = K 998) <|
        ob y13 fun a674 =>
        chk (h.kind a674 = 42) <|
        chk (inb (x10 + (2 : Int32)) (h.len a674)) <|
        chk (a674 = K 999 ∧ h.len a674 = K 998) <|
        chk (h.kind y12 = 1) <|
        bnd (F_X0_moved n K y12 (scI K (ix (x10 + (1 : Int32)))) (scI K (ix (x10 + (2 : Int32)))) h) fun r678 h679 =>
        ob y13 fun a681 =>
        chk (h679.kind a681 = 42) <|
        chk (inb (x10 + (1 : Int32)) (h679.len a681)) <|
        chk (a681 = K 999 ∧ h679.len a681 = K 998) <|
        ob y13 fun a685 =>
        chk (h679.kind a685 = 42) <|
        chk (inb (x10 + (2 : Int32)) (h679.len a685)) <|
        chk (a685 = K 999 ∧ h679.len a685 = K 998) <|
        chk (h679.kind y11 = 5) <|
        bnd (F_X3_moved n K y11 (scI K (ix (x10 + (1 : Int32)))) (scI K (ix (x10 + (2 : Int32)))) h679) fun r689 h690 =>
        if r678 = r689 then (
          F_L_law_L18 n K y11 y12 y13 f (x10 + (6 : Int32)) h690
        ) else (
          some ((0 : Int32), h690)
        )
      ) else
      if ((scI K (ix x10)) &&& (31 : Int32)) = (31 : Int32) then (
        ob y13 fun a694 =>
        chk (h.kind a694 = 42) <|
        chk (inb (x10 + (1 : Int32)) (h.len a694)) <|
        chk (a694 = K 999 ∧ h.len a694 = K 998) <|
        chk (h.kind y12 = 1) <|
        bnd (F_X0_count n K y12 (scI K (ix (x10 + (1 : Int32)))) h) fun r698 h699 =>
        ob y13 fun a701 =>
        chk (h699.kind a701 = 42) <|
        chk (inb (x10 + (1 : Int32)) (h699.len a701)) <|
        chk (a701 = K 999 ∧ h699.len a701 = K 998) <|
        chk (h699.kind y11 = 5) <|
        bnd (F_X3_count n K y11 (scI K (ix (x10 + (1 : Int32)))) h699) fun r705 h706 =>
        if r698 = r705 then (
          F_L_law_L18 n K y11 y12 y13 f (x10 + (6 : Int32)) h706
        ) else (
          some ((0 : Int32), h706)
        )
      ) else
      (
        F_L_law_L18 n K y11 y12 y13 f (x10 + (6 : Int32)) h
      )
    )
def F_L_law (n : Nat) (K : Nat → Nat) (p0 : Option Nat) (h : AH) : Option (Int32 × AH) :=
  hl (h.new 1 0 29) fun h1 =>
  bnd (F_X0_init n K h.n h1) fun _ h4 =>
  hl (h4.new 5 0 49) fun h5 =>
  bnd (F_X3_init n K h4.n h5) fun _ h8 =>
  F_L_law_L18 n K h4.n h.n p0 n (0 : Int32) h8
