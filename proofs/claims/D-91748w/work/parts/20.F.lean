set_option maxRecDepth 100000
/-! texts that stand: what length, charAt and indexOf give, by table -/
def sIxA (K : Nat → Nat) (a : Nat) : Nat → Option Nat
  | 0 => none
  | k + 1 => if K (k + 1) = a then some k else sIxA K a k
def sIx (K : Nat → Nat) (a : Nat) : Option Nat := sIxA K a 17
def sLn (i : Nat) : Nat := strLen.getD i 0
def sBt (i j : Nat) : Int32 := (strByt.getD i []).getD j 0
abbrev sOk (K : Nat → Nat) (h : AH) (i : Nat) : Prop := h.kind (K (i + 101)) = 41 ∧ h.len (K (i + 101)) = sLn i
/-- the first blank from k on, r left -/
def sSp (i : Nat) : Nat → Nat → Int32
  | 0, _ => -1
  | r + 1, k => if sBt i k = 32 then nI k else sSp i r (k + 1)
def F_SJ6_length (n : Nat) (K : Nat → Nat) (p0 : Nat) (h : AH) : Option (Int32 × AH) :=
  chk (h.kind p0 = 20) <| ob (sIx K p0) fun i => chk (sOk K h i) <| some (nI (sLn i), h)
def F_SJ6_charAt (n : Nat) (K : Nat → Nat) (p0 : Nat) (p1 : Int32) (h : AH) : Option (Int32 × AH) :=
  chk (h.kind p0 = 20) <| ob (sIx K p0) fun i => chk (sOk K h i) <| chk (inb p1 (sLn i)) <| some (sBt i (ix p1), h)
def F_SJ6_indexOf (n : Nat) (K : Nat → Nat) (p0 : Nat) (p1 : Int32) (p2 : Int32) (h : AH) : Option (Int32 × AH) :=
  chk (h.kind p0 = 20) <| ob (sIx K p0) fun i => chk (sOk K h i) <| chk ((p1 = 32 ∧ inb p2 (sLn i)) ∧ 100 < n) <| some (sSp i (sLn i - ix p2) (ix p2), h)
def F_J0_init (n : Nat) (K : Nat → Nat) (p0 : Nat) (h : AH) : Option (Unit × AH) :=
  some ((), h)
def F_J1_init (n : Nat) (K : Nat → Nat) (p0 : Nat) (h : AH) : Option (Unit × AH) :=
  bnd (F_J0_init n K p0 h) fun _ h2 =>
  chk (h2.kind p0 = 3) <|
  hl (h2.setI p0 0 (0 : Int32)) fun h4 =>
  some ((), h4)
def F_J2_init (n : Nat) (K : Nat → Nat) (p0 : Nat) (h : AH) : Option (Unit × AH) :=
  bnd (F_J1_init n K p0 h) fun _ h2 =>
  chk (h2.kind p0 = 3) <|
  hl (h2.setR p0 1 (some (K 0))) fun h4 =>
  some ((), h4)
def F_X1_init (n : Nat) (K : Nat → Nat) (p0 : Nat) (h : AH) : Option (Unit × AH) :=
  hl (h.new 3 0 3) fun h1 =>
  bnd (F_J2_init n K h.n h1) fun _ h4 =>
  chk (h4.kind p0 = 2) <|
  hl (h4.setR p0 8 (some h.n)) fun h6 =>
  hl (h6.new 3 0 3) fun h8 =>
  bnd (F_J2_init n K h6.n h8) fun _ h11 =>
  chk (h11.kind p0 = 2) <|
  hl (h11.setR p0 9 (some h6.n)) fun h13 =>
  some ((), h13)
def F_X2_init (n : Nat) (K : Nat → Nat) (p0 : Nat) (p1 : Int32) (p2 : Int32) (p3 : Int32) (h : AH) : Option (Unit × AH) :=
  chk (h.kind p0 = 4) <|
  hl (h.setI p0 0 p1) fun h2 =>
  hl (h2.setI p0 1 p2) fun h4 =>
  hl (h4.setI p0 2 p3) fun h6 =>
  some ((), h6)
def F_X0_init (n : Nat) (K : Nat → Nat) (p0 : Nat) (h : AH) : Option (Unit × AH) :=
  chk (0 ≤ (600 : Int32).toInt ∧ (600 : Int32).toInt ≤ 60000000) <|
  hl (h.new 31 (ix (600 : Int32)) (ix (600 : Int32))) fun h2 =>
  chk (h2.kind p0 = 1) <|
  hl (h2.setR p0 0 (some h.n)) fun h5 =>
  hl (h5.new 2 0 11) fun h7 =>
  bnd (F_X1_init n K h5.n h7) fun _ h10 =>
  chk (h10.kind p0 = 1) <|
  hl (h10.setR p0 1 (some h5.n)) fun h12 =>
  hl (h12.new 3 0 3) fun h14 =>
  bnd (F_J2_init n K h12.n h14) fun _ h17 =>
  chk (h17.kind p0 = 1) <|
  hl (h17.setR p0 2 (some h12.n)) fun h19 =>
  hl (h19.new 3 0 3) fun h21 =>
  bnd (F_J2_init n K h19.n h21) fun _ h24 =>
  chk (h24.kind p0 = 1) <|
  hl (h24.setR p0 3 (some h19.n)) fun h26 =>
  hl (h26.new 3 0 3) fun h28 =>
  bnd (F_J2_init n K h26.n h28) fun _ h31 =>
  chk (h31.kind p0 = 1) <|
  hl (h31.setR p0 4 (some h26.n)) fun h33 =>
  hl (h33.new 4 0 3) fun h35 =>
  bnd (F_X2_init n K h33.n (0 : Int32) (1 : Int32) (2 : Int32) h35) fun _ h38 =>
  chk (h38.kind p0 = 1) <|
  hl (h38.setR p0 5 (some h33.n)) fun h40 =>
  hl (h40.new 3 0 3) fun h42 =>
  bnd (F_J2_init n K h40.n h42) fun _ h45 =>
  chk (h45.kind p0 = 1) <|
  hl (h45.setR p0 8 (some h40.n)) fun h47 =>
  hl (h47.new 3 0 3) fun h49 =>
  bnd (F_J2_init n K h47.n h49) fun _ h52 =>
  chk (h52.kind p0 = 1) <|
  hl (h52.setR p0 9 (some h47.n)) fun h54 =>
  chk (0 ≤ (3 : Int32).toInt ∧ (3 : Int32).toInt ≤ 60000000) <|
  hl (h54.new 32 (ix (3 : Int32)) (ix (3 : Int32))) fun h57 =>
  chk (h57.kind p0 = 1) <|
  hl (h57.setR p0 10 (some h54.n)) fun h60 =>
  chk (0 ≤ (4 : Int32).toInt ∧ (4 : Int32).toInt ≤ 60000000) <|
  hl (h60.new 32 (ix (4 : Int32)) (ix (4 : Int32))) fun h63 =>
  chk (h63.kind p0 = 1) <|
  hl (h63.setR p0 18 (some h60.n)) fun h66 =>
  chk (0 ≤ (10000 : Int32).toInt ∧ (10000 : Int32).toInt ≤ 60000000) <|
  hl (h66.new 32 (ix (10000 : Int32)) (ix (10000 : Int32))) fun h69 =>
  chk (h69.kind p0 = 1) <|
  hl (h69.setR p0 19 (some h66.n)) fun h72 =>
  chk (0 ≤ (10000 : Int32).toInt ∧ (10000 : Int32).toInt ≤ 60000000) <|
  hl (h72.new 32 (ix (10000 : Int32)) (ix (10000 : Int32))) fun h75 =>
  chk (h75.kind p0 = 1) <|
  hl (h75.setR p0 20 (some h72.n)) fun h78 =>
  chk (0 ≤ (10000 : Int32).toInt ∧ (10000 : Int32).toInt ≤ 60000000) <|
  hl (h78.new 32 (ix (10000 : Int32)) (ix (10000 : Int32))) fun h81 =>
  chk (h81.kind p0 = 1) <|
  hl (h81.setR p0 21 (some h78.n)) fun h84 =>
  chk (0 ≤ (10000 : Int32).toInt ∧ (10000 : Int32).toInt ≤ 60000000) <|
  hl (h84.new 32 (ix (10000 : Int32)) (ix (10000 : Int32))) fun h87 =>
  chk (h87.kind p0 = 1) <|
  hl (h87.setR p0 22 (some h84.n)) fun h90 =>
  chk (0 ≤ (20 : Int32).toInt ∧ (20 : Int32).toInt ≤ 60000000) <|
  hl (h90.new 32 (ix (20 : Int32)) (ix (20 : Int32))) fun h93 =>
  chk (h93.kind p0 = 1) <|
  hl (h93.setR p0 25 (some h90.n)) fun h96 =>
  hl (gridA h96 35 32 (ix (8 : Int32)) (ix (8 : Int32)) (ix (8 : Int32))) fun h98 =>
  chk (h98.kind p0 = 1) <|
  hl (h98.setR p0 26 (some h96.n)) fun h101 =>
  chk (0 ≤ (8 : Int32).toInt ∧ (8 : Int32).toInt ≤ 60000000) <|
  hl (h101.new 32 (ix (8 : Int32)) (ix (8 : Int32))) fun h104 =>
  chk (h104.kind p0 = 1) <|
  hl (h104.setR p0 27 (some h101.n)) fun h107 =>
  chk (0 ≤ (8 : Int32).toInt ∧ (8 : Int32).toInt ≤ 60000000) <|
  hl (h107.new 33 (ix (8 : Int32)) (ix (8 : Int32))) fun h110 =>
  chk (h110.kind p0 = 1) <|
  hl (h110.setR p0 28 (some h107.n)) fun h113 =>
  some ((), h113)
def F_X0_feeds_L3 (n : Nat) (K : Nat → Nat) (y3 : Nat) (y4 : Int32) : Nat → Int32 → AH → Option (Unit × AH)
  | 0, _, _ => none
  | f + 1, x2, h =>
    if x2 < 0 then (
      some ((), h)
    ) else (
      chk (h.kind y3 = 1) <|
      ob (h.R y3 0) fun a7 =>
      chk (h.kind a7 = 31) <|
      chk (inb (h.I y3 6) (h.len a7)) <|
      hl (h.setI a7 (ix (h.I y3 6)) ((y4 >>> (x2 &&& 31)).toInt8.toInt32).toInt8.toInt32) fun h10 =>
      hl (h10.setI y3 6 ((h10.I y3 6) + (1 : Int32))) fun h12 =>
      F_X0_feeds_L3 n K y3 y4 f (x2 + (-8 : Int32)) h12
    )
def F_X0_feeds (n : Nat) (K : Nat → Nat) (p0 : Nat) (p1 : Int32) (h : AH) : Option (Unit × AH) :=
  F_X0_feeds_L3 n K p0 p1 n (24 : Int32) h
def F_X0_feed (n : Nat) (K : Nat → Nat) (p0 : Nat) (p1 : Int32) (p2 : Int32) (p3 : Int32) (p4 : Int32) (p5 : Int32) (h : AH) : Option (Int32 × AH) :=
  chk (h.kind p0 = 1) <|
  if ((h.I p0 6) + (20 : Int32)) ≤ (600 : Int32) then (
    bnd (F_X0_feeds n K p0 p1 h) fun _ h4 =>
    chk (h4.kind p0 = 1) <|
    bnd (F_X0_feeds n K p0 p2 h4) fun _ h6 =>
    chk (h6.kind p0 = 1) <|
    bnd (F_X0_feeds n K p0 p3 h6) fun _ h9 =>
    chk (h9.kind p0 = 1) <|
    bnd (F_X0_feeds n K p0 p4 h9) fun _ h12 =>
    chk (h12.kind p0 = 1) <|
    bnd (F_X0_feeds n K p0 p5 h12) fun _ h15 =>
    chk (h15.kind p0 = 1) <|
    some (h15.I p0 6, h15)
  ) else (
    some ((-1 : Int32), h)
  )
def F_X0_in (n : Nat) (K : Nat → Nat) (p0 : Int32) (p1 : Int32) (p2 : Int32) (h : AH) : Option (Int32 × AH) :=
  if p0 < p1 then (
    some ((0 : Int32), h)
  ) else (
    if p2 < p0 then (
      some ((0 : Int32), h)
    ) else (
      some ((1 : Int32), h)
    )
  )
def F_X0_end (n : Nat) (K : Nat → Nat) (p0 : Nat) (p1 : Int32) (h : AH) : Option (Int32 × AH) :=
  chk (h.kind p0 = 1) <|
  bnd (F_X0_in n K p1 (0 : Int32) (h.I p0 6) h) fun r2 h3 =>
  if ¬ r2 = 0 then (
    chk (h3.kind p0 = 1) <|
    hl (h3.setI p0 6 p1) fun h6 =>
    some ((1 : Int32), h6)
  ) else (
    some ((0 : Int32), h3)
  )
def F_J2_clear_L27 (n : Nat) (K : Nat → Nat) (y8 : Int32) (y9 : Option Nat) : Nat → Int32 → AH → Option (Unit × AH)
  | 0, _, _ => none
  | f + 1, x7, h =>
    if y8 ≤ x7 then (
      some ((), h)
    ) else (
      ob y9 fun a11 =>
      chk (h.kind a11 = 34) <|
      chk (inb x7 (h.len a11)) <|
      hl (h.setR a11 (ix x7) none) fun h14 =>
      F_J2_clear_L27 n K y8 y9 f (x7 + (1 : Int32)) h14
    )
def F_J2_clear (n : Nat) (K : Nat → Nat) (p0 : Nat) (h : AH) : Option (Unit × AH) :=
  chk (h.kind p0 = 3) <|
  hl (h.setI p0 0 ((h.I p0 0) + (1 : Int32))) fun h2 =>
  hl (h2.setI p0 2 (0 : Int32)) fun h4 =>
  F_J2_clear_L27 n K (h2.I p0 2) (h2.R p0 1) n (0 : Int32) h4
def F_X1_isLetter (n : Nat) (K : Nat → Nat) (p0 : Int32) (h : AH) : Option (Int32 × AH) :=
  if p0 < (97 : Int32) then (
    some ((0 : Int32), h)
  ) else (
    if (122 : Int32) < p0 then (
      some ((0 : Int32), h)
    ) else (
      some ((1 : Int32), h)
    )
  )
def F_X1_isDigit (n : Nat) (K : Nat → Nat) (p0 : Int32) (h : AH) : Option (Int32 × AH) :=
  if p0 < (48 : Int32) then (
    some ((0 : Int32), h)
  ) else (
    if (57 : Int32) < p0 then (
      some ((0 : Int32), h)
    ) else (
      some ((1 : Int32), h)
    )
  )
def F_J3_init_2 (n : Nat) (K : Nat → Nat) (p0 : Nat) (p1 : Option Nat) (p2 : Option Nat) (p3 : Int32) (p4 : Int32) (h : AH) : Option (Unit × AH) :=
  chk (h.kind p0 = 6) <|
  hl (h.setR p0 0 (some p0)) fun h2 =>
  hl (h2.setR p0 1 (ko (K 201))) fun h4 =>
  hl (h4.setR p0 2 (ko (K 202))) fun h6 =>
  jn (α := AH → Option (Unit × AH)) (fun h8 =>
    chk (h8.kind p0 = 6) <|
    hl (h8.setR p0 3 p1) fun h11 =>
    hl (h11.setR p0 0 p2) fun h13 =>
    if ¬ p3 = 0 then (
      some ((), h13)
    ) else (
      hl (h13.setR p0 2 none) fun h16 =>
      some ((), h16)
    )
  ) fun j9 =>
  if p4 = 0 then (
    hl (h6.setR p0 1 none) fun h20 =>
    j9 h20
  ) else (
    none
  )
def F_J4_init (n : Nat) (K : Nat → Nat) (p0 : Nat) (p1 : Option Nat) (p2 : Option Nat) (p3 : Int32) (p4 : Int32) (h : AH) : Option (Unit × AH) :=
  bnd (F_J3_init_2 n K p0 p1 p2 p3 p4 h) fun _ h2 =>
  some ((), h2)
def F_J5_init (n : Nat) (K : Nat → Nat) (p0 : Nat) (p1 : Option Nat) (p2 : Option Nat) (p3 : Int32) (p4 : Int32) (h : AH) : Option (Unit × AH) :=
  bnd (F_J4_init n K p0 p1 p2 p3 p4 h) fun _ h2 =>
  some ((), h2)
def F_X4_init (n : Nat) (K : Nat → Nat) (p0 : Nat) (p1 : Int32) (h : AH) : Option (Unit × AH) :=
  bnd (F_J5_init n K p0 none none (0 : Int32) (0 : Int32) h) fun _ h2 =>
  chk (h2.kind p0 = 6) <|
  hl (h2.setI p0 6 p1) fun h4 =>
  some ((), h4)
def F_X1_wrong (n : Nat) (K : Nat → Nat) (p0 : Nat) (h : AH) : Option (Option Nat × AH) :=
  hl (h.new 6 0 7) fun h1 =>
  chk (h1.kind p0 = 2) <|
  bnd (F_X4_init n K h.n (h1.I p0 3) h1) fun _ h5 =>
  some ((some h.n), h5)
def F_X1_next_L0 (n : Nat) (K : Nat → Nat) (y2 : Nat) : Nat → AH → (AH → Option ((Nat ⊕ Unit) × AH)) → Option ((Nat ⊕ Unit) × AH)
  | 0, _, _ => none
  | f + 1, h, k =>
    chk (h.kind y2 = 2) <|
    if (h.I y2 1) ≤ (h.I y2 2) then (
      k h
    ) else (
      ob (h.R y2 0) fun a5 =>
      chk (h.kind a5 = 31) <|
      chk (inb (h.I y2 2) (h.len a5)) <|
      jn (α := Option ((Nat ⊕ Unit) × AH)) (
        hl (h.setI y2 2 ((h.I y2 2) + (1 : Int32))) fun h9 =>
        F_X1_next_L0 n K y2 f h9 k
      ) fun j8 =>
      if (h.I a5 (ix (h.I y2 2))) = (32 : Int32) then (
        j8
      ) else (
        ob (h.R y2 0) fun a13 =>
        chk (h.kind a13 = 31) <|
        chk (inb (h.I y2 2) (h.len a13)) <|
        if ¬ (h.I a13 (ix (h.I y2 2))) = (10 : Int32) then (
          k h
        ) else (
          j8
        )
      )
    )
def F_X1_next_L145 (n : Nat) (K : Nat → Nat) (y40 : Nat) : Nat → AH → Option ((Nat ⊕ Unit) × AH)
  | 0, _ => none
  | f + 1, h =>
    chk (h.kind y40 = 2) <|
    if (h.I y40 1) ≤ (h.I y40 2) then (
      some (.inr (), h)
    ) else (
      ob (h.R y40 0) fun a43 =>
      chk (h.kind a43 = 31) <|
      chk (inb (h.I y40 2) (h.len a43)) <|
      bnd (F_X1_isDigit n K (h.I a43 (ix (h.I y40 2))) h) fun r46 h47 =>
      if r46 = 0 then (
        some (.inr (), h47)
      ) else (
        chk (h47.kind y40 = 2) <|
        hl (h47.setI y40 2 ((h47.I y40 2) + (1 : Int32))) fun h50 =>
        F_X1_next_L145 n K y40 f h50
      )
    )
def F_X1_next_L99 (n : Nat) (K : Nat → Nat) (y53 : Nat) : Nat → AH → Option ((Nat ⊕ Unit) × AH)
  | 0, _ => none
  | f + 1, h =>
    chk (h.kind y53 = 2) <|
    if (h.I y53 1) ≤ (h.I y53 2) then (
      some (.inr (), h)
    ) else (
      ob (h.R y53 0) fun a56 =>
      chk (h.kind a56 = 31) <|
      chk (inb (h.I y53 2) (h.len a56)) <|
      bnd (F_X1_isLetter n K (h.I a56 (ix (h.I y53 2))) h) fun r59 h60 =>
      if r59 = 0 then (
        some (.inr (), h60)
      ) else (
        chk (h60.kind y53 = 2) <|
        hl (h60.setI y53 2 ((h60.I y53 2) + (1 : Int32))) fun h63 =>
        F_X1_next_L99 n K y53 f h63
      )
    )
def F_X1_next (n : Nat) (K : Nat → Nat) (p0 : Nat) (h : AH) : Option ((Nat ⊕ Unit) × AH) :=
  F_X1_next_L0 n K p0 n h fun h17 =>
  chk (h17.kind p0 = 2) <|
  hl (h17.setI p0 3 (h17.I p0 2)) fun h19 =>
  if ¬ (h19.I p0 2) = (h19.I p0 1) then (
    ob (h19.R p0 0) fun a22 =>
    chk (h19.kind a22 = 31) <|
    chk (inb (h19.I p0 2) (h19.len a22)) <|
    hl (h19.setI p0 2 ((h19.I p0 2) + (1 : Int32))) fun h25 =>
    bnd (F_X1_isLetter n K (h19.I a22 (ix (h19.I p0 2))) h25) fun r27 h28 =>
    if r27 = 0 then (
      bnd (F_X1_isDigit n K (h19.I a22 (ix (h19.I p0 2))) h28) fun r30 h31 =>
      if r30 = 0 then (
        if (h19.I a22 (ix (h19.I p0 2))) = (59 : Int32) then (
          some (.inr (), h31)
        ) else (
          if (h19.I a22 (ix (h19.I p0 2))) = (47 : Int32) then (
            some (.inr (), h31)
          ) else (
            chk (h31.kind p0 = 2) <|
            bnd (F_X1_wrong n K p0 h31) fun r35 h36 =>
            ob r35 fun a38 =>
            some (.inl a38, h36)
          )
        )
      ) else (
        F_X1_next_L145 n K p0 n h31
      )
    ) else (
      F_X1_next_L99 n K p0 n h28
    )
  ) else (
    some (.inr (), h19)
  )
def F_J6_coder (n : Nat) (K : Nat → Nat) (p0 : Nat) (h : AH) : Option (Int32 × AH) :=
  if (1 : Int32) = 0 then (
    chk (vp_nar .byte (1 : Int32) = (1 : Int32)) <|
    some ((1 : Int32), h)
  ) else (
    chk (h.kind p0 = 20) <|
    chk (vp_nar .byte (h.I p0 1) = (h.I p0 1)) <|
    some (h.I p0 1, h)
  )
def F_J6_length (n : Nat) (K : Nat → Nat) (p0 : Nat) (h : AH) : Option (Int32 × AH) :=
  chk (h.kind p0 = 20) <|
  ob (h.R p0 0) fun a2 =>
  chk (h.kind a2 = 41) <|
  bnd (F_J6_coder n K p0 h) fun r4 h5 =>
  some ((nI (h.len a2)) >>> (r4 &&& 31), h5)
def F_X1_isOver (n : Nat) (K : Nat → Nat) (p0 : Nat) (h : AH) : Option (Int32 × AH) :=
  chk (h.kind p0 = 2) <|
  if ¬ (h.I p0 3) = (h.I p0 1) then (
    some ((0 : Int32), h)
  ) else (
    some ((1 : Int32), h)
  )
def F_J6_isLatin1 (n : Nat) (K : Nat → Nat) (p0 : Nat) (h : AH) : Option (Int32 × AH) :=
  if (1 : Int32) = 0 then (
    some ((0 : Int32), h)
  ) else (
    chk (h.kind p0 = 20) <|
    if ¬ (h.I p0 1) = 0 then (
      some ((0 : Int32), h)
    ) else (
      some ((1 : Int32), h)
    )
  )
def F_J7_canEncode (n : Nat) (K : Nat → Nat) (p0 : Int32) (h : AH) : Option (Int32 × AH) :=
  if p0 < 0 then (
    some ((0 : Int32), h)
  ) else (
    if (255 : Int32) < p0 then (
      some ((0 : Int32), h)
    ) else (
      some ((1 : Int32), h)
    )
  )
def F_J7_indexOfChar_L7 (n : Nat) (K : Nat → Nat) (y3 : Int32) (y4 : Option Nat) (y5 : Int32) (h : AH) : Nat → Int32 → Option (Int32 × AH)
  | 0, _ => none
  | f + 1, x2 =>
    if y5 ≤ x2 then (
      some ((-1 : Int32), h)
    ) else (
      ob y4 fun a7 =>
      chk (h.kind a7 = 41) <|
      chk (inb x2 (h.len a7)) <|
      if ¬ (h.I a7 (ix x2)) = y3 then (
        F_J7_indexOfChar_L7 n K y3 y4 y5 h f (x2 + (1 : Int32))
      ) else (
        some (x2, h)
      )
    )
def F_J7_indexOfChar (n : Nat) (K : Nat → Nat) (p0 : Option Nat) (p1 : Int32) (p2 : Int32) (p3 : Int32) (h : AH) : Option (Int32 × AH) :=
  F_J7_indexOfChar_L7 n K p1.toInt8.toInt32 p0 p3 h n p2
def F_J7_indexOf (n : Nat) (K : Nat → Nat) (p0 : Option Nat) (p1 : Int32) (p2 : Int32) (p3 : Int32) (h : AH) : Option (Int32 × AH) :=
  bnd (F_J7_canEncode n K p1 h) fun r1 h2 =>
  if ¬ r1 = 0 then (
    ob p0 fun a4 =>
    chk (h2.kind a4 = 41) <|
    if (if p2 < (0 : Int32) then (0 : Int32) else p2) < (if (nI (h2.len a4)) < p3 then (nI (h2.len a4)) else p3) then (
      bnd (F_J7_indexOfChar n K (some a4) p1 (if p2 < (0 : Int32) then (0 : Int32) else p2) (if (nI (h2.len a4)) < p3 then (nI (h2.len a4)) else p3) h2) fun r7 h8 =>
      some (r7, h8)
    ) else (
      some ((-1 : Int32), h2)
    )
  ) else (
    some ((-1 : Int32), h2)
  )
def F_J6_indexOf (n : Nat) (K : Nat → Nat) (p0 : Nat) (p1 : Int32) (p2 : Int32) (h : AH) : Option (Int32 × AH) :=
  chk (h.kind p0 = 20) <|
  bnd (F_J6_isLatin1 n K p0 h) fun r1 h2 =>
  if r1 = 0 then (
    chk (h2.kind p0 = 20) <|
    bnd (F_J6_length n K p0 h2) fun r6 h7 =>
    none
  ) else (
    chk (h2.kind p0 = 20) <|
    bnd (F_J6_length n K p0 h2) fun r9 h10 =>
    bnd (F_J7_indexOf n K (h2.R p0 0) p1 p2 r9 h10) fun r11 h12 =>
    some (r11, h12)
  )
def F_J10_checkIndex (n : Nat) (K : Nat → Nat) (p0 : Int32) (p1 : Int32) (p2 : Option Nat) (h : AH) : Option (Int32 × AH) :=
  jn (α := Option (Int32 × AH)) (
    none
  ) fun j1 =>
  if p0 < 0 then (
    j1
  ) else (
    if p0 < p1 then (
      some (p0, h)
    ) else (
      j1
    )
  )
def F_J6_checkIndex (n : Nat) (K : Nat → Nat) (p0 : Int32) (p1 : Int32) (h : AH) : Option (Unit × AH) :=
  bnd (F_J10_checkIndex n K p0 p1 (ko (K 200)) h) fun r1 h2 =>
  some ((), h2)
def F_J7_charAt (n : Nat) (K : Nat → Nat) (p0 : Option Nat) (p1 : Int32) (h : AH) : Option (Int32 × AH) :=
  ob p0 fun a1 =>
  chk (h.kind a1 = 41) <|
  bnd (F_J6_checkIndex n K p1 (nI (h.len a1)) h) fun _ h4 =>
  chk (h4.kind a1 = 41) <|
  chk (inb p1 (h4.len a1)) <|
  chk (vp_nar .char ((((h4.I a1 (ix p1)) &&& (255 : Int32)).toUInt32 % 65536).toInt32) = ((((h4.I a1 (ix p1)) &&& (255 : Int32)).toUInt32 % 65536).toInt32)) <|
  some ((((h4.I a1 (ix p1)) &&& (255 : Int32)).toUInt32 % 65536).toInt32, h4)
def F_J6_charAt (n : Nat) (K : Nat → Nat) (p0 : Nat) (p1 : Int32) (h : AH) : Option (Int32 × AH) :=
  chk (h.kind p0 = 20) <|
  bnd (F_J6_isLatin1 n K p0 h) fun r1 h2 =>
  if r1 = 0 then (
    chk (h2.kind p0 = 20) <|
    none
  ) else (
    chk (h2.kind p0 = 20) <|
    bnd (F_J7_charAt n K (h2.R p0 0) p1 h2) fun r7 h8 =>
    chk (vp_nar .char r7 = r7) <|
    some (r7, h8)
  )
def F_X1_word_L31 (n : Nat) (K : Nat → Nat) (y21 : Int32) (y22 : Int32) (y23 : Int32) (y24 : Nat) (y25 : Option Nat) : Nat → Int32 → AH → (Int32 → AH → Option (Int32 × AH)) → Option (Int32 × AH)
  | 0, _, _, _ => none
  | f + 1, x20, h, k =>
    if (y21 - y22) ≤ x20 then (
      k x20 h
    ) else (
      chk (h.kind y24 = 2) <|
      if (h.I y24 2) ≤ ((h.I y24 3) + x20) then (
        k x20 h
      ) else (
        ob (h.R y24 0) fun a29 =>
        chk (h.kind a29 = 31) <|
        chk (inb ((h.I y24 3) + x20) (h.len a29)) <|
        ob y25 fun a32 =>
        chk (h.kind a32 = 20) <|
        bnd (F_SJ6_charAt n K a32 (y22 + x20) h) fun r33 h34 =>
        if ¬ (h.I a29 (ix ((h.I y24 3) + x20))) = r33 then (
          k x20 h34
        ) else (
          F_X1_word_L31 n K y21 y22 y23 y24 y25 f (x20 + (1 : Int32)) h34 k
        )
      )
    )
def F_X1_word_L4 (n : Nat) (K : Nat → Nat) (y4 : Nat) (y5 : Option Nat) : Nat → Int32 → Int32 → AH → Option (Int32 × AH)
  | 0, _, _, _ => none
  | f + 1, x2, x3, h =>
    ob y5 fun a6 =>
    chk (h.kind a6 = 20) <|
    bnd (F_SJ6_length n K a6 h) fun r7 h8 =>
    if r7 ≤ x2 then (
      some ((-1 : Int32), h8)
    ) else (
      chk (h8.kind y4 = 2) <|
      bnd (F_X1_isOver n K y4 h8) fun r11 h12 =>
      if ¬ r11 = 0 then (
        some ((-1 : Int32), h12)
      ) else (
        ob y5 fun a15 =>
        chk (h12.kind a15 = 20) <|
        bnd (F_SJ6_indexOf n K a15 (32 : Int32) x2 h12) fun r16 h17 =>
        F_X1_word_L31 n K r16 x2 x3 y4 y5 n (0 : Int32) h17 fun x37 h38 =>
        if ¬ x37 = (r16 - x2) then (
          F_X1_word_L4 n K y4 y5 f (r16 + (1 : Int32)) (x3 + (1 : Int32)) h38
        ) else (
          chk (h38.kind y4 = 2) <|
          if ¬ x37 = ((h38.I y4 2) - (h38.I y4 3)) then (
            F_X1_word_L4 n K y4 y5 f (r16 + (1 : Int32)) (x3 + (1 : Int32)) h38
          ) else (
            some (x3, h38)
          )
        )
      )
    )
def F_X1_word (n : Nat) (K : Nat → Nat) (p0 : Nat) (p1 : Option Nat) (h : AH) : Option (Int32 × AH) :=
  F_X1_word_L4 n K p0 p1 n (0 : Int32) (0 : Int32) h
def F_J2_size (n : Nat) (K : Nat → Nat) (p0 : Nat) (h : AH) : Option (Int32 × AH) :=
  chk (h.kind p0 = 3) <|
  some (h.I p0 2, h)
def F_X1_needsWord (n : Nat) (K : Nat → Nat) (p0 : Nat) (p1 : Option Nat) (h : AH) : Option ((Nat ⊕ Int32) × AH) :=
  chk (h.kind p0 = 2) <|
  bnd (F_X1_word n K p0 p1 h) fun r1 h2 =>
  if ¬ r1 = (-1 : Int32) then (
    chk (h2.kind p0 = 2) <|
    bndT (F_X1_next n K p0 h2) fun _ h6 =>
    some (.inr r1, h6)
  ) else (
    chk (h2.kind p0 = 2) <|
    bnd (F_X1_wrong n K p0 h2) fun r8 h9 =>
    ob r8 fun a11 =>
    some (.inl a11, h9)
  )
def F_X1_number_L35 (n : Nat) (K : Nat → Nat) (y23 : Nat) (y24 : Int32) (y25 : Int32) : Nat → Int32 → Int32 → AH → Option ((Nat ⊕ Int32) × AH)
  | 0, _, _, _ => none
  | f + 1, x21, x22, h =>
    chk (h.kind y23 = 2) <|
    if (h.I y23 2) ≤ x21 then (
      bnd (F_X0_in n K x22 y24 y25 h) fun r28 h29 =>
      if ¬ r28 = 0 then (
        chk (h29.kind y23 = 2) <|
        bndT (F_X1_next n K y23 h29) fun _ h32 =>
        some (.inr x22, h32)
      ) else (
        chk (h29.kind y23 = 2) <|
        bnd (F_X1_wrong n K y23 h29) fun r34 h35 =>
        ob r34 fun a37 =>
        some (.inl a37, h35)
      )
    ) else (
      ob (h.R y23 0) fun a38 =>
      chk (h.kind a38 = 31) <|
      chk (inb x21 (h.len a38)) <|
      F_X1_number_L35 n K y23 y24 y25 f (x21 + (1 : Int32)) (if ((((10 : Int32) * x22) + (h.I a38 (ix x21))) - (48 : Int32)) < (1000 : Int32) then ((((10 : Int32) * x22) + (h.I a38 (ix x21))) - (48 : Int32)) else (1000 : Int32)) h
    )
def F_X1_number (n : Nat) (K : Nat → Nat) (p0 : Nat) (p1 : Int32) (p2 : Int32) (h : AH) : Option ((Nat ⊕ Int32) × AH) :=
  chk (h.kind p0 = 2) <|
  bnd (F_X1_isOver n K p0 h) fun r1 h2 =>
  jn (α := AH → Option ((Nat ⊕ Int32) × AH)) (fun h4 =>
    chk (h4.kind p0 = 2) <|
    bnd (F_X1_wrong n K p0 h4) fun r6 h7 =>
    ob r6 fun a9 =>
    some (.inl a9, h7)
  ) fun j5 =>
  if ¬ r1 = 0 then (
    j5 h2
  ) else (
    chk (h2.kind p0 = 2) <|
    ob (h2.R p0 0) fun a13 =>
    chk (h2.kind a13 = 31) <|
    chk (inb (h2.I p0 3) (h2.len a13)) <|
    bnd (F_X1_isDigit n K (h2.I a13 (ix (h2.I p0 3))) h2) fun r16 h17 =>
    if ¬ r16 = 0 then (
      chk (h17.kind p0 = 2) <|
      F_X1_number_L35 n K p0 p1 p2 n (h17.I p0 3) (0 : Int32) h17
    ) else (
      j5 h17
    )
  )
def F_X5_init (n : Nat) (K : Nat → Nat) (p0 : Nat) (p1 : Int32) (p2 : Int32) (p3 : Int32) (p4 : Int32) (p5 : Int32) (h : AH) : Option (Unit × AH) :=
  chk (7 ≤ h.kind p0 ∧ h.kind p0 ≤ 10) <|
  hl (h.setI p0 3 p1) fun h2 =>
  hl (h2.setI p0 4 p2) fun h4 =>
  hl (h4.setI p0 0 p3) fun h6 =>
  hl (h6.setI p0 1 p4) fun h8 =>
  hl (h8.setI p0 2 p5) fun h10 =>
  some ((), h10)
def F_X6_init (n : Nat) (K : Nat → Nat) (p0 : Nat) (p1 : Int32) (p2 : Int32) (p3 : Int32) (p4 : Int32) (p5 : Int32) (h : AH) : Option (Unit × AH) :=
  bnd (F_X5_init n K p0 p1 p2 p3 p4 p5 h) fun _ h2 =>
  some ((), h2)
def F_X7_init (n : Nat) (K : Nat → Nat) (p0 : Nat) (p1 : Int32) (p2 : Int32) (p3 : Int32) (p4 : Int32) (p5 : Int32) (h : AH) : Option (Unit × AH) :=
  bnd (F_X5_init n K p0 p1 p2 p3 p4 p5 h) fun _ h2 =>
  some ((), h2)
def F_X8_init (n : Nat) (K : Nat → Nat) (p0 : Nat) (p1 : Int32) (p2 : Int32) (p3 : Int32) (p4 : Int32) (p5 : Int32) (h : AH) : Option (Unit × AH) :=
  bnd (F_X7_init n K p0 p1 p2 p3 p4 p5 h) fun _ h2 =>
  some ((), h2)
def F_X9_init (n : Nat) (K : Nat → Nat) (p0 : Nat) (p1 : Int32) (p2 : Int32) (p3 : Int32) (p4 : Int32) (p5 : Int32) (h : AH) : Option (Unit × AH) :=
  bnd (F_X7_init n K p0 p1 p2 p3 p4 p5 h) fun _ h2 =>
  some ((), h2)
def F_X1_made (n : Nat) (K : Nat → Nat) (p0 : Nat) (p1 : Int32) (p2 : Int32) (p3 : Int32) (h : AH) : Option (Option Nat × AH) :=
  chk (h.kind p0 = 2) <|
  if (h.I p0 4) = (0 : Int32) then (
    hl (h.new 7 0 5) fun h3 =>
    chk (h3.kind p0 = 2) <|
    bnd (F_X6_init n K h.n p1 p2 p3 (h3.I p0 5) (h3.I p0 6) h3) fun _ h7 =>
    some ((some h.n), h7)
  ) else
  if (h.I p0 4) = (1 : Int32) then (
    hl (h.new 8 0 5) fun h9 =>
    chk (h9.kind p0 = 2) <|
    bnd (F_X7_init n K h.n p1 p2 p3 (h9.I p0 5) (h9.I p0 6) h9) fun _ h13 =>
    some ((some h.n), h13)
  ) else
  if (h.I p0 4) = (2 : Int32) then (
    hl (h.new 9 0 5) fun h15 =>
    chk (h15.kind p0 = 2) <|
    bnd (F_X8_init n K h.n p1 p2 p3 (h15.I p0 5) (h15.I p0 6) h15) fun _ h19 =>
    some ((some h.n), h19)
  ) else
  (
    hl (h.new 10 0 5) fun h20 =>
    chk (h20.kind p0 = 2) <|
    bnd (F_X9_init n K h.n p1 p2 p3 (h20.I p0 5) (h20.I p0 6) h20) fun _ h24 =>
    some ((some h.n), h24)
  )
def F_J12_newLength (n : Nat) (K : Nat → Nat) (p0 : Int32) (p1 : Int32) (p2 : Int32) (h : AH) : Option (Int32 × AH) :=
  jn (α := Option (Int32 × AH)) (
    none
  ) fun j1 =>
  if (p0 + (if p1 < p2 then p2 else p1)) ≤ (0 : Int32) then (
    j1
  ) else (
    if (2147483639 : Int32) < (p0 + (if p1 < p2 then p2 else p1)) then (
      j1
    ) else (
      some (p0 + (if p1 < p2 then p2 else p1), h)
    )
  )
def F_J13_copyOf_2 (n : Nat) (K : Nat → Nat) (p0 : Option Nat) (p1 : Int32) (p2 : Option Nat) (h : AH) : Option (Option Nat × AH) :=
  jn (α := Option Nat → AH → Option (Option Nat × AH)) (fun x1 h2 =>
    ob p0 fun a4 =>
    chk (h2.kind a4 = 34) <|
    ob x1 fun a6 =>
    chk (h2.kind a6 = 34) <|
    chk ((0 ≤ (0 : Int32).toInt ∧ 0 ≤ (0 : Int32).toInt ∧ 0 ≤ (if p1 < (nI (h2.len a4)) then p1 else (nI (h2.len a4))).toInt) ∧ ix (0 : Int32) + ix (if p1 < (nI (h2.len a4)) then p1 else (nI (h2.len a4))) ≤ h2.len a4 ∧ ix (0 : Int32) + ix (if p1 < (nI (h2.len a4)) then p1 else (nI (h2.len a4))) ≤ h2.len a6) <|
    chk (∀ i, i < ix (if p1 < (nI (h2.len a4)) then p1 else (nI (h2.len a4))) → okE h2 (h2.R a4 (ix (0 : Int32) + i)) = true) <|
    hl (h2.cpyR a4 (ix (0 : Int32)) a6 (ix (0 : Int32)) (ix (if p1 < (nI (h2.len a4)) then p1 else (nI (h2.len a4))))) fun h10 =>
    some ((some a6), h10)
  ) fun j3 =>
  if ¬ p2 = (some (K 203)) then (
    none
  ) else (
    chk (0 ≤ p1.toInt ∧ p1.toInt ≤ 60000000) <|
    hl (h.new 34 (ix p1) (ix p1)) fun h15 =>
    j3 (some h.n) h15
  )
def F_J13_copyOf (n : Nat) (K : Nat → Nat) (p0 : Option Nat) (p1 : Int32) (h : AH) : Option (Option Nat × AH) :=
  ob p0 fun a1 =>
  chk (h.kind a1 = 34) <|
  bnd (F_J13_copyOf_2 n K (some a1) p1 (some (K 203)) h) fun r3 h4 =>
  some (r3, h4)
def F_J2_grow_2 (n : Nat) (K : Nat → Nat) (p0 : Nat) (p1 : Int32) (h : AH) : Option (Option Nat × AH) :=
  chk (h.kind p0 = 3) <|
  ob (h.R p0 1) fun a2 =>
  chk (h.kind a2 = 34 ∨ h.kind a2 = 44) <|
  jn (α := Option (Option Nat × AH)) (
    bnd (F_J12_newLength n K (nI (h.len a2)) (p1 - (nI (h.len a2))) ((nI (h.len a2)) >>> ((1 : Int32) &&& 31)) h) fun r5 h6 =>
    chk (h6.kind p0 = 3) <|
    bnd (F_J13_copyOf n K (h6.R p0 1) r5 h6) fun r8 h9 =>
    chk (h9.kind p0 = 3) <|
    hl (h9.setR p0 1 r8) fun h11 =>
    some (r8, h11)
  ) fun j4 =>
  if 0 < (nI (h.len a2)) then (
    j4
  ) else (
    if (h.R p0 1) = (some (K 0)) then (
      chk (0 ≤ (if (10 : Int32) < p1 then p1 else (10 : Int32)).toInt ∧ (if (10 : Int32) < p1 then p1 else (10 : Int32)).toInt ≤ 60000000) <|
      hl (h.new 34 (ix (if (10 : Int32) < p1 then p1 else (10 : Int32))) (ix (if (10 : Int32) < p1 then p1 else (10 : Int32)))) fun h17 =>
      chk (h17.kind p0 = 3) <|
      hl (h17.setR p0 1 (some h.n)) fun h20 =>
      some ((some h.n), h20)
    ) else (
      j4
    )
  )
def F_J2_grow (n : Nat) (K : Nat → Nat) (p0 : Nat) (h : AH) : Option (Option Nat × AH) :=
  chk (h.kind p0 = 3) <|
  bnd (F_J2_grow_2 n K p0 ((h.I p0 2) + (1 : Int32)) h) fun r2 h3 =>
  some (r2, h3)
def F_J2_add_2 (n : Nat) (K : Nat → Nat) (p0 : Nat) (p1 : Option Nat) (p2 : Option Nat) (p3 : Int32) (h : AH) : Option (Unit × AH) :=
  ob p2 fun a1 =>
  chk (h.kind a1 = 34 ∨ h.kind a1 = 44) <|
  jn (α := Option Nat → AH → Option (Unit × AH)) (fun x3 h4 =>
    ob x3 fun a6 =>
    chk (h4.kind a6 = 34) <|
    chk (inb p3 (h4.len a6)) <|
    ob p1 fun a9 =>
    chk (7 ≤ h4.kind a9 ∧ h4.kind a9 ≤ 14) <|
    hl (h4.setR a6 (ix p3) (some a9)) fun h11 =>
    chk (h11.kind p0 = 3) <|
    hl (h11.setI p0 2 (p3 + (1 : Int32))) fun h14 =>
    some ((), h14)
  ) fun j5 =>
  if ¬ p3 = (nI (h.len a1)) then (
    j5 (some a1) h
  ) else (
    chk (h.kind p0 = 3) <|
    bnd (F_J2_grow n K p0 h) fun r18 h19 =>
    j5 r18 h19
  )
def F_J2_add (n : Nat) (K : Nat → Nat) (p0 : Nat) (p1 : Option Nat) (h : AH) : Option (Int32 × AH) :=
  chk (h.kind p0 = 3) <|
  hl (h.setI p0 0 ((h.I p0 0) + (1 : Int32))) fun h2 =>
  bnd (F_J2_add_2 n K p0 p1 (h2.R p0 1) (h2.I p0 2) h2) fun _ h5 =>
  some ((1 : Int32), h5)
def F_X1_voter (n : Nat) (K : Nat → Nat) (p0 : Nat) (h : AH) : Option ((Nat ⊕ Unit) × AH) :=
  chk (h.kind p0 = 2) <|
  bndT (F_X1_number n K p0 (0 : Int32) (99 : Int32) h) fun r1 h2 =>
  chk (h2.kind p0 = 2) <|
  bndT (F_X1_number n K p0 (0 : Int32) (99 : Int32) h2) fun r4 h5 =>
  chk (h5.kind p0 = 2) <|
  bnd (F_X1_word n K p0 (some (K 3)) h5) fun r7 h8 =>
  jn (α := Int32 → AH → Option ((Nat ⊕ Unit) × AH)) (fun x10 h11 =>
    chk (h11.kind p0 = 2) <|
    bnd (F_X1_made n K p0 r1 r4 x10 h11) fun r14 h15 =>
    ob (h11.R p0 8) fun a16 =>
    chk (h15.kind a16 = 3) <|
    bnd (F_J2_add n K a16 r14 h15) fun r17 h18 =>
    some (.inr (), h18)
  ) fun j12 =>
  if ¬ r7 = 0 then (
    j12 (1 : Int32) h8
  ) else (
    chk (h8.kind p0 = 2) <|
    bndT (F_X1_next n K p0 h8) fun _ h23 =>
    chk (h23.kind p0 = 2) <|
    bndT (F_X1_number n K p0 (1 : Int32) (9 : Int32) h23) fun r25 h26 =>
    j12 r25 h26
  )
def F_X10_init (n : Nat) (K : Nat → Nat) (p0 : Nat) (p1 : Int32) (p2 : Int32) (h : AH) : Option (Unit × AH) :=
  chk (h.kind p0 = 11) <|
  hl (h.setI p0 0 p1) fun h2 =>
  hl (h2.setI p0 1 p2) fun h4 =>
  some ((), h4)
def F_X1_needs (n : Nat) (K : Nat → Nat) (p0 : Nat) (p1 : Int32) (h : AH) : Option ((Nat ⊕ Unit) × AH) :=
  chk (h.kind p0 = 2) <|
  bnd (F_X1_isOver n K p0 h) fun r1 h2 =>
  jn (α := Option ((Nat ⊕ Unit) × AH)) (
    chk (h2.kind p0 = 2) <|
    bnd (F_X1_wrong n K p0 h2) fun r5 h6 =>
    ob r5 fun a8 =>
    some (.inl a8, h6)
  ) fun j4 =>
  if ¬ r1 = 0 then (
    j4
  ) else (
    chk (h2.kind p0 = 2) <|
    ob (h2.R p0 0) fun a12 =>
    chk (h2.kind a12 = 31) <|
    chk (inb (h2.I p0 3) (h2.len a12)) <|
    if (h2.I a12 (ix (h2.I p0 3))) = p1 then (
      bndT (F_X1_next n K p0 h2) fun _ h17 =>
      some (.inr (), h17)
    ) else (
      j4
    )
  )
def F_X1_win (n : Nat) (K : Nat → Nat) (p0 : Nat) (h : AH) : Option ((Nat ⊕ Unit) × AH) :=
  chk (h.kind p0 = 2) <|
  hl (h.setI p0 7 (1 : Int32)) fun h2 =>
  bndT (F_X1_needsWord n K p0 (some (K 4)) h2) fun r4 h5 =>
  if ¬ r4 = 0 then (
    chk (h5.kind p0 = 2) <|
    bndT (F_X1_number n K p0 (1 : Int32) (99 : Int32) h5) fun r7 h8 =>
    chk (h8.kind p0 = 2) <|
    bndT (F_X1_needs n K p0 (47 : Int32) h8) fun _ h11 =>
    hl (h11.new 4 0 3) fun h13 =>
    chk (h13.kind p0 = 2) <|
    bndT (F_X1_number n K p0 r7 (if ((2 : Int32) * r7) < (99 : Int32) then ((2 : Int32) * r7) else (99 : Int32)) h13) fun r15 h16 =>
    bnd (F_X2_init n K h11.n r4 r7 r15 h16) fun _ h19 =>
    chk (h19.kind p0 = 2) <|
    hl (h19.setR p0 10 (some h11.n)) fun h21 =>
    some (.inr (), h21)
  ) else (
    some (.inr (), h5)
  )
def F_X1_tells (n : Nat) (K : Nat → Nat) (p0 : Nat) (h : AH) : Option ((Nat ⊕ Unit) × AH) :=
  chk (h.kind p0 = 2) <|
  bnd (F_X1_word n K p0 (some (K 1)) h) fun r1 h2 =>
  jn (α := Int32 → AH → Option ((Nat ⊕ Unit) × AH)) (fun x4 h5 =>
    jn (α := Option ((Nat ⊕ Unit) × AH)) (
      chk (h5.kind p0 = 2) <|
      bnd (F_X1_wrong n K p0 h5) fun r8 h9 =>
      ob r8 fun a11 =>
      some (.inl a11, h9)
    ) fun j7 =>
    if r1 = (-1 : Int32) then (
      j7
    ) else (
      if x4 = 0 then (
        chk (h5.kind p0 = 2) <|
        bndT (F_X1_next n K p0 h5) fun _ h16 =>
        jn (α := AH → Option ((Nat ⊕ Unit) × AH)) (fun h18 =>
          chk (h18.kind p0 = 2) <|
          bndT (F_X1_needs n K p0 (59 : Int32) h18) fun _ h21 =>
          some (.inr (), h21)
        ) fun j19 =>
        if r1 = (0 : Int32) then (
          chk (h16.kind p0 = 2) <|
          bndT (F_X1_needsWord n K p0 (some (K 2)) h16) fun r25 h26 =>
          chk (h26.kind p0 = 2) <|
          hl (h26.setI p0 4 r25) fun h29 =>
          j19 h29
        ) else
        if r1 = (1 : Int32) then (
          chk (h16.kind p0 = 2) <|
          bndT (F_X1_number n K p0 (1 : Int32) (9 : Int32) h16) fun r32 h33 =>
          chk (h33.kind p0 = 2) <|
          hl (h33.setI p0 5 r32) fun h36 =>
          bndT (F_X1_number n K p0 (1 : Int32) (9 : Int32) h36) fun r38 h39 =>
          chk (h39.kind p0 = 2) <|
          hl (h39.setI p0 6 r38) fun h41 =>
          j19 h41
        ) else
        if r1 = (2 : Int32) then (
          chk (h16.kind p0 = 2) <|
          bndT (F_X1_voter n K p0 h16) fun _ h45 =>
          j19 h45
        ) else
        if r1 = (3 : Int32) then (
          chk (h16.kind p0 = 2) <|
          bndT (F_X1_number n K p0 (0 : Int32) (99 : Int32) h16) fun r48 h49 =>
          chk (h49.kind p0 = 2) <|
          hl (h49.new 11 0 2) fun h52 =>
          chk (h52.kind p0 = 2) <|
          bndT (F_X1_number n K p0 (0 : Int32) (99 : Int32) h52) fun r54 h55 =>
          bnd (F_X10_init n K h49.n r48 r54 h55) fun _ h58 =>
          ob (h49.R p0 9) fun a59 =>
          chk (h58.kind a59 = 3) <|
          bnd (F_J2_add n K a59 (some h49.n) h58) fun r60 h61 =>
          j19 h61
        ) else
        (
          chk (h16.kind p0 = 2) <|
          bndT (F_X1_win n K p0 h16) fun _ h64 =>
          j19 h64
        )
      ) else (
        j7
      )
    )
  ) fun j6 =>
  jn (α := AH → Option ((Nat ⊕ Unit) × AH)) (fun h67 =>
    jn (α := AH → Option ((Nat ⊕ Unit) × AH)) (fun h69 =>
      if ¬ r1 = (4 : Int32) then (
        j6 (0 : Int32) h69
      ) else (
        chk (h69.kind p0 = 2) <|
        if (h69.I p0 7) = 0 then (
          j6 (0 : Int32) h69
        ) else (
          j6 (1 : Int32) h69
        )
      )
    ) fun j70 =>
    if ¬ r1 = (3 : Int32) then (
      j70 h67
    ) else (
      chk (h67.kind p0 = 2) <|
      ob (h67.R p0 9) fun a77 =>
      chk (h67.kind a77 = 3) <|
      bnd (F_J2_size n K a77 h67) fun r78 h79 =>
      if r78 = (20 : Int32) then (
        j6 (1 : Int32) h79
      ) else (
        j70 h79
      )
    )
  ) fun j68 =>
  if ¬ r1 = (2 : Int32) then (
    j68 h2
  ) else (
    chk (h2.kind p0 = 2) <|
    ob (h2.R p0 8) fun a85 =>
    chk (h2.kind a85 = 3) <|
    bnd (F_J2_size n K a85 h2) fun r86 h87 =>
    if r86 = (15 : Int32) then (
      j6 (1 : Int32) h87
    ) else (
      j68 h87
    )
  )
def F_J2_isEmpty (n : Nat) (K : Nat → Nat) (p0 : Nat) (h : AH) : Option (Int32 × AH) :=
  chk (h.kind p0 = 3) <|
  if ¬ (h.I p0 2) = 0 then (
    some ((0 : Int32), h)
  ) else (
    some ((1 : Int32), h)
  )
def F_X1_read_L71 (n : Nat) (K : Nat → Nat) (y38 : Nat) : Nat → AH → Option ((Nat ⊕ Unit) × AH)
  | 0, _ => none
  | f + 1, h =>
    chk (h.kind y38 = 2) <|
    bnd (F_X1_isOver n K y38 h) fun r39 h40 =>
    if ¬ r39 = 0 then (
      chk (h40.kind y38 = 2) <|
      ob (h40.R y38 8) fun a44 =>
      chk (h40.kind a44 = 3) <|
      bnd (F_J2_isEmpty n K a44 h40) fun r45 h46 =>
      if r45 = 0 then (
        some (.inr (), h46)
      ) else (
        chk (h46.kind y38 = 2) <|
        bnd (F_X1_wrong n K y38 h46) fun r49 h50 =>
        ob r49 fun a52 =>
        some (.inl a52, h50)
      )
    ) else (
      chk (h40.kind y38 = 2) <|
      bndT (F_X1_tells n K y38 h40) fun _ h54 =>
      F_X1_read_L71 n K y38 f h54
    )
def F_X1_read (n : Nat) (K : Nat → Nat) (p0 : Nat) (p1 : Option Nat) (p2 : Int32) (h : AH) : Option ((Nat ⊕ Unit) × AH) :=
  chk (h.kind p0 = 2) <|
  hl (h.setR p0 0 p1) fun h2 =>
  hl (h2.setI p0 1 p2) fun h4 =>
  hl (h4.setI p0 2 (0 : Int32)) fun h6 =>
  hl (h6.setI p0 4 (0 : Int32)) fun h8 =>
  hl (h8.setI p0 5 (1 : Int32)) fun h10 =>
  hl (h10.setI p0 6 (1 : Int32)) fun h12 =>
  hl (h12.setI p0 7 (0 : Int32)) fun h14 =>
  ob (h14.R p0 8) fun a16 =>
  chk (h14.kind a16 = 3) <|
  bnd (F_J2_clear n K a16 h14) fun _ h18 =>
  chk (h18.kind p0 = 2) <|
  ob (h18.R p0 9) fun a21 =>
  chk (h18.kind a21 = 3) <|
  bnd (F_J2_clear n K a21 h18) fun _ h23 =>
  hl (h23.new 4 0 3) fun h25 =>
  bnd (F_X2_init n K h23.n (0 : Int32) (1 : Int32) (2 : Int32) h25) fun _ h28 =>
  chk (h28.kind p0 = 2) <|
  hl (h28.setR p0 10 (some h23.n)) fun h30 =>
  bndT (F_X1_next n K p0 h30) fun _ h33 =>
  chk (h33.kind p0 = 2) <|
  bndT (F_X1_tells n K p0 h33) fun _ h35 =>
  F_X1_read_L71 n K p0 n h35
def F_J14_checkIndex (n : Nat) (K : Nat → Nat) (p0 : Int32) (p1 : Int32) (h : AH) : Option (Int32 × AH) :=
  bnd (F_J10_checkIndex n K p0 p1 none h) fun r1 h2 =>
  some (r1, h2)
def F_J2_elementData (n : Nat) (K : Nat → Nat) (p0 : Nat) (p1 : Int32) (h : AH) : Option (Option Nat × AH) :=
  chk (h.kind p0 = 3) <|
  ob (h.R p0 1) fun a2 =>
  chk (h.kind a2 = 34) <|
  chk (inb p1 (h.len a2)) <|
  some ((h.R a2 (ix p1)), h)
def F_J2_get (n : Nat) (K : Nat → Nat) (p0 : Nat) (p1 : Int32) (h : AH) : Option (Option Nat × AH) :=
  chk (h.kind p0 = 3) <|
  bnd (F_J14_checkIndex n K p1 (h.I p0 2) h) fun r2 h3 =>
  chk (h3.kind p0 = 3) <|
  bnd (F_J2_elementData n K p0 p1 h3) fun r4 h5 =>
  some (r4, h5)
def F_X0_stale (n : Nat) (K : Nat → Nat) (p0 : Nat) (h : AH) : Option (Unit × AH) :=
  chk (h.kind p0 = 1) <|
  hl (h.setI p0 11 (0 : Int32)) fun h2 =>
  hl (h2.setI p0 12 (0 : Int32)) fun h4 =>
  hl (h4.setI p0 13 (0 : Int32)) fun h6 =>
  some ((), h6)
def F_X0_voterAt (n : Nat) (K : Nat → Nat) (p0 : Nat) (p1 : Int32) (h : AH) : Option (Option Nat × AH) :=
  chk (h.kind p0 = 1) <|
  ob (h.R p0 2) fun a2 =>
  chk (h.kind a2 = 3) <|
  bnd (F_J2_size n K a2 h) fun r3 h4 =>
  bnd (F_X0_in n K p1 (0 : Int32) (r3 - (1 : Int32)) h4) fun r6 h7 =>
  if r6 = 0 then (
    some (none, h7)
  ) else (
    chk (h7.kind p0 = 1) <|
    ob (h7.R p0 2) fun a10 =>
    chk (h7.kind a10 = 3) <|
    bnd (F_J2_get n K a10 p1 h7) fun r11 h12 =>
    ob r11 fun a14 =>
    chk (7 ≤ h12.kind a14 ∧ h12.kind a14 ≤ 10) <|
    some ((some a14), h12)
  )
def F_X6_measure (n : Nat) (K : Nat → Nat) (p0 : Nat) (h : AH) : Option (Int32 × AH) :=
  some ((0 : Int32), h)
def F_X7_measure (n : Nat) (K : Nat → Nat) (p0 : Nat) (h : AH) : Option (Int32 × AH) :=
  some ((1 : Int32), h)
def F_X8_measure (n : Nat) (K : Nat → Nat) (p0 : Nat) (h : AH) : Option (Int32 × AH) :=
  some ((2 : Int32), h)
def F_X9_measure (n : Nat) (K : Nat → Nat) (p0 : Nat) (h : AH) : Option (Int32 × AH) :=
  some ((3 : Int32), h)
def F_X0_voter (n : Nat) (K : Nat → Nat) (p0 : Nat) (p1 : Int32) (p2 : Int32) (h : AH) : Option (Int32 × AH) :=
  chk (h.kind p0 = 1) <|
  bnd (F_X0_voterAt n K p0 p1 h) fun r1 h2 =>
  oc r1 (
    some ((-1 : Int32), h2)
  ) fun a4 =>
  if p2 = (0 : Int32) then (
    chk (7 ≤ h2.kind a4 ∧ h2.kind a4 ≤ 10) <|
    some (h2.I a4 3, h2)
  ) else
  if p2 = (1 : Int32) then (
    chk (7 ≤ h2.kind a4 ∧ h2.kind a4 ≤ 10) <|
    some (h2.I a4 4, h2)
  ) else
  if p2 = (2 : Int32) then (
    chk (7 ≤ h2.kind a4 ∧ h2.kind a4 ≤ 10) <|
    some (h2.I a4 0, h2)
  ) else
  if p2 = (3 : Int32) then (
    chk (7 ≤ h2.kind a4 ∧ h2.kind a4 ≤ 10) <|
    bnd (dV (h2.kind a4) (F_X6_measure n K a4 h2) (F_X7_measure n K a4 h2) (F_X8_measure n K a4 h2) (F_X9_measure n K a4 h2)) fun r12 h13 =>
    some (r12, h13)
  ) else
  if p2 = (4 : Int32) then (
    chk (7 ≤ h2.kind a4 ∧ h2.kind a4 ≤ 10) <|
    some (h2.I a4 1, h2)
  ) else
  if p2 = (5 : Int32) then (
    chk (7 ≤ h2.kind a4 ∧ h2.kind a4 ≤ 10) <|
    some (h2.I a4 2, h2)
  ) else
  (
    some ((-1 : Int32), h2)
  )
def F_X0_placeAt (n : Nat) (K : Nat → Nat) (p0 : Nat) (p1 : Int32) (h : AH) : Option (Option Nat × AH) :=
  chk (h.kind p0 = 1) <|
  ob (h.R p0 3) fun a2 =>
  chk (h.kind a2 = 3) <|
  bnd (F_J2_size n K a2 h) fun r3 h4 =>
  bnd (F_X0_in n K p1 (0 : Int32) (r3 - (1 : Int32)) h4) fun r6 h7 =>
  if r6 = 0 then (
    some (none, h7)
  ) else (
    chk (h7.kind p0 = 1) <|
    ob (h7.R p0 3) fun a10 =>
    chk (h7.kind a10 = 3) <|
    bnd (F_J2_get n K a10 p1 h7) fun r11 h12 =>
    ob r11 fun a14 =>
    chk (h12.kind a14 = 11) <|
    some ((some a14), h12)
  )
def F_X0_place (n : Nat) (K : Nat → Nat) (p0 : Nat) (p1 : Int32) (p2 : Int32) (h : AH) : Option (Int32 × AH) :=
  chk (h.kind p0 = 1) <|
  bnd (F_X0_placeAt n K p0 p1 h) fun r1 h2 =>
  oc r1 (
    some ((-1 : Int32), h2)
  ) fun a4 =>
  if ¬ p2 = 0 then (
    if ¬ p2 = (1 : Int32) then (
      some ((-1 : Int32), h2)
    ) else (
      chk (h2.kind a4 = 11) <|
      some (h2.I a4 1, h2)
    )
  ) else (
    chk (h2.kind a4 = 11) <|
    some (h2.I a4 0, h2)
  )
def F_X0_isPoint (n : Nat) (K : Nat → Nat) (p0 : Int32) (p1 : Int32) (h : AH) : Option (Int32 × AH) :=
  bnd (F_X0_in n K p0 (0 : Int32) (99 : Int32) h) fun r1 h2 =>
  if r1 = 0 then (
    some ((0 : Int32), h2)
  ) else (
    bnd (F_X0_in n K p1 (0 : Int32) (99 : Int32) h2) fun r4 h5 =>
    if r4 = 0 then (
      some ((0 : Int32), h5)
    ) else (
      some ((1 : Int32), h5)
    )
  )
def F_X0_propose (n : Nat) (K : Nat → Nat) (p0 : Nat) (p1 : Int32) (p2 : Int32) (h : AH) : Option (Int32 × AH) :=
  chk (h.kind p0 = 1) <|
  ob (h.R p0 2) fun a2 =>
  chk (h.kind a2 = 3) <|
  bnd (F_J2_isEmpty n K a2 h) fun r3 h4 =>
  if ¬ r3 = 0 then (
    some ((-1 : Int32), h4)
  ) else (
    bnd (F_X0_isPoint n K p1 p2 h4) fun r7 h8 =>
    if r7 = 0 then (
      some ((-1 : Int32), h8)
    ) else (
      chk (h8.kind p0 = 1) <|
      ob (h8.R p0 3) fun a11 =>
      chk (h8.kind a11 = 3) <|
      bnd (F_J2_size n K a11 h8) fun r12 h13 =>
      if ¬ r12 = (20 : Int32) then (
        chk (h13.kind p0 = 1) <|
        hl (h13.new 11 0 2) fun h17 =>
        bnd (F_X10_init n K h13.n p1 p2 h17) fun _ h20 =>
        ob (h13.R p0 3) fun a21 =>
        chk (h20.kind a21 = 3) <|
        bnd (F_J2_add n K a21 (some h13.n) h20) fun r22 h23 =>
        chk (h23.kind p0 = 1) <|
        ob (h23.R p0 3) fun a26 =>
        chk (h23.kind a26 = 3) <|
        bnd (F_J2_size n K a26 h23) fun r27 h28 =>
        some (r27 - (1 : Int32), h28)
      ) else (
        some ((-1 : Int32), h13)
      )
    )
  )
def F_X6_joined (n : Nat) (K : Nat → Nat) (p0 : Nat) (p1 : Int32) (p2 : Int32) (h : AH) : Option (Int32 × AH) :=
  some ((p1 * p1) + (p2 * p2), h)
def F_X7_joined (n : Nat) (K : Nat → Nat) (p0 : Nat) (p1 : Int32) (p2 : Int32) (h : AH) : Option (Int32 × AH) :=
  some (p1 + p2, h)
def F_X8_joined (n : Nat) (K : Nat → Nat) (p0 : Nat) (p1 : Int32) (p2 : Int32) (h : AH) : Option (Int32 × AH) :=
  some (if p1 < p2 then p2 else p1, h)
def F_X9_joined (n : Nat) (K : Nat → Nat) (p0 : Nat) (p1 : Int32) (p2 : Int32) (h : AH) : Option (Int32 × AH) :=
  some (p1, h)
def F_X5_wayFrom (n : Nat) (K : Nat → Nat) (p0 : Nat) (p1 : Int32) (p2 : Int32) (p3 : Int32) (p4 : Int32) (h : AH) : Option (Int32 × AH) :=
  chk (7 ≤ h.kind p0 ∧ h.kind p0 ≤ 10) <|
  bnd (dV (h.kind p0) (F_X6_joined n K p0 ((h.I p0 1) * (if 0 ≤ (p3 - p1) then (p3 - p1) else 0 - (p3 - p1))) ((h.I p0 2) * (if 0 ≤ (p4 - p2) then (p4 - p2) else 0 - (p4 - p2))) h) (F_X7_joined n K p0 ((h.I p0 1) * (if 0 ≤ (p3 - p1) then (p3 - p1) else 0 - (p3 - p1))) ((h.I p0 2) * (if 0 ≤ (p4 - p2) then (p4 - p2) else 0 - (p4 - p2))) h) (F_X8_joined n K p0 ((h.I p0 1) * (if 0 ≤ (p3 - p1) then (p3 - p1) else 0 - (p3 - p1))) ((h.I p0 2) * (if 0 ≤ (p4 - p2) then (p4 - p2) else 0 - (p4 - p2))) h) (F_X9_joined n K p0 ((h.I p0 1) * (if 0 ≤ (p3 - p1) then (p3 - p1) else 0 - (p3 - p1))) ((h.I p0 2) * (if 0 ≤ (p4 - p2) then (p4 - p2) else 0 - (p4 - p2))) h)) fun r2 h3 =>
  some (r2, h3)
def F_X5_way (n : Nat) (K : Nat → Nat) (p0 : Nat) (p1 : Int32) (p2 : Int32) (h : AH) : Option (Int32 × AH) :=
  chk (7 ≤ h.kind p0 ∧ h.kind p0 ≤ 10) <|
  bnd (F_X5_wayFrom n K p0 (h.I p0 3) (h.I p0 4) p1 p2 h) fun r2 h3 =>
  some (r2, h3)
def F_X0_way (n : Nat) (K : Nat → Nat) (p0 : Nat) (p1 : Int32) (p2 : Int32) (p3 : Int32) (h : AH) : Option (Int32 × AH) :=
  chk (h.kind p0 = 1) <|
  bnd (F_X0_voterAt n K p0 p1 h) fun r1 h2 =>
  oc r1 (
    some ((-1 : Int32), h2)
  ) fun a4 =>
  bnd (F_X0_isPoint n K p2 p3 h2) fun r5 h6 =>
  if ¬ r5 = 0 then (
    chk (7 ≤ h6.kind a4 ∧ h6.kind a4 ≤ 10) <|
    bnd (F_X5_way n K a4 p2 p3 h6) fun r8 h9 =>
    some (r8, h9)
  ) else (
    some ((-1 : Int32), h6)
  )
def F_J15_compare (n : Nat) (K : Nat → Nat) (p0 : Int32) (p1 : Int32) (h : AH) : Option (Int32 × AH) :=
  if p1 ≤ p0 then (
    if ¬ p0 = p1 then (
      some ((1 : Int32), h)
    ) else (
      some ((0 : Int32), h)
    )
  ) else (
    some ((-1 : Int32), h)
  )
def F_X5_rather (n : Nat) (K : Nat → Nat) (p0 : Nat) (p1 : Int32) (p2 : Int32) (p3 : Int32) (p4 : Int32) (h : AH) : Option (Int32 × AH) :=
  chk (7 ≤ h.kind p0 ∧ h.kind p0 ≤ 10) <|
  bnd (F_X5_way n K p0 p3 p4 h) fun r1 h2 =>
  chk (7 ≤ h2.kind p0 ∧ h2.kind p0 ≤ 10) <|
  bnd (F_X5_way n K p0 p1 p2 h2) fun r4 h5 =>
  bnd (F_J15_compare n K r1 r4 h5) fun r7 h8 =>
  some (r7, h8)
def F_X0_votesFor_L6 (n : Nat) (K : Nat → Nat) (y4 : Nat) (y5 : Int32) (y6 : Int32) (y7 : Int32) (y8 : Int32) : Nat → Int32 → Int32 → AH → Option (Int32 × AH)
  | 0, _, _, _ => none
  | f + 1, x2, x3, h =>
    chk (h.kind y4 = 1) <|
    ob (h.R y4 2) fun a10 =>
    chk (h.kind a10 = 3) <|
    bnd (F_J2_size n K a10 h) fun r11 h12 =>
    if r11 ≤ x2 then (
      some (x3, h12)
    ) else (
      chk (h12.kind y4 = 1) <|
      ob (h12.R y4 2) fun a16 =>
      chk (h12.kind a16 = 3) <|
      bnd (F_J2_get n K a16 x2 h12) fun r17 h18 =>
      ob r17 fun a20 =>
      chk (7 ≤ h18.kind a20 ∧ h18.kind a20 ≤ 10) <|
      bnd (F_X5_rather n K a20 y5 y6 y7 y8 h18) fun r22 h23 =>
      if r22 ≤ 0 then (
        F_X0_votesFor_L6 n K y4 y5 y6 y7 y8 f (x2 + (1 : Int32)) (x3 + (0 : Int32)) h23
      ) else (
        chk (h23.kind y4 = 1) <|
        ob (h23.R y4 2) fun a26 =>
        chk (h23.kind a26 = 3) <|
        bnd (F_J2_get n K a26 x2 h23) fun r27 h28 =>
        ob r27 fun a30 =>
        chk (7 ≤ h28.kind a30 ∧ h28.kind a30 ≤ 10) <|
        F_X0_votesFor_L6 n K y4 y5 y6 y7 y8 f (x2 + (1 : Int32)) (x3 + (h28.I a30 0)) h28
      )
    )
def F_X0_votesFor (n : Nat) (K : Nat → Nat) (p0 : Nat) (p1 : Int32) (p2 : Int32) (p3 : Int32) (p4 : Int32) (h : AH) : Option (Int32 × AH) :=
  F_X0_votesFor_L6 n K p0 p1 p2 p3 p4 n (0 : Int32) (0 : Int32) h
def F_X0_votesOf (n : Nat) (K : Nat → Nat) (p0 : Nat) (p1 : Option Nat) (p2 : Option Nat) (h : AH) : Option (Int32 × AH) :=
  ob p1 fun a1 =>
  chk (h.kind a1 = 11) <|
  ob p2 fun a3 =>
  chk (h.kind a3 = 11) <|
  chk (h.kind p0 = 1) <|
  bnd (F_X0_votesFor n K p0 (h.I a1 0) (h.I a1 1) (h.I a3 0) (h.I a3 1) h) fun r5 h6 =>
  some (r5, h6)
def F_X0_votes (n : Nat) (K : Nat → Nat) (p0 : Nat) (p1 : Int32) (p2 : Int32) (h : AH) : Option (Int32 × AH) :=
  chk (h.kind p0 = 1) <|
  bnd (F_X0_placeAt n K p0 p1 h) fun r1 h2 =>
  chk (h2.kind p0 = 1) <|
  bnd (F_X0_placeAt n K p0 p2 h2) fun r4 h5 =>
  oc r1 (
    some ((-1 : Int32), h5)
  ) fun a7 =>
  oc r4 (
    some ((-1 : Int32), h5)
  ) fun a8 =>
  chk (h5.kind p0 = 1) <|
  bnd (F_X0_votesOf n K p0 (some a7) (some a8) h5) fun r9 h10 =>
  some (r9, h10)
def F_X2_wins (n : Nat) (K : Nat → Nat) (p0 : Nat) (p1 : Int32) (p2 : Int32) (p3 : Int32) (h : AH) : Option (Int32 × AH) :=
  chk (h.kind p0 = 4) <|
  if ¬ (h.I p0 0) = 0 then (
    if ¬ (h.I p0 0) = (1 : Int32) then (
      if (p1 * (h.I p0 2)) < ((h.I p0 1) * p3) then (
        some ((0 : Int32), h)
      ) else (
        if p1 ≤ p2 then (
          some ((0 : Int32), h)
        ) else (
          some ((1 : Int32), h)
        )
      )
    ) else (
      if (p1 * (h.I p0 2)) ≤ ((h.I p0 1) * p3) then (
        some ((0 : Int32), h)
      ) else (
        some ((1 : Int32), h)
      )
    )
  ) else (
    if p1 ≤ p2 then (
      some ((0 : Int32), h)
    ) else (
      some ((1 : Int32), h)
    )
  )
def F_X0_isBeaten (n : Nat) (K : Nat → Nat) (p0 : Nat) (p1 : Int32) (p2 : Int32) (p3 : Int32) (p4 : Int32) (h : AH) : Option (Int32 × AH) :=
  chk (h.kind p0 = 1) <|
  bnd (F_X0_votesFor n K p0 p3 p4 p1 p2 h) fun r2 h3 =>
  chk (h3.kind p0 = 1) <|
  bnd (F_X0_votesFor n K p0 p1 p2 p3 p4 h3) fun r4 h5 =>
  chk (h5.kind p0 = 1) <|
  ob (h.R p0 5) fun a8 =>
  chk (h5.kind a8 = 4) <|
  bnd (F_X2_wins n K a8 r2 r4 (h5.I p0 7) h5) fun r9 h10 =>
  chk (r9 = 0 ∨ r9 = 1) <|
  some (r9, h10)
def F_X0_above (n : Nat) (K : Nat → Nat) (p0 : Nat) (p1 : Option Nat) (p2 : Option Nat) (h : AH) : Option (Int32 × AH) :=
  ob p2 fun a1 =>
  chk (h.kind a1 = 11) <|
  ob p1 fun a3 =>
  chk (h.kind a3 = 11) <|
  chk (h.kind p0 = 1) <|
  bnd (F_X0_isBeaten n K p0 (h.I a1 0) (h.I a1 1) (h.I a3 0) (h.I a3 1) h) fun r5 h6 =>
  chk (r5 = 0 ∨ r5 = 1) <|
  some (r5, h6)
def F_X0_beats (n : Nat) (K : Nat → Nat) (p0 : Nat) (p1 : Int32) (p2 : Int32) (h : AH) : Option (Int32 × AH) :=
  chk (h.kind p0 = 1) <|
  bnd (F_X0_placeAt n K p0 p1 h) fun r1 h2 =>
  chk (h2.kind p0 = 1) <|
  bnd (F_X0_placeAt n K p0 p2 h2) fun r4 h5 =>
  oc r1 (
    some ((0 : Int32), h5)
  ) fun a7 =>
  oc r4 (
    some ((0 : Int32), h5)
  ) fun a8 =>
  chk (h5.kind p0 = 1) <|
  bnd (F_X0_above n K p0 (some a7) (some a8) h5) fun r9 h10 =>
  if r9 = 0 then (
    some ((0 : Int32), h10)
  ) else (
    some ((1 : Int32), h10)
  )
def F_X0_wins (n : Nat) (K : Nat → Nat) (p0 : Nat) (p1 : Int32) (p2 : Int32) (h : AH) : Option (Int32 × AH) :=
  chk (h.kind p0 = 1) <|
  ob (h.R p0 2) fun a2 =>
  chk (h.kind a2 = 3) <|
  bnd (F_J2_isEmpty n K a2 h) fun r3 h4 =>
  if ¬ r3 = 0 then (
    some ((0 : Int32), h4)
  ) else (
    bnd (F_X0_in n K p1 (0 : Int32) (9999 : Int32) h4) fun r7 h8 =>
    if r7 = 0 then (
      some ((0 : Int32), h8)
    ) else (
      bnd (F_X0_in n K p2 (0 : Int32) (9999 : Int32) h8) fun r10 h11 =>
      if ¬ r10 = 0 then (
        chk (h11.kind p0 = 1) <|
        bnd (F_X0_isBeaten n K p0 (p2 / (100 : Int32)) (p2 - p2 / (100 : Int32) * (100 : Int32)) (p1 / (100 : Int32)) (p1 - p1 / (100 : Int32) * (100 : Int32)) h11) fun r13 h14 =>
        chk (r13 = 0 ∨ r13 = 1) <|
        some (r13, h14)
      ) else (
        some ((0 : Int32), h11)
      )
    )
  )
def F_X0_common_L12 (n : Nat) (K : Nat → Nat) (h : AH) : Nat → Int64 → Int64 → Option (Int64 × AH)
  | 0, _, _ => none
  | f + 1, x2, x3 =>
    if (lg_cmp x2 (0 : Int64)) = 0 then (
      some (x3, h)
    ) else (
      chk (¬ x2 = 0) <|
      F_X0_common_L12 n K h f (x3 - x3 / x2 * x2) x2
    )
def F_X0_common (n : Nat) (K : Nat → Nat) (p0 : Int64) (p2 : Int64) (h : AH) : Option (Int64 × AH) :=
  F_X0_common_L12 n K h n (if 0 < p2 then p2 else -p2) (if 0 < p0 then p0 else -p0)
def F_X11_init (n : Nat) (K : Nat → Nat) (p0 : Nat) (p1 : Int32) (p2 : Int32) (p3 : Int32) (p4 : Int32) (h : AH) : Option (Unit × AH) :=
  bnd (F_X0_common n K ((p4 - p2).toInt64) ((p1 - p3).toInt64) h) fun r1 h2 =>
  jn (α := Int64 → Option (Unit × AH)) (fun x3 =>
    chk (¬ x3 = 0) <|
    chk (h2.kind p0 = 12) <|
    hl (h2.setL p0 0 (((p4 - p2).toInt64) / x3)) fun h7 =>
    chk (¬ x3 = 0) <|
    hl (h7.setL p0 1 (((p1 - p3).toInt64) / x3)) fun h10 =>
    hl (h10.setL p0 2 (((h10.L p0 0) * p1.toInt64) + ((h10.L p0 1) * p2.toInt64))) fun h12 =>
    some ((), h12)
  ) fun j4 =>
  if (lg_cmp ((p4 - p2).toInt64) (0 : Int64)) < 0 then (
    j4 (-r1)
  ) else (
    if ¬ (lg_cmp ((p4 - p2).toInt64) (0 : Int64)) = 0 then (
      j4 r1
    ) else (
      if 0 ≤ (lg_cmp ((p1 - p3).toInt64) (0 : Int64)) then (
        j4 r1
      ) else (
        j4 (-r1)
      )
    )
  )
def F_X11_isAhead (n : Nat) (K : Nat → Nat) (p0 : Nat) (p1 : Option Nat) (h : AH) : Option (Int32 × AH) :=
  chk (h.kind p0 = 12) <|
  jn (α := Option (Int32 × AH)) (
    if ¬ (lg_cmp (h.L p0 0) (0 : Int64)) = 0 then (
      some ((1 : Int32), h)
    ) else (
      ob p1 fun a4 =>
      chk (h.kind a4 = 12) <|
      if ¬ (lg_cmp (h.L a4 0) (0 : Int64)) = 0 then (
        some ((0 : Int32), h)
      ) else (
        if 0 ≤ (lg_cmp (h.L p0 2) (h.L a4 2)) then (
          some ((0 : Int32), h)
        ) else (
          some ((1 : Int32), h)
        )
      )
    )
  ) fun j2 =>
  if (lg_cmp (h.L p0 0) (0 : Int64)) = 0 then (
    j2
  ) else (
    ob p1 fun a10 =>
    chk (h.kind a10 = 12) <|
    if ¬ (lg_cmp (h.L a10 0) (0 : Int64)) = 0 then (
      ob p1 fun a13 =>
      chk (h.kind a13 = 12) <|
      ob p1 fun a15 =>
      chk (h.kind a15 = 12) <|
      if (lg_cmp (((h.L p0 1) * (h.L a13 0)) - ((h.L a15 1) * (h.L p0 0))) (0 : Int64)) = 0 then (
        ob p1 fun a18 =>
        chk (h.kind a18 = 12) <|
        if 0 ≤ (lg_cmp (h.L p0 2) (h.L a18 2)) then (
          some ((0 : Int32), h)
        ) else (
          some ((1 : Int32), h)
        )
      ) else (
        if 0 ≤ (lg_cmp (((h.L p0 1) * (h.L a13 0)) - ((h.L a15 1) * (h.L p0 0))) (0 : Int64)) then (
          some ((0 : Int32), h)
        ) else (
          some ((1 : Int32), h)
        )
      )
    ) else (
      j2
    )
  )
def F_X11_isSame (n : Nat) (K : Nat → Nat) (p0 : Nat) (p1 : Option Nat) (h : AH) : Option (Int32 × AH) :=
  chk (h.kind p0 = 12) <|
  ob p1 fun a2 =>
  chk (h.kind a2 = 12) <|
  if ¬ (lg_cmp (h.L p0 0) (h.L a2 0)) = 0 then (
    some ((0 : Int32), h)
  ) else (
    if ¬ (lg_cmp (h.L p0 1) (h.L a2 1)) = 0 then (
      some ((0 : Int32), h)
    ) else (
      if ¬ (lg_cmp (h.L p0 2) (h.L a2 2)) = 0 then (
        some ((0 : Int32), h)
      ) else (
        some ((1 : Int32), h)
      )
    )
  )
def F_J16_signum (n : Nat) (K : Nat → Nat) (p0 : Int64) (h : AH) : Option (Int32 × AH) :=
  some (((p0 >>> ((63 : Int32).toInt64 &&& 63)) ||| (((-p0).toUInt64 >>> ((63 : Int32).toInt64.toUInt64 &&& Int64.toUInt64 63)).toInt64)).toInt32, h)
def F_X11_side (n : Nat) (K : Nat → Nat) (p0 : Nat) (p1 : Int64) (p3 : Int64) (h : AH) : Option (Int32 × AH) :=
  chk (h.kind p0 = 12) <|
  bnd (F_J16_signum n K ((((h.L p0 0) * p1) + ((h.L p0 1) * p3)) - (h.L p0 2)) h) fun r2 h3 =>
  some (r2, h3)
def F_X0_halves_L7 (n : Nat) (K : Nat → Nat) (y5 : Nat) (y6 : Option Nat) : Nat → Int32 → Int32 → Int32 → AH → Option (Int32 × AH)
  | 0, _, _, _, _ => none
  | f + 1, x2, x3, x4, h =>
    chk (h.kind y5 = 1) <|
    ob (h.R y5 2) fun a8 =>
    chk (h.kind a8 = 3) <|
    bnd (F_J2_size n K a8 h) fun r9 h10 =>
    if r9 ≤ x2 then (
      chk (h10.kind y5 = 1) <|
      if (h10.I y5 7) < ((2 : Int32) * x4) then (
        some ((0 : Int32), h10)
      ) else (
        if (h10.I y5 7) < ((2 : Int32) * x3) then (
          some ((0 : Int32), h10)
        ) else (
          some ((1 : Int32), h10)
        )
      )
    ) else (
      chk (h10.kind y5 = 1) <|
      ob (h10.R y5 2) fun a17 =>
      chk (h10.kind a17 = 3) <|
      bnd (F_J2_get n K a17 x2 h10) fun r18 h19 =>
      ob r18 fun a21 =>
      chk (7 ≤ h19.kind a21 ∧ h19.kind a21 ≤ 10) <|
      ob y6 fun a23 =>
      chk (h19.kind a23 = 12) <|
      bnd (F_X11_side n K a23 ((h19.I a21 3).toInt64) ((h19.I a21 4).toInt64) h19) fun r24 h25 =>
      jn (α := Int32 → Option (Int32 × AH)) (fun x27 =>
        if r24 ≤ 0 then (
          F_X0_halves_L7 n K y5 y6 f (x2 + (1 : Int32)) (x3 + (0 : Int32)) (x4 + x27) h25
        ) else (
          chk (7 ≤ h25.kind a21 ∧ h25.kind a21 ≤ 10) <|
          F_X0_halves_L7 n K y5 y6 f (x2 + (1 : Int32)) (x3 + (h25.I a21 0)) (x4 + x27) h25
        )
      ) fun j28 =>
      if 0 ≤ r24 then (
        j28 (0 : Int32)
      ) else (
        chk (7 ≤ h25.kind a21 ∧ h25.kind a21 ≤ 10) <|
        j28 (h25.I a21 0)
      )
    )
def F_X0_halves (n : Nat) (K : Nat → Nat) (p0 : Nat) (p1 : Option Nat) (h : AH) : Option (Int32 × AH) :=
  F_X0_halves_L7 n K p0 p1 n (0 : Int32) (0 : Int32) (0 : Int32) h
def F_J2_rangeCheckForAdd (n : Nat) (K : Nat → Nat) (p0 : Nat) (p1 : Int32) (h : AH) : Option (Unit × AH) :=
  chk (h.kind p0 = 3) <|
  jn (α := Option (Unit × AH)) (
    none
  ) fun j2 =>
  if (h.I p0 2) < p1 then (
    j2
  ) else (
    if 0 ≤ p1 then (
      some ((), h)
    ) else (
      j2
    )
  )
def F_J2_add_3 (n : Nat) (K : Nat → Nat) (p0 : Nat) (p1 : Int32) (p2 : Option Nat) (h : AH) : Option (Unit × AH) :=
  chk (h.kind p0 = 3) <|
  bnd (F_J2_rangeCheckForAdd n K p0 p1 h) fun _ h2 =>
  chk (h2.kind p0 = 3) <|
  hl (h2.setI p0 0 ((h2.I p0 0) + (1 : Int32))) fun h5 =>
  ob (h5.R p0 1) fun a7 =>
  chk (h5.kind a7 = 34 ∨ h5.kind a7 = 44) <|
  jn (α := Option Nat → AH → Option (Unit × AH)) (fun x9 h10 =>
    ob x9 fun a12 =>
    chk (h10.kind a12 = 34) <|
    chk ((0 ≤ p1.toInt ∧ 0 ≤ (p1 + (1 : Int32)).toInt ∧ 0 ≤ ((h5.I p0 2) - p1).toInt) ∧ ix p1 + ix ((h5.I p0 2) - p1) ≤ h10.len a12 ∧ ix (p1 + (1 : Int32)) + ix ((h5.I p0 2) - p1) ≤ h10.len a12) <|
    chk (∀ i, i < ix ((h5.I p0 2) - p1) → okE h10 (h10.R a12 (ix p1 + i)) = true) <|
    hl (h10.cpyR a12 (ix p1) a12 (ix (p1 + (1 : Int32))) (ix ((h5.I p0 2) - p1))) fun h16 =>
    chk (inb p1 (h16.len a12)) <|
    ob p2 fun a19 =>
    chk (7 ≤ h16.kind a19 ∧ h16.kind a19 ≤ 14) <|
    hl (h16.setR a12 (ix p1) (some a19)) fun h21 =>
    chk (h21.kind p0 = 3) <|
    hl (h21.setI p0 2 ((h5.I p0 2) + (1 : Int32))) fun h24 =>
    some ((), h24)
  ) fun j11 =>
  if ¬ (h5.I p0 2) = (nI (h5.len a7)) then (
    j11 (some a7) h5
  ) else (
    bnd (F_J2_grow n K p0 h5) fun r28 h29 =>
    j11 r28 h29
  )
def F_X0_findLines_L122 (n : Nat) (K : Nat → Nat) (y47 : Nat) (y48 : Int32) (y49 : Int32) (y50 : Nat) : Nat → Int32 → AH → (Int32 → AH → Option (Unit × AH)) → Option (Unit × AH)
  | 0, _, _, _ => none
  | f + 1, x46, h, k =>
    chk (h.kind y50 = 1) <|
    ob (h.R y50 8) fun a52 =>
    chk (h.kind a52 = 3) <|
    bnd (F_J2_size n K a52 h) fun r53 h54 =>
    if r53 ≤ x46 then (
      k x46 h54
    ) else (
      chk (h54.kind y50 = 1) <|
      ob (h54.R y50 8) fun a58 =>
      chk (h54.kind a58 = 3) <|
      bnd (F_J2_get n K a58 x46 h54) fun r59 h60 =>
      ob r59 fun a62 =>
      chk (h60.kind a62 = 12) <|
      bnd (F_X11_isAhead n K a62 (some y47) h60) fun r64 h65 =>
      if r64 = 0 then (
        k x46 h65
      ) else (
        F_X0_findLines_L122 n K y47 y48 y49 y50 f (x46 + (1 : Int32)) h65 k
      )
    )
def F_X0_findLines_L35 (n : Nat) (K : Nat → Nat) (y20 : Int32) (y21 : Nat) : Nat → Int32 → AH → (AH → Option (Unit × AH)) → Option (Unit × AH)
  | 0, _, _, _ => none
  | f + 1, x19, h, k =>
    if y20 ≤ x19 then (
      k h
    ) else (
      chk (h.kind y21 = 1) <|
      ob (h.R y21 2) fun a24 =>
      chk (h.kind a24 = 3) <|
      bnd (F_J2_get n K a24 y20 h) fun r25 h26 =>
      ob r25 fun a28 =>
      chk (7 ≤ h26.kind a28 ∧ h26.kind a28 ≤ 10) <|
      chk (h26.kind y21 = 1) <|
      ob (h26.R y21 2) fun a31 =>
      chk (h26.kind a31 = 3) <|
      bnd (F_J2_get n K a31 x19 h26) fun r32 h33 =>
      ob r32 fun a35 =>
      chk (7 ≤ h33.kind a35 ∧ h33.kind a35 ≤ 10) <|
      chk (7 ≤ h33.kind a28 ∧ h33.kind a28 ≤ 10) <|
      jn (α := Option (Unit × AH)) (
        hl (h33.new 12 0 3) fun h39 =>
        chk (7 ≤ h39.kind a28 ∧ h39.kind a28 ≤ 10) <|
        chk (7 ≤ h39.kind a35 ∧ h39.kind a35 ≤ 10) <|
        bnd (F_X11_init n K h33.n (h39.I a28 3) (h39.I a28 4) (h39.I a35 3) (h39.I a35 4) h39) fun _ h44 =>
        F_X0_findLines_L122 n K h33.n x19 y20 y21 n (0 : Int32) h44 fun x67 h68 =>
        chk (h68.kind y21 = 1) <|
        ob (h68.R y21 8) fun a70 =>
        chk (h68.kind a70 = 3) <|
        bnd (F_J2_size n K a70 h68) fun r71 h72 =>
        jn (α := AH → Option (Unit × AH)) (fun h74 =>
          chk (h74.kind y21 = 1) <|
          bnd (F_X0_halves n K y21 (some h33.n) h74) fun r76 h77 =>
          if ¬ r76 = 0 then (
            chk (h77.kind y21 = 1) <|
            ob (h77.R y21 8) fun a81 =>
            chk (h77.kind a81 = 3) <|
            bnd (F_J2_add_3 n K a81 x67 (some h33.n) h77) fun _ h83 =>
            F_X0_findLines_L35 n K y20 y21 f (x19 + (1 : Int32)) h83 k
          ) else (
            F_X0_findLines_L35 n K y20 y21 f (x19 + (1 : Int32)) h77 k
          )
        ) fun j75 =>
        if r71 ≤ x67 then (
          j75 h72
        ) else (
          chk (h72.kind y21 = 1) <|
          ob (h72.R y21 8) fun a88 =>
          chk (h72.kind a88 = 3) <|
          bnd (F_J2_get n K a88 x67 h72) fun r89 h90 =>
          ob r89 fun a92 =>
          chk (h90.kind a92 = 12) <|
          bnd (F_X11_isSame n K a92 (some h33.n) h90) fun r94 h95 =>
          if ¬ r94 = 0 then (
            F_X0_findLines_L35 n K y20 y21 f (x19 + (1 : Int32)) h95 k
          ) else (
            j75 h95
          )
        )
      ) fun j38 =>
      if ¬ (h33.I a28 3) = (h33.I a35 3) then (
        j38
      ) else (
        if ¬ (h33.I a28 4) = (h33.I a35 4) then (
          j38
        ) else (
          F_X0_findLines_L35 n K y20 y21 f (x19 + (1 : Int32)) h33 k
        )
      )
    )
def F_X0_findLines_L22 (n : Nat) (K : Nat → Nat) (y11 : Nat) : Nat → Int32 → AH → Option (Unit × AH)
  | 0, _, _ => none
  | f + 1, x10, h =>
    chk (h.kind y11 = 1) <|
    ob (h.R y11 2) fun a13 =>
    chk (h.kind a13 = 3) <|
    bnd (F_J2_size n K a13 h) fun r14 h15 =>
    if r14 ≤ x10 then (
      some ((), h15)
    ) else (
      F_X0_findLines_L35 n K x10 y11 n (0 : Int32) h15 fun h100 =>
      F_X0_findLines_L22 n K y11 f (x10 + (1 : Int32)) h100
    )
def F_X0_findLines (n : Nat) (K : Nat → Nat) (p0 : Nat) (h : AH) : Option (Unit × AH) :=
  chk (h.kind p0 = 1) <|
  if (h.I p0 11) = 0 then (
    hl (h.setI p0 11 (1 : Int32)) fun h3 =>
    ob (h3.R p0 8) fun a5 =>
    chk (h3.kind a5 = 3) <|
    bnd (F_J2_clear n K a5 h3) fun _ h7 =>
    F_X0_findLines_L22 n K p0 n (0 : Int32) h7
  ) else (
    some ((), h)
  )
def F_X0_line (n : Nat) (K : Nat → Nat) (p0 : Nat) (p1 : Int32) (p2 : Int32) (h : AH) : Option (Int32 × AH) :=
  chk (h.kind p0 = 1) <|
  bnd (F_X0_findLines n K p0 h) fun _ h2 =>
  if ¬ p1 = (-1 : Int32) then (
    chk (h2.kind p0 = 1) <|
    ob (h2.R p0 8) fun a6 =>
    chk (h2.kind a6 = 3) <|
    bnd (F_J2_size n K a6 h2) fun r7 h8 =>
    bnd (F_X0_in n K p1 (0 : Int32) (r7 - (1 : Int32)) h8) fun r10 h11 =>
    if r10 = 0 then (
      some ((-2147483648 : Int32), h11)
    ) else (
      bnd (F_X0_in n K p2 (0 : Int32) (2 : Int32) h11) fun r13 h14 =>
      if ¬ r13 = 0 then (
        chk (h14.kind p0 = 1) <|
        ob (h14.R p0 8) fun a17 =>
        chk (h14.kind a17 = 3) <|
        bnd (F_J2_get n K a17 p1 h14) fun r18 h19 =>
        ob r18 fun a21 =>
        chk (h19.kind a21 = 12) <|
        if ¬ p2 = 0 then (
          if ¬ p2 = (1 : Int32) then (
            some ((h19.L a21 2).toInt32, h19)
          ) else (
            some ((h19.L a21 1).toInt32, h19)
          )
        ) else (
          some ((h19.L a21 0).toInt32, h19)
        )
      ) else (
        some ((-2147483648 : Int32), h14)
      )
    )
  ) else (
    chk (h2.kind p0 = 1) <|
    ob (h2.R p0 8) fun a26 =>
    chk (h2.kind a26 = 3) <|
    bnd (F_J2_size n K a26 h2) fun r27 h28 =>
    some (r27, h28)
  )
def F_X12_init (n : Nat) (K : Nat → Nat) (p0 : Nat) (p1 : Int64) (p3 : Int64) (p5 : Int64) (h : AH) : Option (Unit × AH) :=
  bnd (F_X0_common n K p1 p3 h) fun r1 h2 =>
  bnd (F_X0_common n K r1 p5 h2) fun r3 h4 =>
  jn (α := Int64 → Option (Unit × AH)) (fun x5 =>
    chk (¬ x5 = 0) <|
    chk (h4.kind p0 = 13) <|
    hl (h4.setL p0 0 (p1 / x5)) fun h9 =>
    chk (¬ x5 = 0) <|
    hl (h9.setL p0 1 (p3 / x5)) fun h12 =>
    chk (¬ x5 = 0) <|
    hl (h12.setL p0 2 (p5 / x5)) fun h15 =>
    some ((), h15)
  ) fun j6 =>
  if 0 ≤ (lg_cmp p5 (0 : Int64)) then (
    j6 r3
  ) else (
    j6 (-r3)
  )
def F_X12_isAhead (n : Nat) (K : Nat → Nat) (p0 : Nat) (p1 : Option Nat) (h : AH) : Option (Int32 × AH) :=
  chk (h.kind p0 = 13) <|
  ob p1 fun a2 =>
  chk (h.kind a2 = 13) <|
  if (lg_cmp (((h.L p0 0) * (h.L a2 2)) - ((h.L a2 0) * (h.L p0 2))) (0 : Int64)) = 0 then (
    if 0 ≤ (lg_cmp ((h.L p0 1) * (h.L a2 2)) ((h.L a2 1) * (h.L p0 2))) then (
      some ((0 : Int32), h)
    ) else (
      some ((1 : Int32), h)
    )
  ) else (
    if 0 ≤ (lg_cmp (((h.L p0 0) * (h.L a2 2)) - ((h.L a2 0) * (h.L p0 2))) (0 : Int64)) then (
      some ((0 : Int32), h)
    ) else (
      some ((1 : Int32), h)
    )
  )
def F_X12_isSame (n : Nat) (K : Nat → Nat) (p0 : Nat) (p1 : Option Nat) (h : AH) : Option (Int32 × AH) :=
  chk (h.kind p0 = 13) <|
  ob p1 fun a2 =>
  chk (h.kind a2 = 13) <|
  if ¬ (lg_cmp (h.L p0 0) (h.L a2 0)) = 0 then (
    some ((0 : Int32), h)
  ) else (
    if ¬ (lg_cmp (h.L p0 1) (h.L a2 1)) = 0 then (
      some ((0 : Int32), h)
    ) else (
      if ¬ (lg_cmp (h.L p0 2) (h.L a2 2)) = 0 then (
        some ((0 : Int32), h)
      ) else (
        some ((1 : Int32), h)
      )
    )
  )
def F_X0_isMiddle_L91 (n : Nat) (K : Nat → Nat) (y37 : Option Nat) (y38 : Int64) (y39 : Int64) (y40 : Int32) (y41 : Nat) (y42 : Option Nat) : Nat → Int32 → AH → (AH → Option (Int32 × AH)) → Option (Int32 × AH)
  | 0, _, _, _ => none
  | f + 1, x36, h, k =>
    if (4 : Int32) ≤ x36 then (
      k h
    ) else (
      ob y37 fun a44 =>
      chk (h.kind a44 = 32) <|
      chk (inb x36 (h.len a44)) <|
      hl (h.setI a44 (ix x36) (0 : Int32)) fun h47 =>
      F_X0_isMiddle_L91 n K y37 y38 y39 y40 y41 y42 f (x36 + (1 : Int32)) h47 k
    )
def F_X0_isMiddle_L112 (n : Nat) (K : Nat → Nat) (y52 : Option Nat) (y53 : Int64) (y54 : Int64) (y55 : Int32) (y56 : Nat) (y57 : Option Nat) : Nat → Int32 → AH → (AH → Option (Int32 × AH)) → Option (Int32 × AH)
  | 0, _, _, _ => none
  | f + 1, x51, h, k =>
    chk (h.kind y56 = 1) <|
    ob (h.R y56 2) fun a59 =>
    chk (h.kind a59 = 3) <|
    bnd (F_J2_size n K a59 h) fun r60 h61 =>
    if r60 ≤ x51 then (
      k h61
    ) else (
      chk (h61.kind y56 = 1) <|
      ob (h61.R y56 2) fun a65 =>
      chk (h61.kind a65 = 3) <|
      bnd (F_J2_get n K a65 x51 h61) fun r66 h67 =>
      ob r66 fun a69 =>
      chk (7 ≤ h67.kind a69 ∧ h67.kind a69 ≤ 10) <|
      ob y57 fun a71 =>
      chk (h67.kind a71 = 13) <|
      ob y57 fun a73 =>
      chk (h67.kind a73 = 13) <|
      ob y57 fun a75 =>
      chk (h67.kind a75 = 13) <|
      ob y57 fun a77 =>
      chk (h67.kind a77 = 13) <|
      if (lg_cmp ((y54 * ((((h67.I a69 4).toInt64) * (h67.L a75 2)) - (h67.L a77 1))) - (y53 * ((((h67.I a69 3).toInt64) * (h67.L a71 2)) - (h67.L a73 0)))) (0 : Int64)) = 0 then (
        if (lg_cmp ((y54 * ((((h67.I a69 3).toInt64) * (h67.L a71 2)) - (h67.L a73 0))) + (y53 * ((((h67.I a69 4).toInt64) * (h67.L a75 2)) - (h67.L a77 1)))) (0 : Int64)) = 0 then (
          F_X0_isMiddle_L112 n K y52 y53 y54 y55 y56 y57 f (x51 + (1 : Int32)) h67 k
        ) else (
          jn (α := Int32 → Option (Int32 × AH)) (fun x81 =>
            ob y52 fun a83 =>
            chk (h67.kind a83 = 32) <|
            chk (inb x81 (h67.len a83)) <|
            chk (inb x81 (h67.len a83)) <|
            hl (h67.setI a83 (ix x81) ((h67.I a83 (ix x81)) + (h67.I a69 0))) fun h87 =>
            F_X0_isMiddle_L112 n K y52 y53 y54 y55 y56 y57 f (x51 + (1 : Int32)) h87 k
          ) fun j82 =>
          if 0 ≤ (lg_cmp ((y54 * ((((h67.I a69 3).toInt64) * (h67.L a71 2)) - (h67.L a73 0))) + (y53 * ((((h67.I a69 4).toInt64) * (h67.L a75 2)) - (h67.L a77 1)))) (0 : Int64)) then (
            j82 (3 : Int32)
          ) else (
            j82 (2 : Int32)
          )
        )
      ) else (
        jn (α := Int32 → Option (Int32 × AH)) (fun x91 =>
          ob y52 fun a93 =>
          chk (h67.kind a93 = 32) <|
          chk (inb x91 (h67.len a93)) <|
          chk (inb x91 (h67.len a93)) <|
          hl (h67.setI a93 (ix x91) ((h67.I a93 (ix x91)) + (h67.I a69 0))) fun h97 =>
          F_X0_isMiddle_L112 n K y52 y53 y54 y55 y56 y57 f (x51 + (1 : Int32)) h97 k
        ) fun j92 =>
        if 0 ≤ (lg_cmp ((y54 * ((((h67.I a69 4).toInt64) * (h67.L a75 2)) - (h67.L a77 1))) - (y53 * ((((h67.I a69 3).toInt64) * (h67.L a71 2)) - (h67.L a73 0)))) (0 : Int64)) then (
          j92 (1 : Int32)
        ) else (
          j92 (0 : Int32)
        )
      )
    )
def F_X0_isMiddle_L2 (n : Nat) (K : Nat → Nat) (y3 : Nat) (y4 : Option Nat) : Nat → Int32 → AH → Option (Int32 × AH)
  | 0, _, _ => none
  | f + 1, x2, h =>
    chk (h.kind y3 = 1) <|
    ob (h.R y3 2) fun a6 =>
    chk (h.kind a6 = 3) <|
    bnd (F_J2_size n K a6 h) fun r7 h8 =>
    if r7 ≤ x2 then (
      some ((1 : Int32), h8)
    ) else (
      chk (h8.kind y3 = 1) <|
      ob (h8.R y3 2) fun a12 =>
      chk (h8.kind a12 = 3) <|
      bnd (F_J2_get n K a12 x2 h8) fun r13 h14 =>
      ob r13 fun a16 =>
      chk (7 ≤ h14.kind a16 ∧ h14.kind a16 ≤ 10) <|
      ob y4 fun a18 =>
      chk (h14.kind a18 = 13) <|
      ob y4 fun a20 =>
      chk (h14.kind a20 = 13) <|
      chk (h14.kind y3 = 1) <|
      ob (h14.R y3 2) fun a23 =>
      chk (h14.kind a23 = 3) <|
      bnd (F_J2_get n K a23 x2 h14) fun r24 h25 =>
      ob r24 fun a27 =>
      chk (7 ≤ h25.kind a27 ∧ h25.kind a27 ≤ 10) <|
      ob y4 fun a29 =>
      chk (h25.kind a29 = 13) <|
      ob y4 fun a31 =>
      chk (h25.kind a31 = 13) <|
      jn (α := Option (Int32 × AH)) (
        chk (h25.kind y3 = 1) <|
        F_X0_isMiddle_L91 n K (h25.R y3 18) ((((h25.I a27 4).toInt64) * (h25.L a29 2)) - (h25.L a31 1)) ((((h14.I a16 3).toInt64) * (h14.L a18 2)) - (h14.L a20 0)) x2 y3 y4 n (0 : Int32) h25 fun h49 =>
        F_X0_isMiddle_L112 n K (h25.R y3 18) ((((h25.I a27 4).toInt64) * (h25.L a29 2)) - (h25.L a31 1)) ((((h14.I a16 3).toInt64) * (h14.L a18 2)) - (h14.L a20 0)) x2 y3 y4 n (0 : Int32) h49 fun h101 =>
        ob (h25.R y3 18) fun a102 =>
        chk (h101.kind a102 = 32) <|
        chk (inb (0 : Int32) (h101.len a102)) <|
        chk (inb (1 : Int32) (h101.len a102)) <|
        chk (inb (2 : Int32) (h101.len a102)) <|
        chk (inb (3 : Int32) (h101.len a102)) <|
        chk (h101.kind y3 = 1) <|
        if ((2 : Int32) * ((if (h101.I a102 (ix (0 : Int32))) < (h101.I a102 (ix (1 : Int32))) then (h101.I a102 (ix (1 : Int32))) else (h101.I a102 (ix (0 : Int32)))) + (if (h101.I a102 (ix (2 : Int32))) < (h101.I a102 (ix (3 : Int32))) then (h101.I a102 (ix (3 : Int32))) else (h101.I a102 (ix (2 : Int32)))))) ≤ (h101.I y3 7) then (
          F_X0_isMiddle_L2 n K y3 y4 f (x2 + (1 : Int32)) h101
        ) else (
          some ((0 : Int32), h101)
        )
      ) fun j33 =>
      if ¬ (lg_cmp ((((h14.I a16 3).toInt64) * (h14.L a18 2)) - (h14.L a20 0)) (0 : Int64)) = 0 then (
        j33
      ) else (
        if ¬ (lg_cmp ((((h25.I a27 4).toInt64) * (h25.L a29 2)) - (h25.L a31 1)) (0 : Int64)) = 0 then (
          j33
        ) else (
          F_X0_isMiddle_L2 n K y3 y4 f (x2 + (1 : Int32)) h25
        )
      )
    )
def F_X0_isMiddle (n : Nat) (K : Nat → Nat) (p0 : Nat) (p1 : Option Nat) (h : AH) : Option (Int32 × AH) :=
  F_X0_isMiddle_L2 n K p0 p1 n (0 : Int32) h
def F_X0_comes_L2 (n : Nat) (K : Nat → Nat) (y3 : Nat) (y4 : Option Nat) : Nat → Int32 → AH → Option (Unit × AH)
  | 0, _, _ => none
  | f + 1, x2, h =>
    chk (h.kind y3 = 1) <|
    ob (h.R y3 9) fun a6 =>
    chk (h.kind a6 = 3) <|
    bnd (F_J2_size n K a6 h) fun r7 h8 =>
    jn (α := AH → Option (Unit × AH)) (fun h10 =>
      chk (h10.kind y3 = 1) <|
      ob (h10.R y3 9) fun a13 =>
      chk (h10.kind a13 = 3) <|
      bnd (F_J2_size n K a13 h10) fun r14 h15 =>
      jn (α := AH → Option (Unit × AH)) (fun h17 =>
        chk (h17.kind y3 = 1) <|
        bnd (F_X0_isMiddle n K y3 y4 h17) fun r19 h20 =>
        if ¬ r19 = 0 then (
          chk (h20.kind y3 = 1) <|
          ob (h20.R y3 9) fun a24 =>
          chk (h20.kind a24 = 3) <|
          bnd (F_J2_add_3 n K a24 x2 y4 h20) fun _ h26 =>
          some ((), h26)
        ) else (
          some ((), h20)
        )
      ) fun j18 =>
      if r14 ≤ x2 then (
        j18 h15
      ) else (
        chk (h15.kind y3 = 1) <|
        ob (h15.R y3 9) fun a31 =>
        chk (h15.kind a31 = 3) <|
        bnd (F_J2_get n K a31 x2 h15) fun r32 h33 =>
        ob r32 fun a35 =>
        chk (h33.kind a35 = 13) <|
        bnd (F_X12_isSame n K a35 y4 h33) fun r37 h38 =>
        if ¬ r37 = 0 then (
          some ((), h38)
        ) else (
          j18 h38
        )
      )
    ) fun j11 =>
    if r7 ≤ x2 then (
      j11 h8
    ) else (
      chk (h8.kind y3 = 1) <|
      ob (h8.R y3 9) fun a43 =>
      chk (h8.kind a43 = 3) <|
      bnd (F_J2_get n K a43 x2 h8) fun r44 h45 =>
      ob r44 fun a47 =>
      chk (h45.kind a47 = 13) <|
      bnd (F_X12_isAhead n K a47 y4 h45) fun r49 h50 =>
      if r49 = 0 then (
        j11 h50
      ) else (
        F_X0_comes_L2 n K y3 y4 f (x2 + (1 : Int32)) h50
      )
    )
def F_X0_comes (n : Nat) (K : Nat → Nat) (p0 : Nat) (p1 : Option Nat) (h : AH) : Option (Unit × AH) :=
  F_X0_comes_L2 n K p0 p1 n (0 : Int32) h
def F_X11_isAlong (n : Nat) (K : Nat → Nat) (p0 : Nat) (p1 : Option Nat) (h : AH) : Option (Int32 × AH) :=
  chk (h.kind p0 = 12) <|
  ob p1 fun a2 =>
  chk (h.kind a2 = 12) <|
  if ¬ (lg_cmp ((h.L p0 0) * (h.L a2 1)) ((h.L a2 0) * (h.L p0 1))) = 0 then (
    some ((0 : Int32), h)
  ) else (
    some ((1 : Int32), h)
  )
def F_X12_crossing (n : Nat) (K : Nat → Nat) (p0 : Option Nat) (p1 : Option Nat) (h : AH) : Option (Option Nat × AH) :=
  hl (h.new 13 0 3) fun h1 =>
  ob p0 fun a3 =>
  chk (h1.kind a3 = 12) <|
  ob p1 fun a5 =>
  chk (h1.kind a5 = 12) <|
  bnd (F_X12_init n K h.n (((h1.L a3 2) * (h1.L a5 1)) - ((h1.L a5 2) * (h1.L a3 1))) (((h1.L a3 0) * (h1.L a5 2)) - ((h1.L a5 0) * (h1.L a3 2))) (((h1.L a3 0) * (h1.L a5 1)) - ((h1.L a5 0) * (h1.L a3 1))) h1) fun _ h8 =>
  some ((some h.n), h8)
def F_X12_isOn (n : Nat) (K : Nat → Nat) (p0 : Nat) (p1 : Option Nat) (h : AH) : Option (Int32 × AH) :=
  ob p1 fun a1 =>
  chk (h.kind a1 = 12) <|
  chk (h.kind p0 = 13) <|
  if ¬ (lg_cmp (((h.L a1 0) * (h.L p0 0)) + ((h.L a1 1) * (h.L p0 1))) ((h.L a1 2) * (h.L p0 2))) = 0 then (
    some ((0 : Int32), h)
  ) else (
    some ((1 : Int32), h)
  )
def F_X0_proves_L94 (n : Nat) (K : Nat → Nat) (y42 : Option Nat) (y43 : Int32) (y44 : Int32) (y45 : Nat) : Nat → Int32 → AH → (AH → Option (Unit × AH)) → Option (Unit × AH)
  | 0, _, _, _ => none
  | f + 1, x41, h, k =>
    chk (h.kind y45 = 1) <|
    ob (h.R y45 8) fun a47 =>
    chk (h.kind a47 = 3) <|
    bnd (F_J2_size n K a47 h) fun r48 h49 =>
    if r48 ≤ x41 then (
      k h49
    ) else (
      jn (α := AH → Option (Unit × AH)) (fun h52 =>
        chk (h52.kind y45 = 1) <|
        ob (h52.R y45 10) fun a55 =>
        chk (h52.kind a55 = 32) <|
        chk (inb (0 : Int32) (h52.len a55)) <|
        hl (h52.setI a55 (ix (0 : Int32)) y44) fun h58 =>
        ob (h58.R y45 10) fun a60 =>
        chk (h58.kind a60 = 32) <|
        chk (inb (1 : Int32) (h58.len a60)) <|
        hl (h58.setI a60 (ix (1 : Int32)) y43) fun h63 =>
        ob (h63.R y45 10) fun a65 =>
        chk (h63.kind a65 = 32) <|
        chk (inb (2 : Int32) (h63.len a65)) <|
        hl (h63.setI a65 (ix (2 : Int32)) x41) fun h68 =>
        some ((), h68)
      ) fun j53 =>
      oc y42 (
        j53 h49
      ) fun a71 =>
      chk (h49.kind y45 = 1) <|
      ob (h49.R y45 8) fun a73 =>
      chk (h49.kind a73 = 3) <|
      bnd (F_J2_get n K a73 x41 h49) fun r74 h75 =>
      ob r74 fun a77 =>
      chk (h75.kind a77 = 12) <|
      ob y42 fun a79 =>
      chk (h75.kind a79 = 13) <|
      bnd (F_X12_isOn n K a79 (some a77) h75) fun r80 h81 =>
      if r80 = 0 then (
        j53 h81
      ) else (
        F_X0_proves_L94 n K y42 y43 y44 y45 f (x41 + (1 : Int32)) h81 k
      )
    )
def F_X0_proves_L17 (n : Nat) (K : Nat → Nat) (y12 : Int32) (y13 : Nat) : Nat → Int32 → AH → (AH → Option (Unit × AH)) → Option (Unit × AH)
  | 0, _, _, _ => none
  | f + 1, x11, h, k =>
    chk (h.kind y13 = 1) <|
    ob (h.R y13 8) fun a15 =>
    chk (h.kind a15 = 3) <|
    bnd (F_J2_size n K a15 h) fun r16 h17 =>
    if r16 ≤ x11 then (
      k h17
    ) else (
      chk (h17.kind y13 = 1) <|
      ob (h17.R y13 8) fun a21 =>
      chk (h17.kind a21 = 3) <|
      bnd (F_J2_get n K a21 y12 h17) fun r22 h23 =>
      ob r22 fun a25 =>
      chk (h23.kind a25 = 12) <|
      chk (h23.kind y13 = 1) <|
      ob (h23.R y13 8) fun a28 =>
      chk (h23.kind a28 = 3) <|
      bnd (F_J2_get n K a28 x11 h23) fun r29 h30 =>
      ob r29 fun a32 =>
      chk (h30.kind a32 = 12) <|
      chk (h30.kind a25 = 12) <|
      bnd (F_X11_isAlong n K a25 (some a32) h30) fun r34 h35 =>
      jn (α := Option Nat → AH → Option (Unit × AH)) (fun x37 h38 =>
        F_X0_proves_L94 n K x37 x11 y12 y13 n (x11 + (1 : Int32)) h38 fun h84 =>
        F_X0_proves_L17 n K y12 y13 f (x11 + (1 : Int32)) h84 k
      ) fun j39 =>
      if r34 = 0 then (
        chk (h35.kind y13 = 1) <|
        ob (h35.R y13 8) fun a88 =>
        chk (h35.kind a88 = 3) <|
        bnd (F_J2_get n K a88 y12 h35) fun r89 h90 =>
        ob r89 fun a92 =>
        chk (h90.kind a92 = 12) <|
        chk (h90.kind y13 = 1) <|
        ob (h90.R y13 8) fun a95 =>
        chk (h90.kind a95 = 3) <|
        bnd (F_J2_get n K a95 x11 h90) fun r96 h97 =>
        ob r96 fun a99 =>
        chk (h97.kind a99 = 12) <|
        bnd (F_X12_crossing n K (some a92) (some a99) h97) fun r101 h102 =>
        j39 r101 h102
      ) else (
        j39 none h35
      )
    )
def F_X0_proves_L2 (n : Nat) (K : Nat → Nat) (y3 : Nat) : Nat → Int32 → AH → Option (Unit × AH)
  | 0, _, _ => none
  | f + 1, x2, h =>
    chk (h.kind y3 = 1) <|
    ob (h.R y3 8) fun a5 =>
    chk (h.kind a5 = 3) <|
    bnd (F_J2_size n K a5 h) fun r6 h7 =>
    if r6 ≤ x2 then (
      some ((), h7)
    ) else (
      F_X0_proves_L17 n K x2 y3 n (x2 + (1 : Int32)) h7 fun h103 =>
      F_X0_proves_L2 n K y3 f (x2 + (1 : Int32)) h103
    )
def F_X0_proves (n : Nat) (K : Nat → Nat) (p0 : Nat) (h : AH) : Option (Unit × AH) :=
  F_X0_proves_L2 n K p0 n (0 : Int32) h
def F_X0_findMiddles_L33 (n : Nat) (K : Nat → Nat) (y20 : Nat) : Nat → Int32 → AH → (AH → Option (Unit × AH)) → Option (Unit × AH)
  | 0, _, _, _ => none
  | f + 1, x19, h, k =>
    chk (h.kind y20 = 1) <|
    ob (h.R y20 2) fun a22 =>
    chk (h.kind a22 = 3) <|
    bnd (F_J2_size n K a22 h) fun r23 h24 =>
    if r23 ≤ x19 then (
      k h24
    ) else (
      hl (h24.new 13 0 3) fun h27 =>
      chk (h27.kind y20 = 1) <|
      ob (h27.R y20 2) fun a30 =>
      chk (h27.kind a30 = 3) <|
      bnd (F_J2_get n K a30 x19 h27) fun r31 h32 =>
      ob r31 fun a34 =>
      chk (7 ≤ h32.kind a34 ∧ h32.kind a34 ≤ 10) <|
      chk (h32.kind y20 = 1) <|
      ob (h32.R y20 2) fun a37 =>
      chk (h32.kind a37 = 3) <|
      bnd (F_J2_get n K a37 x19 h32) fun r38 h39 =>
      ob r38 fun a41 =>
      chk (7 ≤ h39.kind a41 ∧ h39.kind a41 ≤ 10) <|
      bnd (F_X12_init n K h24.n ((h32.I a34 3).toInt64) ((h39.I a41 4).toInt64) (1 : Int64) h39) fun _ h44 =>
      chk (h44.kind y20 = 1) <|
      bnd (F_X0_comes n K y20 (some h24.n) h44) fun _ h46 =>
      F_X0_findMiddles_L33 n K y20 f (x19 + (1 : Int32)) h46 k
    )
def F_X0_findMiddles_L107 (n : Nat) (K : Nat → Nat) (y69 : Int32) (y70 : Nat) : Nat → Int32 → AH → (AH → Option (Unit × AH)) → Option (Unit × AH)
  | 0, _, _, _ => none
  | f + 1, x68, h, k =>
    if y69 ≤ x68 then (
      k h
    ) else (
      chk (h.kind y70 = 1) <|
      ob (h.R y70 8) fun a73 =>
      chk (h.kind a73 = 3) <|
      bnd (F_J2_get n K a73 y69 h) fun r74 h75 =>
      ob r74 fun a77 =>
      chk (h75.kind a77 = 12) <|
      chk (h75.kind y70 = 1) <|
      ob (h75.R y70 8) fun a80 =>
      chk (h75.kind a80 = 3) <|
      bnd (F_J2_get n K a80 x68 h75) fun r81 h82 =>
      ob r81 fun a84 =>
      chk (h82.kind a84 = 12) <|
      chk (h82.kind a77 = 12) <|
      bnd (F_X11_isAlong n K a77 (some a84) h82) fun r86 h87 =>
      if ¬ r86 = 0 then (
        F_X0_findMiddles_L107 n K y69 y70 f (x68 + (1 : Int32)) h87 k
      ) else (
        chk (h87.kind y70 = 1) <|
        ob (h87.R y70 8) fun a91 =>
        chk (h87.kind a91 = 3) <|
        bnd (F_J2_get n K a91 y69 h87) fun r92 h93 =>
        ob r92 fun a95 =>
        chk (h93.kind a95 = 12) <|
        chk (h93.kind y70 = 1) <|
        ob (h93.R y70 8) fun a98 =>
        chk (h93.kind a98 = 3) <|
        bnd (F_J2_get n K a98 x68 h93) fun r99 h100 =>
        ob r99 fun a102 =>
        chk (h100.kind a102 = 12) <|
        bnd (F_X12_crossing n K (some a95) (some a102) h100) fun r104 h105 =>
        chk (h105.kind y70 = 1) <|
        bnd (F_X0_comes n K y70 r104 h105) fun _ h107 =>
        F_X0_findMiddles_L107 n K y69 y70 f (x68 + (1 : Int32)) h107 k
      )
    )
def F_X0_findMiddles_L94 (n : Nat) (K : Nat → Nat) (y51 : Nat) : Nat → Int32 → AH → Option (Unit × AH)
  | 0, _, _ => none
  | f + 1, x50, h =>
    chk (h.kind y51 = 1) <|
    ob (h.R y51 8) fun a53 =>
    chk (h.kind a53 = 3) <|
    bnd (F_J2_size n K a53 h) fun r54 h55 =>
    if r54 ≤ x50 then (
      chk (h55.kind y51 = 1) <|
      ob (h55.R y51 9) fun a59 =>
      chk (h55.kind a59 = 3) <|
      bnd (F_J2_isEmpty n K a59 h55) fun r60 h61 =>
      if r60 = 0 then (
        some ((), h61)
      ) else (
        chk (h61.kind y51 = 1) <|
        bnd (F_X0_proves n K y51 h61) fun _ h65 =>
        some ((), h65)
      )
    ) else (
      F_X0_findMiddles_L107 n K x50 y51 n (0 : Int32) h55 fun h109 =>
      F_X0_findMiddles_L94 n K y51 f (x50 + (1 : Int32)) h109
    )
def F_X0_findMiddles (n : Nat) (K : Nat → Nat) (p0 : Nat) (h : AH) : Option (Unit × AH) :=
  chk (h.kind p0 = 1) <|
  if (h.I p0 12) = 0 then (
    bnd (F_X0_findLines n K p0 h) fun _ h4 =>
    chk (h4.kind p0 = 1) <|
    hl (h4.setI p0 12 (1 : Int32)) fun h6 =>
    ob (h6.R p0 9) fun a8 =>
    chk (h6.kind a8 = 3) <|
    bnd (F_J2_clear n K a8 h6) fun _ h10 =>
    chk (h10.kind p0 = 1) <|
    ob (h10.R p0 10) fun a13 =>
    chk (h10.kind a13 = 32) <|
    chk (inb (0 : Int32) (h10.len a13)) <|
    hl (h10.setI a13 (ix (0 : Int32)) (-1 : Int32)) fun h16 =>
    F_X0_findMiddles_L33 n K p0 n (0 : Int32) h16 fun h48 =>
    F_X0_findMiddles_L94 n K p0 n (0 : Int32) h48
  ) else (
    some ((), h)
  )
def F_X0_middle (n : Nat) (K : Nat → Nat) (p0 : Nat) (p1 : Int32) (p2 : Int32) (h : AH) : Option (Int32 × AH) :=
  chk (h.kind p0 = 1) <|
  bnd (F_X0_findMiddles n K p0 h) fun _ h2 =>
  if ¬ p1 = (-1 : Int32) then (
    chk (h2.kind p0 = 1) <|
    ob (h2.R p0 9) fun a6 =>
    chk (h2.kind a6 = 3) <|
    bnd (F_J2_size n K a6 h2) fun r7 h8 =>
    bnd (F_X0_in n K p1 (0 : Int32) (r7 - (1 : Int32)) h8) fun r10 h11 =>
    if r10 = 0 then (
      some ((-2147483648 : Int32), h11)
    ) else (
      bnd (F_X0_in n K p2 (0 : Int32) (2 : Int32) h11) fun r13 h14 =>
      if ¬ r13 = 0 then (
        chk (h14.kind p0 = 1) <|
        ob (h14.R p0 9) fun a17 =>
        chk (h14.kind a17 = 3) <|
        bnd (F_J2_get n K a17 p1 h14) fun r18 h19 =>
        ob r18 fun a21 =>
        chk (h19.kind a21 = 13) <|
        if ¬ p2 = 0 then (
          if ¬ p2 = (1 : Int32) then (
            some ((h19.L a21 2).toInt32, h19)
          ) else (
            some ((h19.L a21 1).toInt32, h19)
          )
        ) else (
          some ((h19.L a21 0).toInt32, h19)
        )
      ) else (
        some ((-2147483648 : Int32), h14)
      )
    )
  ) else (
    chk (h2.kind p0 = 1) <|
    ob (h2.R p0 9) fun a26 =>
    chk (h2.kind a26 = 3) <|
    bnd (F_J2_size n K a26 h2) fun r27 h28 =>
    some (r27, h28)
  )
def F_X0_proof (n : Nat) (K : Nat → Nat) (p0 : Nat) (p1 : Int32) (h : AH) : Option (Int32 × AH) :=
  chk (h.kind p0 = 1) <|
  bnd (F_X0_findMiddles n K p0 h) fun _ h2 =>
  bnd (F_X0_in n K p1 (0 : Int32) (2 : Int32) h2) fun r4 h5 =>
  if r4 = 0 then (
    some ((-1 : Int32), h5)
  ) else (
    chk (h5.kind p0 = 1) <|
    ob (h5.R p0 10) fun a8 =>
    chk (h5.kind a8 = 32) <|
    chk (inb (0 : Int32) (h5.len a8)) <|
    if (h5.I a8 (ix (0 : Int32))) = (-1 : Int32) then (
      some ((-1 : Int32), h5)
    ) else (
      ob (h5.R p0 10) fun a12 =>
      chk (h5.kind a12 = 32) <|
      chk (inb p1 (h5.len a12)) <|
      some (h5.I a12 (ix p1), h5)
    )
  )
def F_X0_findRound_L48 (n : Nat) (K : Nat → Nat) (y33 : Int32) (y34 : Int32) (y35 : Nat) : Nat → Int32 → Int64 → Int64 → AH → (Int64 → Int64 → AH → Option (Unit × AH)) → Option (Unit × AH)
  | 0, _, _, _, _, _ => none
  | f + 1, x30, x31, x32, h, k =>
    chk (h.kind y35 = 1) <|
    ob (h.R y35 8) fun a37 =>
    chk (h.kind a37 = 3) <|
    bnd (F_J2_size n K a37 h) fun r38 h39 =>
    if r38 ≤ x30 then (
      k x31 x32 h39
    ) else (
      chk (h39.kind y35 = 1) <|
      ob (h39.R y35 8) fun a43 =>
      chk (h39.kind a43 = 3) <|
      bnd (F_J2_get n K a43 x30 h39) fun r44 h45 =>
      ob r44 fun a47 =>
      chk (h45.kind a47 = 12) <|
      if 0 < (lg_cmp ((((((h45.L a47 0) * y34.toInt64) + ((h45.L a47 1) * y33.toInt64)) - (h45.L a47 2)) * ((((h45.L a47 0) * y34.toInt64) + ((h45.L a47 1) * y33.toInt64)) - (h45.L a47 2))) * x31) (x32 * (((h45.L a47 0) * (h45.L a47 0)) + ((h45.L a47 1) * (h45.L a47 1))))) then (
        F_X0_findRound_L48 n K y33 y34 y35 f (x30 + (1 : Int32)) (((h45.L a47 0) * (h45.L a47 0)) + ((h45.L a47 1) * (h45.L a47 1))) (((((h45.L a47 0) * y34.toInt64) + ((h45.L a47 1) * y33.toInt64)) - (h45.L a47 2)) * ((((h45.L a47 0) * y34.toInt64) + ((h45.L a47 1) * y33.toInt64)) - (h45.L a47 2))) h45 k
      ) else (
        F_X0_findRound_L48 n K y33 y34 y35 f (x30 + (1 : Int32)) x31 x32 h45 k
      )
    )
def F_X0_findRound_L34 (n : Nat) (K : Nat → Nat) (y26 : Int32) (y27 : Nat) : Nat → Int32 → AH → (AH → Option (Unit × AH)) → Option (Unit × AH)
  | 0, _, _, _ => none
  | f + 1, x25, h, k =>
    if (100 : Int32) ≤ x25 then (
      k h
    ) else (
      F_X0_findRound_L48 n K x25 y26 y27 n (0 : Int32) (1 : Int64) (0 : Int64) h fun x50 x51 h52 =>
      chk (h52.kind y27 = 1) <|
      jn (α := Option (Unit × AH)) (
        hl (h52.setL y27 16 x51) fun h55 =>
        hl (h55.setL y27 17 x50) fun h57 =>
        hl (h57.setI y27 14 y26) fun h59 =>
        hl (h59.setI y27 15 x25) fun h61 =>
        F_X0_findRound_L34 n K y26 y27 f (x25 + (1 : Int32)) h61 k
      ) fun j54 =>
      if (lg_cmp (h52.L y27 16) (-1 : Int64)) = 0 then (
        j54
      ) else (
        if (lg_cmp (x51 * (h52.L y27 17)) ((h52.L y27 16) * x50)) < 0 then (
          j54
        ) else (
          F_X0_findRound_L34 n K y26 y27 f (x25 + (1 : Int32)) h52 k
        )
      )
    )
def F_X0_findRound_L26 (n : Nat) (K : Nat → Nat) (y12 : Nat) : Nat → Int32 → AH → Option (Unit × AH)
  | 0, _, _ => none
  | f + 1, x11, h =>
    if (100 : Int32) ≤ x11 then (
      chk (h.kind y12 = 1) <|
      bnd (F_X0_common n K (h.L y12 16) (h.L y12 17) h) fun r15 h16 =>
      chk (h16.kind y12 = 1) <|
      chk (¬ r15 = 0) <|
      hl (h16.setL y12 16 ((h16.L y12 16) / r15)) fun h19 =>
      chk (¬ r15 = 0) <|
      hl (h19.setL y12 17 ((h19.L y12 17) / r15)) fun h22 =>
      some ((), h22)
    ) else (
      F_X0_findRound_L34 n K x11 y12 n (0 : Int32) h fun h66 =>
      F_X0_findRound_L26 n K y12 f (x11 + (1 : Int32)) h66
    )
def F_X0_findRound (n : Nat) (K : Nat → Nat) (p0 : Nat) (h : AH) : Option (Unit × AH) :=
  chk (h.kind p0 = 1) <|
  if (h.I p0 13) = 0 then (
    bnd (F_X0_findLines n K p0 h) fun _ h4 =>
    chk (h4.kind p0 = 1) <|
    hl (h4.setI p0 13 (1 : Int32)) fun h6 =>
    hl (h6.setL p0 16 (-1 : Int64)) fun h8 =>
    F_X0_findRound_L26 n K p0 n (0 : Int32) h8
  ) else (
    some ((), h)
  )
def F_X0_round (n : Nat) (K : Nat → Nat) (p0 : Nat) (p1 : Int32) (h : AH) : Option (Int32 × AH) :=
  chk (h.kind p0 = 1) <|
  ob (h.R p0 2) fun a2 =>
  chk (h.kind a2 = 3) <|
  bnd (F_J2_isEmpty n K a2 h) fun r3 h4 =>
  if ¬ r3 = 0 then (
    some ((-1 : Int32), h4)
  ) else (
    bnd (F_X0_in n K p1 (0 : Int32) (3 : Int32) h4) fun r7 h8 =>
    if ¬ r7 = 0 then (
      chk (h8.kind p0 = 1) <|
      bnd (F_X0_findRound n K p0 h8) fun _ h11 =>
      if ¬ p1 = 0 then (
        if ¬ p1 = (1 : Int32) then (
          if ¬ p1 = (2 : Int32) then (
            chk (h11.kind p0 = 1) <|
            some ((h11.L p0 17).toInt32, h11)
          ) else (
            chk (h11.kind p0 = 1) <|
            some ((h11.L p0 16).toInt32, h11)
          )
        ) else (
          chk (h11.kind p0 = 1) <|
          some (h11.I p0 15, h11)
        )
      ) else (
        chk (h11.kind p0 = 1) <|
        some (h11.I p0 14, h11)
      )
    ) else (
      some ((-1 : Int32), h8)
    )
  )
def F_X0_spreads (n : Nat) (K : Nat → Nat) (p0 : Nat) (p1 : Int32) (p2 : Int32) (p3 : Int32) (h : AH) : Option (Int32 × AH) :=
  bnd (F_X0_isPoint n K p1 p2 h) fun r1 h2 =>
  if r1 = 0 then (
    some (p3, h2)
  ) else (
    chk (h2.kind p0 = 1) <|
    ob (h2.R p0 19) fun a5 =>
    chk (h2.kind a5 = 32) <|
    chk (inb (((100 : Int32) * p1) + p2) (h2.len a5)) <|
    if (h2.I a5 (ix (((100 : Int32) * p1) + p2))) = (-2 : Int32) then (
      ob (h2.R p0 19) fun a9 =>
      chk (h2.kind a9 = 32) <|
      chk (inb (((100 : Int32) * p1) + p2) (h2.len a9)) <|
      hl (h2.setI a9 (ix (((100 : Int32) * p1) + p2)) (h2.I p0 23)) fun h12 =>
      ob (h12.R p0 20) fun a14 =>
      chk (h12.kind a14 = 32) <|
      chk (inb p3 (h12.len a14)) <|
      hl (h12.setI a14 (ix p3) (((100 : Int32) * p1) + p2)) fun h17 =>
      some (p3 + (1 : Int32), h17)
    ) else (
      some (p3, h2)
    )
  )
def F_X0_fills_L31 (n : Nat) (K : Nat → Nat) (y20 : Nat) : Nat → Int32 → Int32 → AH → Option (Unit × AH)
  | 0, _, _, _ => none
  | f + 1, x18, x19, h =>
    if x19 ≤ x18 then (
      chk (h.kind y20 = 1) <|
      ob (h.R y20 22) fun a23 =>
      chk (h.kind a23 = 32) <|
      chk (inb (h.I y20 23) (h.len a23)) <|
      hl (h.setI a23 (ix (h.I y20 23)) x19) fun h26 =>
      hl (h26.setI y20 23 ((h26.I y20 23) + (1 : Int32))) fun h28 =>
      some ((), h28)
    ) else (
      chk (h.kind y20 = 1) <|
      ob (h.R y20 20) fun a31 =>
      chk (h.kind a31 = 32) <|
      chk (inb x18 (h.len a31)) <|
      ob (h.R y20 20) fun a34 =>
      chk (h.kind a34 = 32) <|
      chk (inb x18 (h.len a34)) <|
      bnd (F_X0_spreads n K y20 (((h.I a31 (ix x18)) / (100 : Int32)) - (1 : Int32)) ((h.I a34 (ix x18)) - (h.I a34 (ix x18)) / (100 : Int32) * (100 : Int32)) x19 h) fun r37 h38 =>
      chk (h38.kind y20 = 1) <|
      bnd (F_X0_spreads n K y20 (((h.I a31 (ix x18)) / (100 : Int32)) + (1 : Int32)) ((h.I a34 (ix x18)) - (h.I a34 (ix x18)) / (100 : Int32) * (100 : Int32)) r37 h38) fun r39 h40 =>
      chk (h40.kind y20 = 1) <|
      bnd (F_X0_spreads n K y20 ((h.I a31 (ix x18)) / (100 : Int32)) (((h.I a34 (ix x18)) - (h.I a34 (ix x18)) / (100 : Int32) * (100 : Int32)) - (1 : Int32)) r39 h40) fun r42 h43 =>
      chk (h43.kind y20 = 1) <|
      bnd (F_X0_spreads n K y20 ((h.I a31 (ix x18)) / (100 : Int32)) (((h.I a34 (ix x18)) - (h.I a34 (ix x18)) / (100 : Int32) * (100 : Int32)) + (1 : Int32)) r42 h43) fun r45 h46 =>
      F_X0_fills_L31 n K y20 f (x18 + (1 : Int32)) r45 h46
    )
def F_X0_fills (n : Nat) (K : Nat → Nat) (p0 : Nat) (p1 : Int32) (h : AH) : Option (Unit × AH) :=
  chk (h.kind p0 = 1) <|
  ob (h.R p0 20) fun a2 =>
  chk (h.kind a2 = 32) <|
  chk (inb (0 : Int32) (h.len a2)) <|
  hl (h.setI a2 (ix (0 : Int32)) p1) fun h5 =>
  ob (h5.R p0 19) fun a7 =>
  chk (h5.kind a7 = 32) <|
  chk (inb p1 (h5.len a7)) <|
  hl (h5.setI a7 (ix p1) (h5.I p0 23)) fun h10 =>
  ob (h10.R p0 21) fun a12 =>
  chk (h10.kind a12 = 32) <|
  chk (inb (h10.I p0 23) (h10.len a12)) <|
  hl (h10.setI a12 (ix (h10.I p0 23)) p1) fun h15 =>
  F_X0_fills_L31 n K p0 n (0 : Int32) (1 : Int32) h15
def F_X0_findPieces_L12 (n : Nat) (K : Nat → Nat) (y8 : Nat) (y9 : Int32) (y10 : Int32) : Nat → Int32 → AH → (AH → Option (Unit × AH)) → Option (Unit × AH)
  | 0, _, _, _ => none
  | f + 1, x7, h, k =>
    if (10000 : Int32) ≤ x7 then (
      k h
    ) else (
      chk (h.kind y8 = 1) <|
      bnd (F_X0_isBeaten n K y8 y9 y10 (x7 / (100 : Int32)) (x7 - x7 / (100 : Int32) * (100 : Int32)) h) fun r12 h13 =>
      chk (h13.kind y8 = 1) <|
      jn (α := Int32 → Option (Unit × AH)) (fun x16 =>
        ob (h13.R y8 19) fun a18 =>
        chk (h13.kind a18 = 32) <|
        chk (inb x7 (h13.len a18)) <|
        hl (h13.setI a18 (ix x7) x16) fun h21 =>
        jn (α := Int32 → Option (Unit × AH)) (fun x23 =>
          hl (h21.setI y8 24 ((h21.I y8 24) + x23)) fun h25 =>
          F_X0_findPieces_L12 n K y8 y9 y10 f (x7 + (1 : Int32)) h25 k
        ) fun j24 =>
        if r12 = 0 then (
          j24 (0 : Int32)
        ) else (
          j24 (1 : Int32)
        )
      ) fun j17 =>
      if r12 = 0 then (
        j17 (-1 : Int32)
      ) else (
        j17 (-2 : Int32)
      )
    )
def F_X0_findPieces_L79 (n : Nat) (K : Nat → Nat) (y34 : Nat) : Nat → Int32 → AH → Option (Unit × AH)
  | 0, _, _ => none
  | f + 1, x33, h =>
    if (10000 : Int32) ≤ x33 then (
      some ((), h)
    ) else (
      chk (h.kind y34 = 1) <|
      ob (h.R y34 19) fun a37 =>
      chk (h.kind a37 = 32) <|
      chk (inb x33 (h.len a37)) <|
      if ¬ (h.I a37 (ix x33)) = (-2 : Int32) then (
        F_X0_findPieces_L79 n K y34 f (x33 + (1 : Int32)) h
      ) else (
        bnd (F_X0_fills n K y34 x33 h) fun _ h42 =>
        F_X0_findPieces_L79 n K y34 f (x33 + (1 : Int32)) h42
      )
    )
def F_X0_findPieces (n : Nat) (K : Nat → Nat) (p0 : Nat) (p1 : Int32) (p2 : Int32) (h : AH) : Option (Unit × AH) :=
  chk (h.kind p0 = 1) <|
  hl (h.setI p0 24 (0 : Int32)) fun h2 =>
  hl (h2.setI p0 23 (0 : Int32)) fun h4 =>
  F_X0_findPieces_L12 n K p0 p1 p2 n (0 : Int32) h4 fun h31 =>
  F_X0_findPieces_L79 n K p0 n (0 : Int32) h31
def F_X0_winSet (n : Nat) (K : Nat → Nat) (p0 : Nat) (p1 : Int32) (p2 : Int32) (p3 : Int32) (h : AH) : Option (Int32 × AH) :=
  chk (h.kind p0 = 1) <|
  ob (h.R p0 2) fun a2 =>
  chk (h.kind a2 = 3) <|
  bnd (F_J2_isEmpty n K a2 h) fun r3 h4 =>
  if ¬ r3 = 0 then (
    some ((-1 : Int32), h4)
  ) else (
    bnd (F_X0_isPoint n K p1 p2 h4) fun r7 h8 =>
    if r7 = 0 then (
      some ((-1 : Int32), h8)
    ) else (
      bnd (F_X0_in n K p3 (0 : Int32) (1 : Int32) h8) fun r10 h11 =>
      if ¬ r10 = 0 then (
        chk (h11.kind p0 = 1) <|
        bnd (F_X0_findPieces n K p0 p1 p2 h11) fun _ h14 =>
        if ¬ p3 = 0 then (
          chk (h14.kind p0 = 1) <|
          some (h14.I p0 23, h14)
        ) else (
          chk (h14.kind p0 = 1) <|
          some (h14.I p0 24, h14)
        )
      ) else (
        some ((-1 : Int32), h11)
      )
    )
  )
def F_X0_piece (n : Nat) (K : Nat → Nat) (p0 : Nat) (p1 : Int32) (p2 : Int32) (p3 : Int32) (p4 : Int32) (h : AH) : Option (Int32 × AH) :=
  chk (h.kind p0 = 1) <|
  ob (h.R p0 2) fun a2 =>
  chk (h.kind a2 = 3) <|
  bnd (F_J2_isEmpty n K a2 h) fun r3 h4 =>
  if ¬ r3 = 0 then (
    some ((-1 : Int32), h4)
  ) else (
    bnd (F_X0_isPoint n K p1 p2 h4) fun r7 h8 =>
    if r7 = 0 then (
      some ((-1 : Int32), h8)
    ) else (
      bnd (F_X0_in n K p4 (0 : Int32) (2 : Int32) h8) fun r10 h11 =>
      if ¬ r10 = 0 then (
        chk (h11.kind p0 = 1) <|
        bnd (F_X0_findPieces n K p0 p1 p2 h11) fun _ h14 =>
        chk (h14.kind p0 = 1) <|
        bnd (F_X0_in n K p3 (0 : Int32) ((h14.I p0 23) - (1 : Int32)) h14) fun r17 h18 =>
        if ¬ r17 = 0 then (
          if ¬ p4 = 0 then (
            if ¬ p4 = (1 : Int32) then (
              chk (h18.kind p0 = 1) <|
              ob (h18.R p0 22) fun a23 =>
              chk (h18.kind a23 = 32) <|
              chk (inb p3 (h18.len a23)) <|
              some (h18.I a23 (ix p3), h18)
            ) else (
              chk (h18.kind p0 = 1) <|
              ob (h18.R p0 21) fun a27 =>
              chk (h18.kind a27 = 32) <|
              chk (inb p3 (h18.len a27)) <|
              some ((h18.I a27 (ix p3)) - (h18.I a27 (ix p3)) / (100 : Int32) * (100 : Int32), h18)
            )
          ) else (
            chk (h18.kind p0 = 1) <|
            ob (h18.R p0 21) fun a31 =>
            chk (h18.kind a31 = 32) <|
            chk (inb p3 (h18.len a31)) <|
            some ((h18.I a31 (ix p3)) / (100 : Int32), h18)
          )
        ) else (
          some ((-1 : Int32), h18)
        )
      ) else (
        some ((-1 : Int32), h11)
      )
    )
  )
def F_X0_findSteps_L2 (n : Nat) (K : Nat → Nat) (y3 : Nat) (y4 : Int32) : Nat → Int32 → AH → (AH → Option (Unit × AH)) → Option (Unit × AH)
  | 0, _, _, _ => none
  | f + 1, x2, h, k =>
    if (20 : Int32) ≤ x2 then (
      k h
    ) else (
      chk (h.kind y3 = 1) <|
      ob (h.R y3 25) fun a7 =>
      chk (h.kind a7 = 32) <|
      chk (inb x2 (h.len a7)) <|
      hl (h.setI a7 (ix x2) (-1 : Int32)) fun h10 =>
      F_X0_findSteps_L2 n K y3 y4 f (x2 + (1 : Int32)) h10 k
    )
def F_X0_findSteps_L70 (n : Nat) (K : Nat → Nat) (y45 : Int32) (y46 : Int32) (y47 : Nat) : Nat → Int32 → AH → (AH → Option (Unit × AH)) → Option (Unit × AH)
  | 0, _, _, _ => none
  | f + 1, x44, h, k =>
    chk (h.kind y47 = 1) <|
    ob (h.R y47 3) fun a49 =>
    chk (h.kind a49 = 3) <|
    bnd (F_J2_size n K a49 h) fun r50 h51 =>
    if r50 ≤ x44 then (
      k h51
    ) else (
      chk (h51.kind y47 = 1) <|
      ob (h51.R y47 25) fun a55 =>
      chk (h51.kind a55 = 32) <|
      chk (inb y45 (h51.len a55)) <|
      if ¬ (h51.I a55 (ix y45)) = (-1 : Int32) then (
        k h51
      ) else (
        ob (h51.R y47 25) fun a59 =>
        chk (h51.kind a59 = 32) <|
        chk (inb x44 (h51.len a59)) <|
        if ¬ (h51.I a59 (ix x44)) = y46 then (
          F_X0_findSteps_L70 n K y45 y46 y47 f (x44 + (1 : Int32)) h51 k
        ) else (
          ob (h51.R y47 3) fun a63 =>
          chk (h51.kind a63 = 3) <|
          bnd (F_J2_get n K a63 x44 h51) fun r64 h65 =>
          ob r64 fun a67 =>
          chk (h65.kind a67 = 11) <|
          chk (h65.kind y47 = 1) <|
          ob (h65.R y47 3) fun a70 =>
          chk (h65.kind a70 = 3) <|
          bnd (F_J2_get n K a70 y45 h65) fun r71 h72 =>
          ob r71 fun a74 =>
          chk (h72.kind a74 = 11) <|
          chk (h72.kind y47 = 1) <|
          bnd (F_X0_above n K y47 (some a67) (some a74) h72) fun r76 h77 =>
          if r76 = 0 then (
            F_X0_findSteps_L70 n K y45 y46 y47 f (x44 + (1 : Int32)) h77 k
          ) else (
            chk (h77.kind y47 = 1) <|
            ob (h77.R y47 25) fun a81 =>
            chk (h77.kind a81 = 32) <|
            chk (inb y45 (h77.len a81)) <|
            hl (h77.setI a81 (ix y45) (y46 + (1 : Int32))) fun h84 =>
            F_X0_findSteps_L70 n K y45 y46 y47 f (x44 + (1 : Int32)) h84 k
          )
        )
      )
    )
def F_X0_findSteps_L43 (n : Nat) (K : Nat → Nat) (y30 : Int32) (y31 : Nat) : Nat → Int32 → AH → (AH → Option (Unit × AH)) → Option (Unit × AH)
  | 0, _, _, _ => none
  | f + 1, x29, h, k =>
    chk (h.kind y31 = 1) <|
    ob (h.R y31 3) fun a33 =>
    chk (h.kind a33 = 3) <|
    bnd (F_J2_size n K a33 h) fun r34 h35 =>
    if r34 ≤ x29 then (
      k h35
    ) else (
      chk (h35.kind y31 = 1) <|
      ob (h35.R y31 25) fun a39 =>
      chk (h35.kind a39 = 32) <|
      chk (inb x29 (h35.len a39)) <|
      if (h35.I a39 (ix x29)) = (-1 : Int32) then (
        F_X0_findSteps_L70 n K x29 y30 y31 n (0 : Int32) h35 fun h86 =>
        F_X0_findSteps_L43 n K y30 y31 f (x29 + (1 : Int32)) h86 k
      ) else (
        F_X0_findSteps_L43 n K y30 y31 f (x29 + (1 : Int32)) h35 k
      )
    )
def F_X0_findSteps_L30 (n : Nat) (K : Nat → Nat) (y21 : Nat) : Nat → Int32 → AH → Option (Unit × AH)
  | 0, _, _ => none
  | f + 1, x20, h =>
    chk (h.kind y21 = 1) <|
    ob (h.R y21 3) fun a23 =>
    chk (h.kind a23 = 3) <|
    bnd (F_J2_size n K a23 h) fun r24 h25 =>
    if r24 ≤ x20 then (
      some ((), h25)
    ) else (
      F_X0_findSteps_L43 n K x20 y21 n (0 : Int32) h25 fun h87 =>
      F_X0_findSteps_L30 n K y21 f (x20 + (1 : Int32)) h87
    )
def F_X0_findSteps (n : Nat) (K : Nat → Nat) (p0 : Nat) (p1 : Int32) (h : AH) : Option (Unit × AH) :=
  F_X0_findSteps_L2 n K p0 p1 n (0 : Int32) h fun h12 =>
  chk (h12.kind p0 = 1) <|
  ob (h12.R p0 25) fun a14 =>
  chk (h12.kind a14 = 32) <|
  chk (inb p1 (h12.len a14)) <|
  hl (h12.setI a14 (ix p1) (0 : Int32)) fun h17 =>
  F_X0_findSteps_L30 n K p0 n (0 : Int32) h17
def F_X0_led_L76 (n : Nat) (K : Nat → Nat) (y36 : Int32) (y37 : Int32) (y38 : Nat) (y39 : Int32) : Nat → Int32 → AH → (Int32 → AH → Option (Int32 × AH)) → Option (Int32 × AH)
  | 0, _, _, _ => none
  | f + 1, x35, h, k =>
    chk (h.kind y38 = 1) <|
    ob (h.R y38 25) fun a41 =>
    chk (h.kind a41 = 32) <|
    chk (inb x35 (h.len a41)) <|
    ob (h.R y38 25) fun a44 =>
    chk (h.kind a44 = 32) <|
    chk (inb y37 (h.len a44)) <|
    if ¬ (h.I a41 (ix x35)) = ((h.I a44 (ix y37)) - (1 : Int32)) then (
      F_X0_led_L76 n K y36 y37 y38 y39 f (x35 + (1 : Int32)) h k
    ) else (
      ob (h.R y38 3) fun a48 =>
      chk (h.kind a48 = 3) <|
      bnd (F_J2_get n K a48 x35 h) fun r49 h50 =>
      ob r49 fun a52 =>
      chk (h50.kind a52 = 11) <|
      chk (h50.kind y38 = 1) <|
      ob (h50.R y38 3) fun a55 =>
      chk (h50.kind a55 = 3) <|
      bnd (F_J2_get n K a55 y37 h50) fun r56 h57 =>
      ob r56 fun a59 =>
      chk (h57.kind a59 = 11) <|
      chk (h57.kind y38 = 1) <|
      bnd (F_X0_above n K y38 (some a52) (some a59) h57) fun r61 h62 =>
      if ¬ r61 = 0 then (
        k x35 h62
      ) else (
        F_X0_led_L76 n K y36 y37 y38 y39 f (x35 + (1 : Int32)) h62 k
      )
    )
def F_X0_led_L67 (n : Nat) (K : Nat → Nat) (y31 : Nat) (y32 : Int32) : Nat → Int32 → Int32 → AH → Option (Int32 × AH)
  | 0, _, _, _ => none
  | f + 1, x29, x30, h =>
    if y32 ≤ x29 then (
      some (x30, h)
    ) else (
      F_X0_led_L76 n K x29 x30 y31 y32 n (0 : Int32) h fun x65 h66 =>
      F_X0_led_L67 n K y31 y32 f (x29 + (1 : Int32)) x65 h66
    )
def F_X0_led (n : Nat) (K : Nat → Nat) (p0 : Nat) (p1 : Int32) (p2 : Int32) (p3 : Int32) (h : AH) : Option (Int32 × AH) :=
  chk (h.kind p0 = 1) <|
  bnd (F_X0_placeAt n K p0 p1 h) fun r1 h2 =>
  oc r1 (
    some ((-1 : Int32), h2)
  ) fun a4 =>
  chk (h2.kind p0 = 1) <|
  bnd (F_X0_placeAt n K p0 p2 h2) fun r5 h6 =>
  oc r5 (
    some ((-1 : Int32), h6)
  ) fun a8 =>
  chk (h6.kind p0 = 1) <|
  bnd (F_X0_findSteps n K p0 p2 h6) fun _ h10 =>
  if p3 = (-1 : Int32) then (
    chk (h10.kind p0 = 1) <|
    ob (h10.R p0 25) fun a14 =>
    chk (h10.kind a14 = 32) <|
    chk (inb p1 (h10.len a14)) <|
    some (h10.I a14 (ix p1), h10)
  ) else (
    chk (h10.kind p0 = 1) <|
    ob (h10.R p0 25) fun a18 =>
    chk (h10.kind a18 = 32) <|
    chk (inb p1 (h10.len a18)) <|
    if ¬ (h10.I a18 (ix p1)) = (-1 : Int32) then (
      ob (h10.R p0 25) fun a22 =>
      chk (h10.kind a22 = 32) <|
      chk (inb p1 (h10.len a22)) <|
      bnd (F_X0_in n K p3 (0 : Int32) (h10.I a22 (ix p1)) h10) fun r25 h26 =>
      if ¬ r25 = 0 then (
        F_X0_led_L67 n K p0 p3 n (0 : Int32) p1 h26
      ) else (
        some ((-1 : Int32), h26)
      )
    ) else (
      ob (h10.R p0 25) fun a67 =>
      chk (h10.kind a67 = 32) <|
      chk (inb p1 (h10.len a67)) <|
      some (h10.I a67 (ix p1), h10)
    )
  )
def F_X0_reaches_L7 (n : Nat) (K : Nat → Nat) (y6 : Nat) : Nat → Int32 → AH → Option (Int32 × AH)
  | 0, _, _ => none
  | f + 1, x5, h =>
    chk (h.kind y6 = 1) <|
    ob (h.R y6 3) fun a8 =>
    chk (h.kind a8 = 3) <|
    bnd (F_J2_size n K a8 h) fun r9 h10 =>
    if r9 ≤ x5 then (
      some ((1 : Int32), h10)
    ) else (
      chk (h10.kind y6 = 1) <|
      ob (h10.R y6 25) fun a14 =>
      chk (h10.kind a14 = 32) <|
      chk (inb x5 (h10.len a14)) <|
      if ¬ (h10.I a14 (ix x5)) = (-1 : Int32) then (
        F_X0_reaches_L7 n K y6 f (x5 + (1 : Int32)) h10
      ) else (
        some ((0 : Int32), h10)
      )
    )
def F_X0_reaches (n : Nat) (K : Nat → Nat) (p0 : Nat) (p1 : Int32) (h : AH) : Option (Int32 × AH) :=
  chk (h.kind p0 = 1) <|
  bnd (F_X0_findSteps n K p0 p1 h) fun _ h2 =>
  F_X0_reaches_L7 n K p0 n (0 : Int32) h2
def F_X0_covers_L13 (n : Nat) (K : Nat → Nat) (y7 : Nat) (y8 : Option Nat) (y9 : Option Nat) : Nat → Int32 → AH → Option (Int32 × AH)
  | 0, _, _ => none
  | f + 1, x6, h =>
    chk (h.kind y7 = 1) <|
    ob (h.R y7 3) fun a11 =>
    chk (h.kind a11 = 3) <|
    bnd (F_J2_size n K a11 h) fun r12 h13 =>
    if r12 ≤ x6 then (
      some ((1 : Int32), h13)
    ) else (
      chk (h13.kind y7 = 1) <|
      ob (h13.R y7 3) fun a17 =>
      chk (h13.kind a17 = 3) <|
      bnd (F_J2_get n K a17 x6 h13) fun r18 h19 =>
      ob r18 fun a21 =>
      chk (h19.kind a21 = 11) <|
      chk (h19.kind y7 = 1) <|
      bnd (F_X0_above n K y7 (some a21) y8 h19) fun r23 h24 =>
      if r23 = 0 then (
        F_X0_covers_L13 n K y7 y8 y9 f (x6 + (1 : Int32)) h24
      ) else (
        chk (h24.kind y7 = 1) <|
        ob (h24.R y7 3) fun a28 =>
        chk (h24.kind a28 = 3) <|
        bnd (F_J2_get n K a28 x6 h24) fun r29 h30 =>
        ob r29 fun a32 =>
        chk (h30.kind a32 = 11) <|
        chk (h30.kind y7 = 1) <|
        bnd (F_X0_above n K y7 (some a32) y9 h30) fun r34 h35 =>
        if ¬ r34 = 0 then (
          F_X0_covers_L13 n K y7 y8 y9 f (x6 + (1 : Int32)) h35
        ) else (
          some ((0 : Int32), h35)
        )
      )
    )
def F_X0_covers (n : Nat) (K : Nat → Nat) (p0 : Nat) (p1 : Option Nat) (p2 : Option Nat) (h : AH) : Option (Int32 × AH) :=
  chk (h.kind p0 = 1) <|
  bnd (F_X0_above n K p0 p1 p2 h) fun r1 h2 =>
  if ¬ r1 = 0 then (
    F_X0_covers_L13 n K p0 p1 p2 n (0 : Int32) h2
  ) else (
    some ((0 : Int32), h2)
  )
def F_X0_isOpen_L2 (n : Nat) (K : Nat → Nat) (y3 : Nat) (y4 : Int32) : Nat → Int32 → AH → Option (Int32 × AH)
  | 0, _, _ => none
  | f + 1, x2, h =>
    chk (h.kind y3 = 1) <|
    ob (h.R y3 3) fun a6 =>
    chk (h.kind a6 = 3) <|
    bnd (F_J2_size n K a6 h) fun r7 h8 =>
    if r7 ≤ x2 then (
      some ((1 : Int32), h8)
    ) else (
      chk (h8.kind y3 = 1) <|
      ob (h8.R y3 3) fun a12 =>
      chk (h8.kind a12 = 3) <|
      bnd (F_J2_get n K a12 x2 h8) fun r13 h14 =>
      ob r13 fun a16 =>
      chk (h14.kind a16 = 11) <|
      chk (h14.kind y3 = 1) <|
      ob (h14.R y3 3) fun a19 =>
      chk (h14.kind a19 = 3) <|
      bnd (F_J2_get n K a19 y4 h14) fun r20 h21 =>
      ob r20 fun a23 =>
      chk (h21.kind a23 = 11) <|
      chk (h21.kind y3 = 1) <|
      bnd (F_X0_covers n K y3 (some a16) (some a23) h21) fun r25 h26 =>
      if r25 = 0 then (
        F_X0_isOpen_L2 n K y3 y4 f (x2 + (1 : Int32)) h26
      ) else (
        some ((0 : Int32), h26)
      )
    )
def F_X0_isOpen (n : Nat) (K : Nat → Nat) (p0 : Nat) (p1 : Int32) (h : AH) : Option (Int32 × AH) :=
  F_X0_isOpen_L2 n K p0 p1 n (0 : Int32) h
def F_X0_best_L25 (n : Nat) (K : Nat → Nat) (y13 : Nat) (y14 : Int32) : Nat → Int32 → Int32 → AH → Option (Int32 × AH)
  | 0, _, _, _ => none
  | f + 1, x11, x12, h =>
    chk (h.kind y13 = 1) <|
    ob (h.R y13 3) fun a16 =>
    chk (h.kind a16 = 3) <|
    bnd (F_J2_size n K a16 h) fun r17 h18 =>
    if r17 ≤ x11 then (
      some (x12, h18)
    ) else (
      jn (α := AH → Option (Int32 × AH)) (fun h21 =>
        F_X0_best_L25 n K y13 y14 f (x11 + (1 : Int32)) (x12 ||| ((1 : Int32) <<< (x11 &&& 31))) h21
      ) fun j22 =>
      if ¬ y14 = 0 then (
        chk (h18.kind y13 = 1) <|
        bnd (F_X0_isOpen n K y13 x11 h18) fun r25 h26 =>
        if r25 = 0 then (
          F_X0_best_L25 n K y13 y14 f (x11 + (1 : Int32)) (x12 ||| (0 : Int32)) h26
        ) else (
          j22 h26
        )
      ) else (
        chk (h18.kind y13 = 1) <|
        bnd (F_X0_reaches n K y13 x11 h18) fun r29 h30 =>
        if r29 = 0 then (
          F_X0_best_L25 n K y13 y14 f (x11 + (1 : Int32)) (x12 ||| (0 : Int32)) h30
        ) else (
          j22 h30
        )
      )
    )
def F_X0_best (n : Nat) (K : Nat → Nat) (p0 : Nat) (p1 : Int32) (h : AH) : Option (Int32 × AH) :=
  chk (h.kind p0 = 1) <|
  ob (h.R p0 2) fun a2 =>
  chk (h.kind a2 = 3) <|
  bnd (F_J2_isEmpty n K a2 h) fun r3 h4 =>
  if ¬ r3 = 0 then (
    some ((-1 : Int32), h4)
  ) else (
    bnd (F_X0_in n K p1 (0 : Int32) (1 : Int32) h4) fun r7 h8 =>
    if ¬ r7 = 0 then (
      F_X0_best_L25 n K p0 p1 n (0 : Int32) (0 : Int32) h8
    ) else (
      some ((-1 : Int32), h8)
    )
  )
def F_X0_between_L16 (n : Nat) (K : Nat → Nat) (y9 : Option Nat) (y10 : Option Nat) (y11 : Nat) : Nat → Int32 → AH → Option (Int32 × AH)
  | 0, _, _ => none
  | f + 1, x8, h =>
    if (10000 : Int32) ≤ x8 then (
      some ((-1 : Int32), h)
    ) else (
      oc y10 (
        some ((-1 : Int32), h)
      ) fun a13 =>
      oc y9 (
        some ((-1 : Int32), h)
      ) fun a14 =>
      ob y10 fun a15 =>
      chk (h.kind a15 = 11) <|
      ob y10 fun a17 =>
      chk (h.kind a17 = 11) <|
      chk (h.kind y11 = 1) <|
      bnd (F_X0_isBeaten n K y11 (h.I a15 0) (h.I a17 1) (x8 / (100 : Int32)) (x8 - x8 / (100 : Int32) * (100 : Int32)) h) fun r19 h20 =>
      if r19 = 0 then (
        F_X0_between_L16 n K y9 y10 y11 f (x8 + (1 : Int32)) h20
      ) else (
        ob y9 fun a23 =>
        chk (h20.kind a23 = 11) <|
        ob y9 fun a25 =>
        chk (h20.kind a25 = 11) <|
        chk (h20.kind y11 = 1) <|
        bnd (F_X0_isBeaten n K y11 (x8 / (100 : Int32)) (x8 - x8 / (100 : Int32) * (100 : Int32)) (h20.I a23 0) (h20.I a25 1) h20) fun r27 h28 =>
        if r27 = 0 then (
          F_X0_between_L16 n K y9 y10 y11 f (x8 + (1 : Int32)) h28
        ) else (
          some (x8, h28)
        )
      )
    )
def F_X0_between (n : Nat) (K : Nat → Nat) (p0 : Nat) (p1 : Int32) (p2 : Int32) (h : AH) : Option (Int32 × AH) :=
  chk (h.kind p0 = 1) <|
  bnd (F_X0_placeAt n K p0 p1 h) fun r1 h2 =>
  chk (h2.kind p0 = 1) <|
  bnd (F_X0_placeAt n K p0 p2 h2) fun r4 h5 =>
  F_X0_between_L16 n K r4 r1 p0 n (0 : Int32) h5
def F_X0_gains_L22 (n : Nat) (K : Nat → Nat) (y13 : Int32) (y14 : Int32) (y15 : Nat) : Nat → Int32 → AH → (AH → Option (Int32 × AH)) → Option (Int32 × AH)
  | 0, _, _, _ => none
  | f + 1, x12, h, k =>
    if y14 ≤ x12 then (
      k h
    ) else (
      chk (h.kind y15 = 1) <|
      ob (h.R y15 26) fun a18 =>
      chk (h.kind a18 = 35) <|
      chk (inb y13 (h.len a18)) <|
      ob (h.R y15 3) fun a21 =>
      chk (h.kind a21 = 3) <|
      bnd (F_J2_get n K a21 y13 h) fun r22 h23 =>
      ob r22 fun a25 =>
      chk (h23.kind a25 = 11) <|
      chk (h23.kind y15 = 1) <|
      ob (h23.R y15 3) fun a28 =>
      chk (h23.kind a28 = 3) <|
      bnd (F_J2_get n K a28 x12 h23) fun r29 h30 =>
      ob r29 fun a32 =>
      chk (h30.kind a32 = 11) <|
      chk (h30.kind y15 = 1) <|
      bnd (F_X0_votesOf n K y15 (some a25) (some a32) h30) fun r34 h35 =>
      chk (h35.kind y15 = 1) <|
      ob (h35.R y15 3) fun a38 =>
      chk (h35.kind a38 = 3) <|
      bnd (F_J2_get n K a38 x12 h35) fun r39 h40 =>
      ob r39 fun a42 =>
      chk (h40.kind a42 = 11) <|
      chk (h40.kind y15 = 1) <|
      ob (h40.R y15 3) fun a45 =>
      chk (h40.kind a45 = 3) <|
      bnd (F_J2_get n K a45 y13 h40) fun r46 h47 =>
      ob r46 fun a49 =>
      chk (h47.kind a49 = 11) <|
      chk (h47.kind y15 = 1) <|
      bnd (F_X0_votesOf n K y15 (some a42) (some a49) h47) fun r51 h52 =>
      ob (h.R a18 (ix y13)) fun a54 =>
      chk (h52.kind a54 = 32) <|
      chk (inb x12 (h52.len a54)) <|
      hl (h52.setI a54 (ix x12) (r34 - r51)) fun h57 =>
      F_X0_gains_L22 n K y13 y14 y15 f (x12 + (1 : Int32)) h57 k
    )
def F_X0_gains_L15 (n : Nat) (K : Nat → Nat) (y8 : Int32) (y9 : Nat) : Nat → Int32 → AH → Option (Int32 × AH)
  | 0, _, _ => none
  | f + 1, x7, h =>
    if y8 ≤ x7 then (
      some (y8, h)
    ) else (
      F_X0_gains_L22 n K x7 y8 y9 n (0 : Int32) h fun h59 =>
      F_X0_gains_L15 n K y8 y9 f (x7 + (1 : Int32)) h59
    )
def F_X0_gains (n : Nat) (K : Nat → Nat) (p0 : Nat) (h : AH) : Option (Int32 × AH) :=
  chk (h.kind p0 = 1) <|
  ob (h.R p0 3) fun a2 =>
  chk (h.kind a2 = 3) <|
  bnd (F_J2_size n K a2 h) fun r3 h4 =>
  F_X0_gains_L15 n K (if r3 < (8 : Int32) then r3 else (8 : Int32)) p0 n (0 : Int32) h4
def F_X0_rest_L17 (n : Nat) (K : Nat → Nat) (y12 : Int32) (y13 : Int32) (y14 : Nat) (h : AH) : Nat → Int32 → Int32 → (Int32 → Option (Int32 × AH)) → Option (Int32 × AH)
  | 0, _, _, _ => none
  | f + 1, x10, x11, k =>
    if y13 ≤ x10 then (
      k x11
    ) else (
      if x11 = 0 then (
        F_X0_rest_L17 n K y12 y13 y14 h f (x10 + (1 : Int32)) (0 : Int32) k
      ) else (
        chk (h.kind y14 = 1) <|
        ob (h.R y14 26) fun a18 =>
        chk (h.kind a18 = 35) <|
        chk (inb x10 (h.len a18)) <|
        ob (h.R a18 (ix x10)) fun a21 =>
        chk (h.kind a21 = 32) <|
        chk (inb y12 (h.len a21)) <|
        if 0 < (h.I a21 (ix y12)) then (
          F_X0_rest_L17 n K y12 y13 y14 h f (x10 + (1 : Int32)) (0 : Int32) k
        ) else (
          F_X0_rest_L17 n K y12 y13 y14 h f (x10 + (1 : Int32)) (1 : Int32) k
        )
      )
    )
def F_X0_rest_L7 (n : Nat) (K : Nat → Nat) (y6 : Int32) (y7 : Nat) (h : AH) : Nat → Int32 → Option (Int32 × AH)
  | 0, _ => none
  | f + 1, x5 =>
    if y6 ≤ x5 then (
      some ((-1 : Int32), h)
    ) else (
      F_X0_rest_L17 n K x5 y6 y7 h n (0 : Int32) (1 : Int32) fun x25 =>
      if x25 = 0 then (
        F_X0_rest_L7 n K y6 y7 h f (x5 + (1 : Int32))
      ) else (
        some (x5, h)
      )
    )
def F_X0_rest (n : Nat) (K : Nat → Nat) (p0 : Nat) (h : AH) : Option (Int32 × AH) :=
  chk (h.kind p0 = 1) <|
  bnd (F_X0_gains n K p0 h) fun r1 h2 =>
  F_X0_rest_L7 n K r1 p0 h2 n (0 : Int32)
def F_J15_bitCount (n : Nat) (K : Nat → Nat) (p0 : Int32) (h : AH) : Option (Int32 × AH) :=
  some ((((((((p0 - (((p0.toUInt32 >>> ((1 : Int32).toUInt32 &&& Int32.toUInt32 31)).toInt32) &&& (1431655765 : Int32))) &&& (858993459 : Int32)) + ((((p0 - (((p0.toUInt32 >>> ((1 : Int32).toUInt32 &&& Int32.toUInt32 31)).toInt32) &&& (1431655765 : Int32))).toUInt32 >>> ((2 : Int32).toUInt32 &&& Int32.toUInt32 31)).toInt32) &&& (858993459 : Int32))) + (((((p0 - (((p0.toUInt32 >>> ((1 : Int32).toUInt32 &&& Int32.toUInt32 31)).toInt32) &&& (1431655765 : Int32))) &&& (858993459 : Int32)) + ((((p0 - (((p0.toUInt32 >>> ((1 : Int32).toUInt32 &&& Int32.toUInt32 31)).toInt32) &&& (1431655765 : Int32))).toUInt32 >>> ((2 : Int32).toUInt32 &&& Int32.toUInt32 31)).toInt32) &&& (858993459 : Int32))).toUInt32 >>> ((4 : Int32).toUInt32 &&& Int32.toUInt32 31)).toInt32)) &&& (252645135 : Int32)) + (((((((p0 - (((p0.toUInt32 >>> ((1 : Int32).toUInt32 &&& Int32.toUInt32 31)).toInt32) &&& (1431655765 : Int32))) &&& (858993459 : Int32)) + ((((p0 - (((p0.toUInt32 >>> ((1 : Int32).toUInt32 &&& Int32.toUInt32 31)).toInt32) &&& (1431655765 : Int32))).toUInt32 >>> ((2 : Int32).toUInt32 &&& Int32.toUInt32 31)).toInt32) &&& (858993459 : Int32))) + (((((p0 - (((p0.toUInt32 >>> ((1 : Int32).toUInt32 &&& Int32.toUInt32 31)).toInt32) &&& (1431655765 : Int32))) &&& (858993459 : Int32)) + ((((p0 - (((p0.toUInt32 >>> ((1 : Int32).toUInt32 &&& Int32.toUInt32 31)).toInt32) &&& (1431655765 : Int32))).toUInt32 >>> ((2 : Int32).toUInt32 &&& Int32.toUInt32 31)).toInt32) &&& (858993459 : Int32))).toUInt32 >>> ((4 : Int32).toUInt32 &&& Int32.toUInt32 31)).toInt32)) &&& (252645135 : Int32)).toUInt32 >>> ((8 : Int32).toUInt32 &&& Int32.toUInt32 31)).toInt32)) + ((((((((p0 - (((p0.toUInt32 >>> ((1 : Int32).toUInt32 &&& Int32.toUInt32 31)).toInt32) &&& (1431655765 : Int32))) &&& (858993459 : Int32)) + ((((p0 - (((p0.toUInt32 >>> ((1 : Int32).toUInt32 &&& Int32.toUInt32 31)).toInt32) &&& (1431655765 : Int32))).toUInt32 >>> ((2 : Int32).toUInt32 &&& Int32.toUInt32 31)).toInt32) &&& (858993459 : Int32))) + (((((p0 - (((p0.toUInt32 >>> ((1 : Int32).toUInt32 &&& Int32.toUInt32 31)).toInt32) &&& (1431655765 : Int32))) &&& (858993459 : Int32)) + ((((p0 - (((p0.toUInt32 >>> ((1 : Int32).toUInt32 &&& Int32.toUInt32 31)).toInt32) &&& (1431655765 : Int32))).toUInt32 >>> ((2 : Int32).toUInt32 &&& Int32.toUInt32 31)).toInt32) &&& (858993459 : Int32))).toUInt32 >>> ((4 : Int32).toUInt32 &&& Int32.toUInt32 31)).toInt32)) &&& (252645135 : Int32)) + (((((((p0 - (((p0.toUInt32 >>> ((1 : Int32).toUInt32 &&& Int32.toUInt32 31)).toInt32) &&& (1431655765 : Int32))) &&& (858993459 : Int32)) + ((((p0 - (((p0.toUInt32 >>> ((1 : Int32).toUInt32 &&& Int32.toUInt32 31)).toInt32) &&& (1431655765 : Int32))).toUInt32 >>> ((2 : Int32).toUInt32 &&& Int32.toUInt32 31)).toInt32) &&& (858993459 : Int32))) + (((((p0 - (((p0.toUInt32 >>> ((1 : Int32).toUInt32 &&& Int32.toUInt32 31)).toInt32) &&& (1431655765 : Int32))) &&& (858993459 : Int32)) + ((((p0 - (((p0.toUInt32 >>> ((1 : Int32).toUInt32 &&& Int32.toUInt32 31)).toInt32) &&& (1431655765 : Int32))).toUInt32 >>> ((2 : Int32).toUInt32 &&& Int32.toUInt32 31)).toInt32) &&& (858993459 : Int32))).toUInt32 >>> ((4 : Int32).toUInt32 &&& Int32.toUInt32 31)).toInt32)) &&& (252645135 : Int32)).toUInt32 >>> ((8 : Int32).toUInt32 &&& Int32.toUInt32 31)).toInt32)).toUInt32 >>> ((16 : Int32).toUInt32 &&& Int32.toUInt32 31)).toInt32)) &&& (63 : Int32), h)
def F_J15_numberOfTrailingZeros (n : Nat) (K : Nat → Nat) (p0 : Int32) (h : AH) : Option (Int32 × AH) :=
  if 0 < ((p0 ^^^ (-1 : Int32)) &&& (p0 - (1 : Int32))) then (
    jn (α := Int32 → Int32 → Option (Int32 × AH)) (fun x2 x3 =>
      jn (α := Int32 → Int32 → Option (Int32 × AH)) (fun x5 x6 =>
        jn (α := Int32 → Int32 → Option (Int32 × AH)) (fun x8 x9 =>
          if x8 ≤ (4 : Int32) then (
            some (x9 + ((x8.toUInt32 >>> ((1 : Int32).toUInt32 &&& Int32.toUInt32 31)).toInt32), h)
          ) else (
            some ((x9 + (2 : Int32)) + ((((x8.toUInt32 >>> ((2 : Int32).toUInt32 &&& Int32.toUInt32 31)).toInt32).toUInt32 >>> ((1 : Int32).toUInt32 &&& Int32.toUInt32 31)).toInt32), h)
          )
        ) fun j10 =>
        if x5 ≤ (16 : Int32) then (
          j10 x5 x6
        ) else (
          j10 ((x5.toUInt32 >>> ((4 : Int32).toUInt32 &&& Int32.toUInt32 31)).toInt32) (x6 + (4 : Int32))
        )
      ) fun j7 =>
      if x2 ≤ (256 : Int32) then (
        j7 x2 x3
      ) else (
        j7 ((x2.toUInt32 >>> ((8 : Int32).toUInt32 &&& Int32.toUInt32 31)).toInt32) (x3 + (8 : Int32))
      )
    ) fun j4 =>
    if ((p0 ^^^ (-1 : Int32)) &&& (p0 - (1 : Int32))) ≤ (65536 : Int32) then (
      j4 ((p0 ^^^ (-1 : Int32)) &&& (p0 - (1 : Int32))) (1 : Int32)
    ) else (
      j4 ((((p0 ^^^ (-1 : Int32)) &&& (p0 - (1 : Int32))).toUInt32 >>> ((16 : Int32).toUInt32 &&& Int32.toUInt32 31)).toInt32) ((1 : Int32) + (16 : Int32))
    )
  ) else (
    some (((p0 ^^^ (-1 : Int32)) &&& (p0 - (1 : Int32))) &&& (32 : Int32), h)
  )
def F_X0_pairs_L28 (n : Nat) (K : Nat → Nat) (rec : Nat → Int32 → AH → Option (Int64 × AH)) (y8 : Int32) (y9 : Int32) (y10 : Nat) : Nat → Int32 → Int64 → Int64 → AH → Option (Int64 × AH)
  | 0, _, _, _, _ => none
  | f + 1, x5, x6, x7, h =>
    if (8 : Int32) ≤ x5 then (
      some (x7, h)
    ) else (
      if ¬ ((y8 >>> (x5 &&& 31)) &&& (1 : Int32)) = 0 then (
        chk (h.kind y10 = 1) <|
        ob (h.R y10 26) fun a14 =>
        chk (h.kind a14 = 35) <|
        chk (inb y9 (h.len a14)) <|
        ob (h.R a14 (ix y9)) fun a17 =>
        chk (h.kind a17 = 32) <|
        chk (inb x5 (h.len a17)) <|
        if (h.I a17 (ix x5)) = 0 then (
          F_X0_pairs_L28 n K rec y8 y9 y10 f (x5 + (1 : Int32)) (-x6) x7 h
        ) else (
          ob (h.R y10 26) fun a21 =>
          chk (h.kind a21 = 35) <|
          chk (inb y9 (h.len a21)) <|
          ob (h.R a21 (ix y9)) fun a24 =>
          chk (h.kind a24 = 32) <|
          chk (inb x5 (h.len a24)) <|
          bnd (rec y10 (y8 &&& (((1 : Int32) <<< (x5 &&& 31)) ^^^ (-1 : Int32))) h) fun r27 h28 =>
          F_X0_pairs_L28 n K rec y8 y9 y10 f (x5 + (1 : Int32)) (-x6) (x7 + ((x6 * ((h.I a24 (ix x5)).toInt64)) * r27)) h28
        )
      ) else (
        F_X0_pairs_L28 n K rec y8 y9 y10 f (x5 + (1 : Int32)) x6 x7 h
      )
    )
def F_X0_pairs_B (n : Nat) (K : Nat → Nat) (rec : Nat → Int32 → AH → Option (Int64 × AH)) (p0 : Nat) (p1 : Int32) (h : AH) : Option (Int64 × AH) :=
  if ¬ p1 = 0 then (
    bnd (F_J15_numberOfTrailingZeros n K p1 h) fun r2 h3 =>
    F_X0_pairs_L28 n K rec (p1 &&& (p1 - (1 : Int32))) r2 p0 n (r2 + (1 : Int32)) (1 : Int64) (0 : Int64) h3
  ) else (
    some ((1 : Int64), h)
  )
def F_X0_pairs (n : Nat) (K : Nat → Nat) : Nat → Nat → Int32 → AH → Option (Int64 × AH)
  | 0, _, _, _ => none
  | dd + 1, p0, p1, h => F_X0_pairs_B n K (F_X0_pairs n K dd) p0 p1 h
def F_X0_hasShares_L14 (n : Nat) (K : Nat → Nat) (y7 : Nat) (y8 : Int32) : Nat → Int32 → Int32 → Int32 → Int64 → Int64 → AH → (Int32 → Int32 → Int64 → AH → Option (Int32 × AH)) → Option (Int32 × AH)
  | 0, _, _, _, _, _, _, _ => none
  | f + 1, x2, x3, x4, x5, x6, h, k =>
    if (8 : Int32) ≤ x2 then (
      k x3 x4 x5 h
    ) else (
      chk (h.kind y7 = 1) <|
      ob (h.R y7 28) fun a11 =>
      chk (h.kind a11 = 33) <|
      chk (inb x2 (h.len a11)) <|
      hl (h.setL a11 (ix x2) (0 : Int64)) fun h14 =>
      if ¬ ((y8 >>> (x2 &&& 31)) &&& (1 : Int32)) = 0 then (
        bnd (F_X0_pairs n K 8 y7 (y8 &&& (((1 : Int32) <<< (x2 &&& 31)) ^^^ (-1 : Int32))) h14) fun r17 h18 =>
        ob (h14.R y7 28) fun a19 =>
        chk (h18.kind a19 = 33) <|
        chk (inb x2 (h18.len a19)) <|
        hl (h18.setL a19 (ix x2) (x6 * r17)) fun h22 =>
        chk (h22.kind y7 = 1) <|
        ob (h22.R y7 28) fun a25 =>
        chk (h22.kind a25 = 33) <|
        chk (inb x2 (h22.len a25)) <|
        jn (α := Int32 → Option (Int32 × AH)) (fun x28 =>
          ob (h22.R y7 28) fun a30 =>
          chk (h22.kind a30 = 33) <|
          chk (inb x2 (h22.len a30)) <|
          jn (α := Int32 → Option (Int32 × AH)) (fun x33 =>
            ob (h22.R y7 28) fun a35 =>
            chk (h22.kind a35 = 33) <|
            chk (inb x2 (h22.len a35)) <|
            bnd (F_X0_common n K x5 (h22.L a35 (ix x2)) h22) fun r38 h39 =>
            F_X0_hasShares_L14 n K y7 y8 f (x2 + (1 : Int32)) (x3 + x33) (x4 + x28) r38 (-x6) h39 k
          ) fun j34 =>
          if 0 ≤ (lg_cmp (h22.L a30 (ix x2)) (0 : Int64)) then (
            j34 (0 : Int32)
          ) else (
            j34 (1 : Int32)
          )
        ) fun j29 =>
        if (lg_cmp (h22.L a25 (ix x2)) (0 : Int64)) ≤ 0 then (
          j29 (0 : Int32)
        ) else (
          j29 (1 : Int32)
        )
      ) else (
        F_X0_hasShares_L14 n K y7 y8 f (x2 + (1 : Int32)) x3 x4 x5 x6 h14 k
      )
    )
def F_X0_hasShares_L152 (n : Nat) (K : Nat → Nat) (y54 : Int64) (y55 : Nat) : Nat → Int32 → AH → Option (Int32 × AH)
  | 0, _, _ => none
  | f + 1, x53, h =>
    if (8 : Int32) ≤ x53 then (
      some ((1 : Int32), h)
    ) else (
      chk (h.kind y55 = 1) <|
      ob (h.R y55 28) fun a58 =>
      chk (h.kind a58 = 33) <|
      chk (inb x53 (h.len a58)) <|
      chk (¬ y54 = 0) <|
      chk (inb x53 (h.len a58)) <|
      hl (h.setL a58 (ix x53) ((if 0 < (h.L a58 (ix x53)) then (h.L a58 (ix x53)) else -(h.L a58 (ix x53))) / y54)) fun h63 =>
      F_X0_hasShares_L152 n K y54 y55 f (x53 + (1 : Int32)) h63
    )
def F_X0_hasShares (n : Nat) (K : Nat → Nat) (p0 : Nat) (p1 : Int32) (h : AH) : Option (Int32 × AH) :=
  F_X0_hasShares_L14 n K p0 p1 n (0 : Int32) (0 : Int32) (0 : Int32) (0 : Int64) (1 : Int64) h fun x44 x45 x46 h47 =>
  bnd (F_J15_bitCount n K p1 h47) fun r48 h49 =>
  jn (α := AH → Option (Int32 × AH)) (fun h50 =>
    F_X0_hasShares_L152 n K x46 p0 n (0 : Int32) h50
  ) fun j51 =>
  if x45 = r48 then (
    j51 h49
  ) else (
    bnd (F_J15_bitCount n K p1 h49) fun r67 h68 =>
    if x44 = r67 then (
      j51 h68
    ) else (
      some ((0 : Int32), h68)
    )
  )
def F_X0_isLots_L23 (n : Nat) (K : Nat → Nat) (y13 : Int32) (y14 : Nat) (y15 : Int32) (h : AH) : Nat → Int32 → Int64 → (Int64 → Option (Int32 × AH)) → Option (Int32 × AH)
  | 0, _, _, _ => none
  | f + 1, x11, x12, k =>
    if y15 ≤ x11 then (
      k x12
    ) else (
      chk (h.kind y14 = 1) <|
      ob (h.R y14 28) fun a18 =>
      chk (h.kind a18 = 33) <|
      chk (inb x11 (h.len a18)) <|
      ob (h.R y14 26) fun a21 =>
      chk (h.kind a21 = 35) <|
      chk (inb y13 (h.len a21)) <|
      ob (h.R a21 (ix y13)) fun a24 =>
      chk (h.kind a24 = 32) <|
      chk (inb x11 (h.len a24)) <|
      F_X0_isLots_L23 n K y13 y14 y15 h f (x11 + (1 : Int32)) (x12 + ((h.L a18 (ix x11)) * ((h.I a24 (ix x11)).toInt64))) k
    )
def F_X0_isLots_L12 (n : Nat) (K : Nat → Nat) (y7 : Nat) (y8 : Int32) (h : AH) : Nat → Int32 → Option (Int32 × AH)
  | 0, _ => none
  | f + 1, x6 =>
    if y8 ≤ x6 then (
      some ((1 : Int32), h)
    ) else (
      F_X0_isLots_L23 n K x6 y7 y8 h n (0 : Int32) (0 : Int64) fun x27 =>
      if (lg_cmp x27 (0 : Int64)) ≤ 0 then (
        F_X0_isLots_L12 n K y7 y8 h f (x6 + (1 : Int32))
      ) else (
        some ((0 : Int32), h)
      )
    )
def F_X0_isLots (n : Nat) (K : Nat → Nat) (p0 : Nat) (p1 : Int32) (p2 : Int32) (h : AH) : Option (Int32 × AH) :=
  chk (h.kind p0 = 1) <|
  bnd (F_X0_hasShares n K p0 p1 h) fun r1 h2 =>
  if ¬ r1 = 0 then (
    F_X0_isLots_L12 n K p0 p2 h2 n (0 : Int32)
  ) else (
    some ((0 : Int32), h2)
  )
def F_X0_findLots_L14 (n : Nat) (K : Nat → Nat) (y11 : Int32) (y12 : Int32) (y13 : Nat) : Nat → Int32 → AH → (AH → Option (Int32 × AH)) → Option (Int32 × AH)
  | 0, _, _, _ => none
  | f + 1, x10, h, k =>
    if ((1 : Int32) <<< (y12 &&& 31)) ≤ x10 then (
      k h
    ) else (
      bnd (F_J15_bitCount n K x10 h) fun r15 h16 =>
      if ¬ r15 = y11 then (
        F_X0_findLots_L14 n K y11 y12 y13 f (x10 + (1 : Int32)) h16 k
      ) else (
        chk (h16.kind y13 = 1) <|
        bnd (F_X0_isLots n K y13 x10 y12 h16) fun r18 h19 =>
        if r18 = 0 then (
          F_X0_findLots_L14 n K y11 y12 y13 f (x10 + (1 : Int32)) h19 k
        ) else (
          some ((1 : Int32), h19)
        )
      )
    )
def F_X0_findLots_L7 (n : Nat) (K : Nat → Nat) (y6 : Int32) (y7 : Nat) : Nat → Int32 → AH → Option (Int32 × AH)
  | 0, _, _ => none
  | f + 1, x5, h =>
    if y6 < x5 then (
      some ((0 : Int32), h)
    ) else (
      F_X0_findLots_L14 n K x5 y6 y7 n (1 : Int32) h fun h22 =>
      F_X0_findLots_L7 n K y6 y7 f (x5 + (2 : Int32)) h22
    )
def F_X0_findLots (n : Nat) (K : Nat → Nat) (p0 : Nat) (h : AH) : Option (Int32 × AH) :=
  chk (h.kind p0 = 1) <|
  bnd (F_X0_gains n K p0 h) fun r1 h2 =>
  F_X0_findLots_L7 n K r1 p0 n (1 : Int32) h2
def F_X0_lot_L36 (n : Nat) (K : Nat → Nat) (y16 : Nat) (y17 : Int32) (h : AH) : Nat → Int32 → Int64 → Option (Int32 × AH)
  | 0, _, _ => none
  | f + 1, x14, x15 =>
    if (8 : Int32) ≤ x14 then (
      if ¬ y17 = (-1 : Int32) then (
        chk (h.kind y16 = 1) <|
        ob (h.R y16 28) fun a21 =>
        chk (h.kind a21 = 33) <|
        chk (inb y17 (h.len a21)) <|
        some ((h.L a21 (ix y17)).toInt32, h)
      ) else (
        some (x15.toInt32, h)
      )
    ) else (
      chk (h.kind y16 = 1) <|
      ob (h.R y16 28) fun a25 =>
      chk (h.kind a25 = 33) <|
      chk (inb x14 (h.len a25)) <|
      F_X0_lot_L36 n K y16 y17 h f (x14 + (1 : Int32)) (x15 + (h.L a25 (ix x14)))
    )
def F_X0_lot (n : Nat) (K : Nat → Nat) (p0 : Nat) (p1 : Int32) (h : AH) : Option (Int32 × AH) :=
  chk (h.kind p0 = 1) <|
  ob (h.R p0 3) fun a2 =>
  chk (h.kind a2 = 3) <|
  bnd (F_J2_size n K a2 h) fun r3 h4 =>
  bnd (F_X0_in n K p1 (-1 : Int32) ((if r3 < (8 : Int32) then r3 else (8 : Int32)) - (1 : Int32)) h4) fun r6 h7 =>
  if r6 = 0 then (
    some ((-1 : Int32), h7)
  ) else (
    chk (h7.kind p0 = 1) <|
    bnd (F_X0_findLots n K p0 h7) fun r9 h10 =>
    if ¬ r9 = 0 then (
      F_X0_lot_L36 n K p0 p1 h10 n (0 : Int32) (0 : Int64)
    ) else (
      some ((-1 : Int32), h10)
    )
  )
def F_X0_needOf_L4 (n : Nat) (K : Nat → Nat) (y4 : Nat) (y5 : Int32) : Nat → Int32 → Int32 → AH → Option (Int32 × AH)
  | 0, _, _, _ => none
  | f + 1, x2, x3, h =>
    chk (h.kind y4 = 1) <|
    ob (h.R y4 3) fun a7 =>
    chk (h.kind a7 = 3) <|
    bnd (F_J2_size n K a7 h) fun r8 h9 =>
    if r8 ≤ x2 then (
      some (x3, h9)
    ) else (
      if x2 = y5 then (
        F_X0_needOf_L4 n K y4 y5 f (x2 + (1 : Int32)) x3 h9
      ) else (
        chk (h9.kind y4 = 1) <|
        ob (h9.R y4 3) fun a14 =>
        chk (h9.kind a14 = 3) <|
        bnd (F_J2_get n K a14 x2 h9) fun r15 h16 =>
        ob r15 fun a18 =>
        chk (h16.kind a18 = 11) <|
        chk (h16.kind y4 = 1) <|
        ob (h16.R y4 3) fun a21 =>
        chk (h16.kind a21 = 3) <|
        bnd (F_J2_get n K a21 y5 h16) fun r22 h23 =>
        ob r22 fun a25 =>
        chk (h23.kind a25 = 11) <|
        chk (h23.kind y4 = 1) <|
        bnd (F_X0_votesOf n K y4 (some a18) (some a25) h23) fun r27 h28 =>
        F_X0_needOf_L4 n K y4 y5 f (x2 + (1 : Int32)) (if x3 < r27 then r27 else x3) h28
      )
    )
def F_X0_needOf (n : Nat) (K : Nat → Nat) (p0 : Nat) (p1 : Int32) (h : AH) : Option (Int32 × AH) :=
  F_X0_needOf_L4 n K p0 p1 n (0 : Int32) (0 : Int32) h
def F_X0_need_L41 (n : Nat) (K : Nat → Nat) (y13 : Nat) : Nat → Int32 → Int32 → AH → Option (Int32 × AH)
  | 0, _, _, _ => none
  | f + 1, x11, x12, h =>
    chk (h.kind y13 = 1) <|
    ob (h.R y13 3) fun a15 =>
    chk (h.kind a15 = 3) <|
    bnd (F_J2_size n K a15 h) fun r16 h17 =>
    if r16 ≤ x11 then (
      some (x12, h17)
    ) else (
      chk (h17.kind y13 = 1) <|
      bnd (F_X0_needOf n K y13 x11 h17) fun r20 h21 =>
      chk (h21.kind y13 = 1) <|
      bnd (F_X0_needOf n K y13 x12 h21) fun r23 h24 =>
      if r23 ≤ r20 then (
        F_X0_need_L41 n K y13 f (x11 + (1 : Int32)) x12 h24
      ) else (
        F_X0_need_L41 n K y13 f (x11 + (1 : Int32)) x11 h24
      )
    )
def F_X0_need (n : Nat) (K : Nat → Nat) (p0 : Nat) (p1 : Int32) (h : AH) : Option (Int32 × AH) :=
  chk (h.kind p0 = 1) <|
  ob (h.R p0 3) fun a2 =>
  chk (h.kind a2 = 3) <|
  bnd (F_J2_size n K a2 h) fun r3 h4 =>
  if r3 < (2 : Int32) then (
    some ((-1 : Int32), h4)
  ) else (
    jn (α := AH → Option (Int32 × AH)) (fun h7 =>
      if p1 = (-1 : Int32) then (
        F_X0_need_L41 n K p0 n (1 : Int32) (0 : Int32) h7
      ) else (
        chk (h7.kind p0 = 1) <|
        bnd (F_X0_needOf n K p0 p1 h7) fun r27 h28 =>
        some (r27, h28)
      )
    ) fun j8 =>
    if p1 = (-1 : Int32) then (
      j8 h4
    ) else (
      chk (h4.kind p0 = 1) <|
      bnd (F_X0_placeAt n K p0 p1 h4) fun r32 h33 =>
      oc r32 (
        some ((-1 : Int32), h33)
      ) fun a35 =>
      j8 h33
    )
  )
def F_X0_most_L25 (n : Nat) (K : Nat → Nat) (y13 : Nat) (y14 : Int32) (y15 : Int32) : Nat → Int32 → Int32 → AH → Option (Int32 × AH)
  | 0, _, _, _ => none
  | f + 1, x11, x12, h =>
    if (10000 : Int32) ≤ x11 then (
      some (x12, h)
    ) else (
      chk (h.kind y13 = 1) <|
      bnd (F_X0_votesFor n K y13 (x11 / (100 : Int32)) (x11 - x11 / (100 : Int32) * (100 : Int32)) y14 y15 h) fun r17 h18 =>
      F_X0_most_L25 n K y13 y14 y15 f (x11 + (1 : Int32)) (if x12 < r17 then r17 else x12) h18
    )
def F_X0_most (n : Nat) (K : Nat → Nat) (p0 : Nat) (p1 : Int32) (p2 : Int32) (h : AH) : Option (Int32 × AH) :=
  chk (h.kind p0 = 1) <|
  ob (h.R p0 2) fun a2 =>
  chk (h.kind a2 = 3) <|
  bnd (F_J2_isEmpty n K a2 h) fun r3 h4 =>
  if ¬ r3 = 0 then (
    some ((-1 : Int32), h4)
  ) else (
    bnd (F_X0_isPoint n K p1 p2 h4) fun r7 h8 =>
    if ¬ r7 = 0 then (
      F_X0_most_L25 n K p0 p1 p2 n (0 : Int32) (0 : Int32) h8
    ) else (
      some ((-1 : Int32), h8)
    )
  )
def F_X0_isUnbeaten_L2 (n : Nat) (K : Nat → Nat) (y3 : Nat) (y4 : Int32) : Nat → Int32 → AH → Option (Int32 × AH)
  | 0, _, _ => none
  | f + 1, x2, h =>
    chk (h.kind y3 = 1) <|
    ob (h.R y3 3) fun a6 =>
    chk (h.kind a6 = 3) <|
    bnd (F_J2_size n K a6 h) fun r7 h8 =>
    if r7 ≤ x2 then (
      some ((1 : Int32), h8)
    ) else (
      if x2 = y4 then (
        F_X0_isUnbeaten_L2 n K y3 y4 f (x2 + (1 : Int32)) h8
      ) else (
        chk (h8.kind y3 = 1) <|
        ob (h8.R y3 3) fun a13 =>
        chk (h8.kind a13 = 3) <|
        bnd (F_J2_get n K a13 x2 h8) fun r14 h15 =>
        ob r14 fun a17 =>
        chk (h15.kind a17 = 11) <|
        chk (h15.kind y3 = 1) <|
        ob (h15.R y3 3) fun a20 =>
        chk (h15.kind a20 = 3) <|
        bnd (F_J2_get n K a20 y4 h15) fun r21 h22 =>
        ob r21 fun a24 =>
        chk (h22.kind a24 = 11) <|
        chk (h22.kind y3 = 1) <|
        bnd (F_X0_above n K y3 (some a17) (some a24) h22) fun r26 h27 =>
        if r26 = 0 then (
          F_X0_isUnbeaten_L2 n K y3 y4 f (x2 + (1 : Int32)) h27
        ) else (
          some ((0 : Int32), h27)
        )
      )
    )
def F_X0_isUnbeaten (n : Nat) (K : Nat → Nat) (p0 : Nat) (p1 : Int32) (h : AH) : Option (Int32 × AH) :=
  F_X0_isUnbeaten_L2 n K p0 p1 n (0 : Int32) h
def F_X0_peace_L2 (n : Nat) (K : Nat → Nat) (y3 : Nat) : Nat → Int32 → AH → Option (Int32 × AH)
  | 0, _, _ => none
  | f + 1, x2, h =>
    chk (h.kind y3 = 1) <|
    ob (h.R y3 3) fun a5 =>
    chk (h.kind a5 = 3) <|
    bnd (F_J2_size n K a5 h) fun r6 h7 =>
    if r6 ≤ x2 then (
      some ((-1 : Int32), h7)
    ) else (
      chk (h7.kind y3 = 1) <|
      bnd (F_X0_isUnbeaten n K y3 x2 h7) fun r10 h11 =>
      if r10 = 0 then (
        F_X0_peace_L2 n K y3 f (x2 + (1 : Int32)) h11
      ) else (
        some (x2, h11)
      )
    )
def F_X0_peace (n : Nat) (K : Nat → Nat) (p0 : Nat) (h : AH) : Option (Int32 × AH) :=
  F_X0_peace_L2 n K p0 n (0 : Int32) h
def F_X5_far (n : Nat) (K : Nat → Nat) (p0 : Nat) (p1 : Int32) (p2 : Int32) (h : AH) : Option (Int32 × AH) :=
  chk (7 ≤ h.kind p0 ∧ h.kind p0 ≤ 10) <|
  some (((p1 - (h.I p0 3)) * (p1 - (h.I p0 3))) + ((p2 - (h.I p0 4)) * (p2 - (h.I p0 4))), h)
def F_X0_make_L64 (n : Nat) (K : Nat → Nat) (y29 : Int32) (y30 : Int32) (y31 : Nat) (y32 : Int32) (y36 : Nat) (y37 : Int32) : Nat → Int32 → Int32 → Int32 → Int32 → AH → (Int32 → Int32 → Int32 → AH → Option (Int32 × AH)) → Option (Int32 × AH)
  | 0, _, _, _, _, _, _ => none
  | f + 1, x28, x33, x34, x35, h, k =>
    chk (h.kind y36 = 1) <|
    ob (h.R y36 3) fun a39 =>
    chk (h.kind a39 = 3) <|
    bnd (F_J2_size n K a39 h) fun r40 h41 =>
    if r40 ≤ x28 then (
      k x33 x34 x35 h41
    ) else (
      chk (7 ≤ h41.kind y31 ∧ h41.kind y31 ≤ 10) <|
      chk (h41.kind y36 = 1) <|
      ob (h41.R y36 3) fun a46 =>
      chk (h41.kind a46 = 3) <|
      bnd (F_J2_get n K a46 x28 h41) fun r47 h48 =>
      ob r47 fun a50 =>
      chk (h48.kind a50 = 11) <|
      chk (h48.kind y36 = 1) <|
      ob (h48.R y36 3) fun a53 =>
      chk (h48.kind a53 = 3) <|
      bnd (F_J2_get n K a53 x28 h48) fun r54 h55 =>
      ob r54 fun a57 =>
      chk (h55.kind a57 = 11) <|
      chk (7 ≤ h55.kind y31 ∧ h55.kind y31 ≤ 10) <|
      bnd (F_X5_far n K y31 (h48.I a50 0) (h55.I a57 1) h55) fun r59 h60 =>
      jn (α := Option (Int32 × AH)) (
        chk (h60.kind y36 = 1) <|
        ob (h60.R y36 3) fun a64 =>
        chk (h60.kind a64 = 3) <|
        bnd (F_J2_get n K a64 x28 h60) fun r65 h66 =>
        ob r65 fun a68 =>
        chk (h66.kind a68 = 11) <|
        chk (7 ≤ h66.kind y31 ∧ h66.kind y31 ≤ 10) <|
        hl (h66.setI y31 3 (h66.I a68 0)) fun h71 =>
        chk (h71.kind y36 = 1) <|
        ob (h71.R y36 3) fun a74 =>
        chk (h71.kind a74 = 3) <|
        bnd (F_J2_get n K a74 x28 h71) fun r75 h76 =>
        ob r75 fun a78 =>
        chk (h76.kind a78 = 11) <|
        chk (7 ≤ h76.kind y31 ∧ h76.kind y31 ≤ 10) <|
        hl (h76.setI y31 4 (h76.I a78 1)) fun h81 =>
        chk (h81.kind y36 = 1) <|
        bnd (F_X0_peace n K y36 h81) fun r83 h84 =>
        jn (α := Int32 → Option (Int32 × AH)) (fun x86 =>
          chk (7 ≤ h84.kind y31 ∧ h84.kind y31 ≤ 10) <|
          hl (h84.setI y31 3 y30) fun h89 =>
          hl (h89.setI y31 4 y29) fun h91 =>
          if ¬ x86 = 0 then (
            F_X0_make_L64 n K y29 y30 y31 y32 y36 y37 f (x28 + (1 : Int32)) ((h41.I y31 0) * r59) x28 y32 h91 k
          ) else (
            F_X0_make_L64 n K y29 y30 y31 y32 y36 y37 f (x28 + (1 : Int32)) x33 x34 x35 h91 k
          )
        ) fun j87 =>
        if r83 = (-1 : Int32) then (
          j87 (0 : Int32)
        ) else (
          j87 (1 : Int32)
        )
      ) fun j62 =>
      if x35 = (-1 : Int32) then (
        j62
      ) else (
        if ((h41.I y31 0) * r59) < x33 then (
          j62
        ) else (
          F_X0_make_L64 n K y29 y30 y31 y32 y36 y37 f (x28 + (1 : Int32)) x33 x34 x35 h60 k
        )
      )
    )
def F_X0_make_L21 (n : Nat) (K : Nat → Nat) (y9 : Nat) (y10 : Int32) : Nat → Int32 → Int32 → Int32 → Int32 → AH → Option (Int32 × AH)
  | 0, _, _, _, _, _ => none
  | f + 1, x5, x6, x7, x8, h =>
    chk (h.kind y9 = 1) <|
    ob (h.R y9 2) fun a12 =>
    chk (h.kind a12 = 3) <|
    bnd (F_J2_size n K a12 h) fun r13 h14 =>
    if r13 ≤ x5 then (
      if ¬ x8 = (-1 : Int32) then (
        if ¬ y10 = 0 then (
          if ¬ y10 = (1 : Int32) then (
            some (x6, h14)
          ) else (
            some (x7, h14)
          )
        ) else (
          some (x8, h14)
        )
      ) else (
        some ((-1 : Int32), h14)
      )
    ) else (
      chk (h14.kind y9 = 1) <|
      ob (h14.R y9 2) fun a21 =>
      chk (h14.kind a21 = 3) <|
      bnd (F_J2_get n K a21 x5 h14) fun r22 h23 =>
      ob r22 fun a25 =>
      chk (7 ≤ h23.kind a25 ∧ h23.kind a25 ≤ 10) <|
      F_X0_make_L64 n K (h23.I a25 4) (h23.I a25 3) a25 x5 y9 y10 n (0 : Int32) x6 x7 x8 h23 fun x99 x100 x101 h102 =>
      F_X0_make_L21 n K y9 y10 f (x5 + (1 : Int32)) x99 x100 x101 h102
    )
def F_X0_make (n : Nat) (K : Nat → Nat) (p0 : Nat) (p1 : Int32) (h : AH) : Option (Int32 × AH) :=
  bnd (F_X0_in n K p1 (0 : Int32) (2 : Int32) h) fun r1 h2 =>
  if ¬ r1 = 0 then (
    F_X0_make_L21 n K p0 p1 n (0 : Int32) (0 : Int32) (-1 : Int32) (-1 : Int32) h2
  ) else (
    some ((-1 : Int32), h2)
  )
def F_X0_join_L38 (n : Nat) (K : Nat → Nat) (y18 : Nat) (y19 : Nat) (y20 : Int32) (y21 : Nat) (y22 : Nat) (y23 : Int32) : Nat → Int32 → AH → (AH → Option (Int32 × AH)) → Option (Int32 × AH)
  | 0, _, _, _ => none
  | f + 1, x17, h, k =>
    if y20 ≤ x17 then (
      k h
    ) else (
      chk (h.kind y22 = 1) <|
      ob (h.R y22 2) fun a26 =>
      chk (h.kind a26 = 3) <|
      bnd (F_J2_get n K a26 x17 h) fun r27 h28 =>
      ob r27 fun a30 =>
      chk (7 ≤ h28.kind a30 ∧ h28.kind a30 ≤ 10) <|
      chk (h28.kind y19 = 32) <|
      chk (inb x17 (h28.len y19)) <|
      hl (h28.setI y19 (ix x17) (h28.I a30 3)) fun h34 =>
      chk (h34.kind y22 = 1) <|
      ob (h34.R y22 2) fun a37 =>
      chk (h34.kind a37 = 3) <|
      bnd (F_J2_get n K a37 x17 h34) fun r38 h39 =>
      ob r38 fun a41 =>
      chk (7 ≤ h39.kind a41 ∧ h39.kind a41 ≤ 10) <|
      chk (h39.kind y18 = 32) <|
      chk (inb x17 (h39.len y18)) <|
      hl (h39.setI y18 (ix x17) (h39.I a41 4)) fun h45 =>
      F_X0_join_L38 n K y18 y19 y20 y21 y22 y23 f (x17 + (1 : Int32)) h45 k
    )
def F_X0_join_L129 (n : Nat) (K : Nat → Nat) (y62 : Int32) (y63 : Int32) (y64 : Nat) (y65 : Nat) (y66 : Int32) (y67 : Nat) (y68 : Nat) (y69 : Int32) : Nat → Int32 → AH → (AH → Option (Int32 × AH)) → Option (Int32 × AH)
  | 0, _, _, _ => none
  | f + 1, x61, h, k =>
    if y66 ≤ x61 then (
      k h
    ) else (
      jn (α := Int32 → Option (Int32 × AH)) (fun x71 =>
        chk (h.kind y68 = 1) <|
        ob (h.R y68 2) fun a74 =>
        chk (h.kind a74 = 3) <|
        bnd (F_J2_get n K a74 x61 h) fun r75 h76 =>
        ob r75 fun a78 =>
        chk (7 ≤ h76.kind a78 ∧ h76.kind a78 ≤ 10) <|
        jn (α := Int32 → Option (Int32 × AH)) (fun x80 =>
          hl (h76.setI a78 3 x80) fun h82 =>
          chk (h82.kind y68 = 1) <|
          ob (h82.R y68 2) fun a85 =>
          chk (h82.kind a85 = 3) <|
          bnd (F_J2_get n K a85 x61 h82) fun r86 h87 =>
          ob r86 fun a89 =>
          chk (7 ≤ h87.kind a89 ∧ h87.kind a89 ≤ 10) <|
          jn (α := Int32 → Option (Int32 × AH)) (fun x91 =>
            hl (h87.setI a89 4 x91) fun h93 =>
            F_X0_join_L129 n K y62 y63 y64 y65 y66 y67 y68 y69 f (x61 + (1 : Int32)) h93 k
          ) fun j92 =>
          if x71 = 0 then (
            chk (h87.kind y64 = 32) <|
            chk (inb x61 (h87.len y64)) <|
            j92 (h87.I y64 (ix x61))
          ) else (
            chk (h87.kind y67 = 11) <|
            j92 (h87.I y67 1)
          )
        ) fun j81 =>
        if x71 = 0 then (
          chk (h76.kind y65 = 32) <|
          chk (inb x61 (h76.len y65)) <|
          j81 (h76.I y65 (ix x61))
        ) else (
          chk (h76.kind y67 = 11) <|
          j81 (h76.I y67 0)
        )
      ) fun j72 =>
      if ¬ ((y62 >>> (x61 &&& 31)) &&& (1 : Int32)) = (1 : Int32) then (
        j72 (0 : Int32)
      ) else (
        j72 (1 : Int32)
      )
    )
def F_X0_join_L96 (n : Nat) (K : Nat → Nat) (y51 : Nat) (y52 : Nat) (y53 : Int32) (y54 : Nat) (y55 : Nat) (y56 : Int32) : Nat → Int32 → Int32 → AH → (Int32 → AH → Option (Int32 × AH)) → Option (Int32 × AH)
  | 0, _, _, _, _ => none
  | f + 1, x49, x50, h, k =>
    if ((1 : Int32) <<< (y53 &&& 31)) ≤ x49 then (
      k x50 h
    ) else (
      jn (α := AH → Option (Int32 × AH)) (fun h58 =>
        F_X0_join_L129 n K x49 x50 y51 y52 y53 y54 y55 y56 n (0 : Int32) h58 fun h107 =>
        chk (h107.kind y55 = 1) <|
        bnd (F_X0_isUnbeaten n K y55 y56 h107) fun r108 h109 =>
        if r108 = 0 then (
          F_X0_join_L96 n K y51 y52 y53 y54 y55 y56 f (x49 + (1 : Int32)) x50 h109 k
        ) else (
          F_X0_join_L96 n K y51 y52 y53 y54 y55 y56 f (x49 + (1 : Int32)) x49 h109 k
        )
      ) fun j59 =>
      if x50 = (-1 : Int32) then (
        j59 h
      ) else (
        bnd (F_J15_bitCount n K x49 h) fun r114 h115 =>
        bnd (F_J15_bitCount n K x50 h115) fun r116 h117 =>
        if r114 < r116 then (
          j59 h117
        ) else (
          F_X0_join_L96 n K y51 y52 y53 y54 y55 y56 f (x49 + (1 : Int32)) x50 h117 k
        )
      )
    )
def F_X0_join_L244 (n : Nat) (K : Nat → Nat) (y123 : Int32) (y124 : Nat) (y125 : Nat) (y126 : Int32) (y127 : Nat) : Nat → Int32 → AH → Option (Int32 × AH)
  | 0, _, _ => none
  | f + 1, x122, h =>
    if y126 ≤ x122 then (
      some (y123, h)
    ) else (
      chk (h.kind y127 = 1) <|
      ob (h.R y127 2) fun a130 =>
      chk (h.kind a130 = 3) <|
      bnd (F_J2_get n K a130 x122 h) fun r131 h132 =>
      ob r131 fun a134 =>
      chk (7 ≤ h132.kind a134 ∧ h132.kind a134 ≤ 10) <|
      chk (h132.kind y125 = 32) <|
      chk (inb x122 (h132.len y125)) <|
      hl (h132.setI a134 3 (h132.I y125 (ix x122))) fun h138 =>
      chk (h138.kind y127 = 1) <|
      ob (h138.R y127 2) fun a141 =>
      chk (h138.kind a141 = 3) <|
      bnd (F_J2_get n K a141 x122 h138) fun r142 h143 =>
      ob r142 fun a145 =>
      chk (7 ≤ h143.kind a145 ∧ h143.kind a145 ≤ 10) <|
      chk (h143.kind y124 = 32) <|
      chk (inb x122 (h143.len y124)) <|
      hl (h143.setI a145 4 (h143.I y124 (ix x122))) fun h149 =>
      F_X0_join_L244 n K y123 y124 y125 y126 y127 f (x122 + (1 : Int32)) h149
    )
def F_X0_join (n : Nat) (K : Nat → Nat) (p0 : Nat) (p1 : Int32) (h : AH) : Option (Int32 × AH) :=
  chk (h.kind p0 = 1) <|
  bnd (F_X0_placeAt n K p0 p1 h) fun r1 h2 =>
  oc r1 (
    some ((-1 : Int32), h2)
  ) fun a4 =>
  chk (h2.kind p0 = 1) <|
  ob (h2.R p0 2) fun a6 =>
  chk (h2.kind a6 = 3) <|
  bnd (F_J2_size n K a6 h2) fun r7 h8 =>
  chk (0 ≤ (if r7 < (9 : Int32) then r7 else (9 : Int32)).toInt ∧ (if r7 < (9 : Int32) then r7 else (9 : Int32)).toInt ≤ 60000000) <|
  hl (h8.new 32 (ix (if r7 < (9 : Int32) then r7 else (9 : Int32))) (ix (if r7 < (9 : Int32) then r7 else (9 : Int32)))) fun h11 =>
  chk (0 ≤ (if r7 < (9 : Int32) then r7 else (9 : Int32)).toInt ∧ (if r7 < (9 : Int32) then r7 else (9 : Int32)).toInt ≤ 60000000) <|
  hl (h11.new 32 (ix (if r7 < (9 : Int32) then r7 else (9 : Int32))) (ix (if r7 < (9 : Int32) then r7 else (9 : Int32)))) fun h14 =>
  F_X0_join_L38 n K h11.n h8.n (if r7 < (9 : Int32) then r7 else (9 : Int32)) a4 p0 p1 n (0 : Int32) h14 fun h47 =>
  F_X0_join_L96 n K h11.n h8.n (if r7 < (9 : Int32) then r7 else (9 : Int32)) a4 p0 p1 n (0 : Int32) (-1 : Int32) h47 fun x119 h120 =>
  F_X0_join_L244 n K x119 h11.n h8.n (if r7 < (9 : Int32) then r7 else (9 : Int32)) p0 n (0 : Int32) h120
def F_X0_surely_L49 (n : Nat) (K : Nat → Nat) (y19 : Int32) (y23 : Nat) (y24 : Int32) (y25 : Option Nat) (y26 : Option Nat) : Nat → Int32 → Int32 → Int32 → Int32 → AH → (Int32 → Int32 → Int32 → AH → Option (Int32 × AH)) → Option (Int32 × AH)
  | 0, _, _, _, _, _, _ => none
  | f + 1, x18, x20, x21, x22, h, k =>
    chk (7 ≤ h.kind y23 ∧ h.kind y23 ≤ 10) <|
    if (if ((h.I y23 4) + y24) < (99 : Int32) then ((h.I y23 4) + y24) else (99 : Int32)) < x18 then (
      k x20 x21 x22 h
    ) else (
      ob y26 fun a29 =>
      chk (h.kind a29 = 11) <|
      ob y26 fun a31 =>
      chk (h.kind a31 = 11) <|
      bnd (F_X5_wayFrom n K y23 y19 x18 (h.I a29 0) (h.I a31 1) h) fun r33 h34 =>
      ob y25 fun a35 =>
      chk (h34.kind a35 = 11) <|
      ob y25 fun a37 =>
      chk (h34.kind a37 = 11) <|
      chk (7 ≤ h34.kind y23 ∧ h34.kind y23 ≤ 10) <|
      bnd (F_X5_wayFrom n K y23 y19 x18 (h34.I a35 0) (h34.I a37 1) h34) fun r39 h40 =>
      jn (α := Int32 → Option (Int32 × AH)) (fun x42 =>
        if 0 ≤ (r33 - r39) then (
          F_X0_surely_L49 n K y19 y23 y24 y25 y26 f (x18 + (1 : Int32)) (x20 + (1 : Int32)) (x21 + (0 : Int32)) (x22 + x42) h40 k
        ) else (
          F_X0_surely_L49 n K y19 y23 y24 y25 y26 f (x18 + (1 : Int32)) (x20 + (1 : Int32)) (x21 + (1 : Int32)) (x22 + x42) h40 k
        )
      ) fun j43 =>
      if (r33 - r39) ≤ 0 then (
        j43 (0 : Int32)
      ) else (
        j43 (1 : Int32)
      )
    )
def F_X0_surely_L21 (n : Nat) (K : Nat → Nat) (y8 : Nat) (y9 : Int32) (y10 : Option Nat) (y11 : Option Nat) : Nat → Int32 → Int32 → Int32 → Int32 → AH → Option (Int32 × AH)
  | 0, _, _, _, _, _ => none
  | f + 1, x4, x5, x6, x7, h =>
    chk (7 ≤ h.kind y8 ∧ h.kind y8 ≤ 10) <|
    if (if ((h.I y8 3) + y9) < (99 : Int32) then ((h.I y8 3) + y9) else (99 : Int32)) < x4 then (
      if ¬ x7 = x5 then (
        if ¬ x6 = x5 then (
          if ¬ (x7 + x6) = 0 then (
            some ((1 : Int32), h)
          ) else (
            some ((0 : Int32), h)
          )
        ) else (
          some ((-2 : Int32), h)
        )
      ) else (
        some ((2 : Int32), h)
      )
    ) else (
      F_X0_surely_L49 n K x4 y8 y9 y10 y11 n (if (0 : Int32) < ((h.I y8 4) - y9) then ((h.I y8 4) - y9) else (0 : Int32)) x5 x6 x7 h fun x47 x48 x49 h50 =>
      F_X0_surely_L21 n K y8 y9 y10 y11 f (x4 + (1 : Int32)) x47 x48 x49 h50
    )
def F_X0_surely (n : Nat) (K : Nat → Nat) (p0 : Nat) (p1 : Option Nat) (p2 : Int32) (p3 : Option Nat) (p4 : Option Nat) (h : AH) : Option (Int32 × AH) :=
  ob p1 fun a1 =>
  chk (7 ≤ h.kind a1 ∧ h.kind a1 ≤ 10) <|
  F_X0_surely_L21 n K a1 p2 p3 p4 n (if (0 : Int32) < ((h.I a1 3) - p2) then ((h.I a1 3) - p2) else (0 : Int32)) (0 : Int32) (0 : Int32) (0 : Int32) h
def F_X0_doubt_L60 (n : Nat) (K : Nat → Nat) (y28 : Int32) (y29 : Int32) (y30 : Nat) (y31 : Nat) (y32 : Int32) (y33 : Int32) : Nat → Int32 → Int32 → Int32 → Int32 → AH → (Int32 → Int32 → Int32 → AH → Option (Int32 × AH)) → Option (Int32 × AH)
  | 0, _, _, _, _, _, _ => none
  | f + 1, x24, x25, x26, x27, h, k =>
    chk (h.kind y31 = 1) <|
    ob (h.R y31 2) fun a35 =>
    chk (h.kind a35 = 3) <|
    bnd (F_J2_size n K a35 h) fun r36 h37 =>
    if r36 ≤ x24 then (
      k x25 x26 x27 h37
    ) else (
      chk (h37.kind y31 = 1) <|
      ob (h37.R y31 2) fun a41 =>
      chk (h37.kind a41 = 3) <|
      bnd (F_J2_get n K a41 x24 h37) fun r42 h43 =>
      ob r42 fun a45 =>
      chk (7 ≤ h43.kind a45 ∧ h43.kind a45 ≤ 10) <|
      chk (h43.kind y31 = 1) <|
      ob (h43.R y31 3) fun a48 =>
      chk (h43.kind a48 = 3) <|
      bnd (F_J2_get n K a48 y28 h43) fun r49 h50 =>
      ob r49 fun a52 =>
      chk (h50.kind a52 = 11) <|
      chk (h50.kind y31 = 1) <|
      bnd (F_X0_surely n K y31 (some a45) y33 (some a52) (some y30) h50) fun r54 h55 =>
      jn (α := Int32 → Option (Int32 × AH)) (fun x57 =>
        jn (α := Int32 → Option (Int32 × AH)) (fun x59 =>
          if ¬ r54 = (-2 : Int32) then (
            F_X0_doubt_L60 n K y28 y29 y30 y31 y32 y33 f (x24 + (1 : Int32)) (x25 + (0 : Int32)) (x26 + x59) (x27 + x57) h55 k
          ) else (
            chk (7 ≤ h55.kind a45 ∧ h55.kind a45 ≤ 10) <|
            F_X0_doubt_L60 n K y28 y29 y30 y31 y32 y33 f (x24 + (1 : Int32)) (x25 + (h55.I a45 0)) (x26 + x59) (x27 + x57) h55 k
          )
        ) fun j60 =>
        if ¬ r54 = (1 : Int32) then (
          j60 (0 : Int32)
        ) else (
          chk (7 ≤ h55.kind a45 ∧ h55.kind a45 ≤ 10) <|
          j60 (h55.I a45 0)
        )
      ) fun j58 =>
      if ¬ r54 = (2 : Int32) then (
        j58 (0 : Int32)
      ) else (
        chk (7 ≤ h55.kind a45 ∧ h55.kind a45 ≤ 10) <|
        j58 (h55.I a45 0)
      )
    )
def F_X0_doubt_L27 (n : Nat) (K : Nat → Nat) (y11 : Nat) (y12 : Nat) (y13 : Int32) (y14 : Int32) : Nat → Int32 → Int32 → AH → Option (Int32 × AH)
  | 0, _, _, _ => none
  | f + 1, x9, x10, h =>
    chk (h.kind y12 = 1) <|
    ob (h.R y12 3) fun a16 =>
    chk (h.kind a16 = 3) <|
    bnd (F_J2_size n K a16 h) fun r17 h18 =>
    if r17 ≤ x9 then (
      if x10 = 0 then (
        some ((1 : Int32), h18)
      ) else (
        some ((2 : Int32), h18)
      )
    ) else (
      if ¬ x9 = y13 then (
        F_X0_doubt_L60 n K x9 x10 y11 y12 y13 y14 n (0 : Int32) (0 : Int32) (0 : Int32) (0 : Int32) h18 fun x69 x70 x71 h72 =>
        chk (h72.kind y12 = 1) <|
        ob (h72.R y12 5) fun a74 =>
        chk (h72.kind a74 = 4) <|
        bnd (F_X2_wins n K a74 x71 (x69 + x70) (h72.I y12 7) h72) fun r75 h76 =>
        if r75 = 0 then (
          if x10 = 0 then (
            F_X0_doubt_L27 n K y11 y12 y13 y14 f (x9 + (1 : Int32)) (0 : Int32) h76
          ) else (
            chk (h76.kind y12 = 1) <|
            ob (h76.R y12 5) fun a81 =>
            chk (h76.kind a81 = 4) <|
            bnd (F_X2_wins n K a81 (x71 + x70) x69 (h76.I y12 7) h76) fun r82 h83 =>
            if ¬ r82 = 0 then (
              F_X0_doubt_L27 n K y11 y12 y13 y14 f (x9 + (1 : Int32)) (0 : Int32) h83
            ) else (
              F_X0_doubt_L27 n K y11 y12 y13 y14 f (x9 + (1 : Int32)) (1 : Int32) h83
            )
          )
        ) else (
          some ((0 : Int32), h76)
        )
      ) else (
        F_X0_doubt_L27 n K y11 y12 y13 y14 f (x9 + (1 : Int32)) x10 h18
      )
    )
def F_X0_doubt (n : Nat) (K : Nat → Nat) (p0 : Nat) (p1 : Int32) (p2 : Int32) (h : AH) : Option (Int32 × AH) :=
  chk (h.kind p0 = 1) <|
  bnd (F_X0_placeAt n K p0 p1 h) fun r1 h2 =>
  oc r1 (
    some ((-1 : Int32), h2)
  ) fun a4 =>
  bnd (F_X0_in n K p2 (0 : Int32) (5 : Int32) h2) fun r5 h6 =>
  if ¬ r5 = 0 then (
    F_X0_doubt_L27 n K a4 p0 p1 p2 n (0 : Int32) (1 : Int32) h6
  ) else (
    some ((-1 : Int32), h6)
  )
def F_X0_pairMany_L17 (n : Nat) (K : Nat → Nat) (y13 : Int32) (y15 : Nat) : Nat → Int32 → Int32 → AH → (Int32 → AH → Option (Int32 × AH)) → Option (Int32 × AH)
  | 0, _, _, _, _ => none
  | f + 1, x12, x14, h, k =>
    chk (h.kind y15 = 1) <|
    ob (h.R y15 3) fun a17 =>
    chk (h.kind a17 = 3) <|
    bnd (F_J2_size n K a17 h) fun r18 h19 =>
    if r18 ≤ x12 then (
      k x14 h19
    ) else (
      if y13 = x12 then (
        F_X0_pairMany_L17 n K y13 y15 f (x12 + (1 : Int32)) (x14 + (0 : Int32)) h19 k
      ) else (
        chk (h19.kind y15 = 1) <|
        ob (h19.R y15 3) fun a24 =>
        chk (h19.kind a24 = 3) <|
        bnd (F_J2_get n K a24 y13 h19) fun r25 h26 =>
        ob r25 fun a28 =>
        chk (h26.kind a28 = 11) <|
        chk (h26.kind y15 = 1) <|
        ob (h26.R y15 3) fun a31 =>
        chk (h26.kind a31 = 3) <|
        bnd (F_J2_get n K a31 x12 h26) fun r32 h33 =>
        ob r32 fun a35 =>
        chk (h33.kind a35 = 11) <|
        chk (h33.kind y15 = 1) <|
        bnd (F_X0_above n K y15 (some a28) (some a35) h33) fun r37 h38 =>
        if r37 = 0 then (
          F_X0_pairMany_L17 n K y13 y15 f (x12 + (1 : Int32)) (x14 + (0 : Int32)) h38 k
        ) else (
          F_X0_pairMany_L17 n K y13 y15 f (x12 + (1 : Int32)) (x14 + (1 : Int32)) h38 k
        )
      )
    )
def F_X0_pairMany_L4 (n : Nat) (K : Nat → Nat) (y4 : Nat) : Nat → Int32 → Int32 → AH → Option (Int32 × AH)
  | 0, _, _, _ => none
  | f + 1, x2, x3, h =>
    chk (h.kind y4 = 1) <|
    ob (h.R y4 3) fun a6 =>
    chk (h.kind a6 = 3) <|
    bnd (F_J2_size n K a6 h) fun r7 h8 =>
    if r7 ≤ x2 then (
      some (x3, h8)
    ) else (
      F_X0_pairMany_L17 n K x2 y4 n (0 : Int32) x3 h8 fun x41 h42 =>
      F_X0_pairMany_L4 n K y4 f (x2 + (1 : Int32)) x41 h42
    )
def F_X0_pairMany (n : Nat) (K : Nat → Nat) (p0 : Nat) (h : AH) : Option (Int32 × AH) :=
  F_X0_pairMany_L4 n K p0 n (0 : Int32) (0 : Int32) h
def F_X13_init (n : Nat) (K : Nat → Nat) (p0 : Nat) (p1 : Int32) (p2 : Int32) (p3 : Int32) (p4 : Int32) (p5 : Int32) (p6 : Int32) (p7 : Int32) (h : AH) : Option (Unit × AH) :=
  chk (h.kind p0 = 14) <|
  hl (h.setI p0 0 p1) fun h2 =>
  hl (h2.setI p0 1 p2) fun h4 =>
  hl (h4.setI p0 2 p3) fun h6 =>
  hl (h6.setI p0 3 p4) fun h8 =>
  hl (h8.setI p0 4 p5) fun h10 =>
  hl (h10.setI p0 5 p6) fun h12 =>
  hl (h12.setI p0 6 p7) fun h14 =>
  some ((), h14)
def F_X0_puts (n : Nat) (K : Nat → Nat) (p0 : Nat) (p1 : Int32) (p2 : Int32) (p3 : Int32) (h : AH) : Option (Unit × AH) :=
  chk (h.kind p0 = 1) <|
  ob (h.R p0 2) fun a2 =>
  chk (h.kind a2 = 3) <|
  bnd (F_J2_get n K a2 p1 h) fun r3 h4 =>
  ob r3 fun a6 =>
  chk (7 ≤ h4.kind a6 ∧ h4.kind a6 ≤ 10) <|
  hl (h4.setI a6 3 p2) fun h8 =>
  chk (h8.kind p0 = 1) <|
  ob (h8.R p0 2) fun a11 =>
  chk (h8.kind a11 = 3) <|
  bnd (F_J2_get n K a11 p1 h8) fun r12 h13 =>
  ob r12 fun a15 =>
  chk (7 ≤ h13.kind a15 ∧ h13.kind a15 ≤ 10) <|
  hl (h13.setI a15 4 p3) fun h17 =>
  chk (h17.kind p0 = 1) <|
  bnd (F_X0_stale n K p0 h17) fun _ h20 =>
  some ((), h20)
def F_X0_move (n : Nat) (K : Nat → Nat) (p0 : Nat) (p1 : Int32) (p2 : Int32) (p3 : Int32) (h : AH) : Option (Int32 × AH) :=
  chk (h.kind p0 = 1) <|
  bnd (F_X0_voterAt n K p0 p1 h) fun r1 h2 =>
  oc r1 (
    some ((-1 : Int32), h2)
  ) fun a4 =>
  bnd (F_X0_isPoint n K p2 p3 h2) fun r5 h6 =>
  if r5 = 0 then (
    some ((-1 : Int32), h6)
  ) else (
    chk (7 ≤ h6.kind a4 ∧ h6.kind a4 ≤ 10) <|
    jn (α := Option (Int32 × AH)) (
      chk (h6.kind p0 = 1) <|
      ob (h6.R p0 4) fun a11 =>
      chk (h6.kind a11 = 3) <|
      bnd (F_J2_size n K a11 h6) fun r12 h13 =>
      if ¬ r12 = (40 : Int32) then (
        hl (h13.new 14 0 9) fun h16 =>
        chk (7 ≤ h16.kind a4 ∧ h16.kind a4 ≤ 10) <|
        chk (h16.kind p0 = 1) <|
        bnd (F_X0_pairMany n K p0 h16) fun r19 h20 =>
        chk (h20.kind p0 = 1) <|
        bnd (F_X0_peace n K p0 h20) fun r22 h23 =>
        bnd (F_X13_init n K h13.n p1 (h16.I a4 3) (h16.I a4 4) p2 p3 r19 r22 h23) fun _ h26 =>
        chk (h26.kind p0 = 1) <|
        bnd (F_X0_puts n K p0 p1 p2 p3 h26) fun _ h28 =>
        chk (h28.kind p0 = 1) <|
        bnd (F_X0_pairMany n K p0 h28) fun r30 h31 =>
        chk (h31.kind h13.n = 14) <|
        hl (h31.setI h13.n 7 r30) fun h34 =>
        chk (h34.kind p0 = 1) <|
        bnd (F_X0_peace n K p0 h34) fun r36 h37 =>
        chk (h37.kind h13.n = 14) <|
        hl (h37.setI h13.n 8 r36) fun h40 =>
        chk (h40.kind p0 = 1) <|
        ob (h40.R p0 4) fun a43 =>
        chk (h40.kind a43 = 3) <|
        bnd (F_J2_add n K a43 (some h13.n) h40) fun r44 h45 =>
        chk (h45.kind p0 = 1) <|
        ob (h45.R p0 4) fun a48 =>
        chk (h45.kind a48 = 3) <|
        bnd (F_J2_size n K a48 h45) fun r49 h50 =>
        some (r49, h50)
      ) else (
        some ((-1 : Int32), h13)
      )
    ) fun j9 =>
    if ¬ (h6.I a4 3) = p2 then (
      j9
    ) else (
      if (h6.I a4 4) = p3 then (
        some ((-1 : Int32), h6)
      ) else (
        j9
      )
    )
  )
def F_J2_fastRemove (n : Nat) (K : Nat → Nat) (p0 : Nat) (p1 : Option Nat) (p2 : Int32) (h : AH) : Option (Unit × AH) :=
  chk (h.kind p0 = 3) <|
  hl (h.setI p0 0 ((h.I p0 0) + (1 : Int32))) fun h2 =>
  jn (α := AH → Option (Unit × AH)) (fun h4 =>
    chk (h4.kind p0 = 3) <|
    hl (h4.setI p0 2 ((h2.I p0 2) - (1 : Int32))) fun h7 =>
    ob p1 fun a9 =>
    chk (h7.kind a9 = 34) <|
    chk (inb ((h2.I p0 2) - (1 : Int32)) (h7.len a9)) <|
    hl (h7.setR a9 (ix ((h2.I p0 2) - (1 : Int32))) none) fun h12 =>
    some ((), h12)
  ) fun j5 =>
  if ((h2.I p0 2) - (1 : Int32)) ≤ p2 then (
    j5 h2
  ) else (
    ob p1 fun a16 =>
    chk (h2.kind a16 = 34) <|
    chk ((0 ≤ (p2 + (1 : Int32)).toInt ∧ 0 ≤ p2.toInt ∧ 0 ≤ (((h2.I p0 2) - (1 : Int32)) - p2).toInt) ∧ ix (p2 + (1 : Int32)) + ix (((h2.I p0 2) - (1 : Int32)) - p2) ≤ h2.len a16 ∧ ix p2 + ix (((h2.I p0 2) - (1 : Int32)) - p2) ≤ h2.len a16) <|
    chk (∀ i, i < ix (((h2.I p0 2) - (1 : Int32)) - p2) → okE h2 (h2.R a16 (ix (p2 + (1 : Int32)) + i)) = true) <|
    hl (h2.cpyR a16 (ix (p2 + (1 : Int32))) a16 (ix p2) (ix (((h2.I p0 2) - (1 : Int32)) - p2))) fun h20 =>
    j5 h20
  )
def F_J2_remove (n : Nat) (K : Nat → Nat) (p0 : Nat) (p1 : Int32) (h : AH) : Option (Option Nat × AH) :=
  chk (h.kind p0 = 3) <|
  bnd (F_J14_checkIndex n K p1 (h.I p0 2) h) fun r2 h3 =>
  chk (h3.kind p0 = 3) <|
  ob (h3.R p0 1) fun a5 =>
  chk (h3.kind a5 = 34) <|
  chk (inb p1 (h3.len a5)) <|
  bnd (F_J2_fastRemove n K p0 (some a5) p1 h3) fun _ h9 =>
  some ((h3.R a5 (ix p1)), h9)
def F_X0_undo (n : Nat) (K : Nat → Nat) (p0 : Nat) (h : AH) : Option (Int32 × AH) :=
  chk (h.kind p0 = 1) <|
  ob (h.R p0 4) fun a2 =>
  chk (h.kind a2 = 3) <|
  bnd (F_J2_isEmpty n K a2 h) fun r3 h4 =>
  if r3 = 0 then (
    chk (h4.kind p0 = 1) <|
    ob (h4.R p0 4) fun a8 =>
    chk (h4.kind a8 = 3) <|
    bnd (F_J2_size n K a8 h4) fun r9 h10 =>
    chk (h10.kind a8 = 3) <|
    bnd (F_J2_remove n K a8 (r9 - (1 : Int32)) h10) fun r12 h13 =>
    ob r12 fun a15 =>
    chk (h13.kind a15 = 14) <|
    chk (h13.kind p0 = 1) <|
    bnd (F_X0_puts n K p0 (h13.I a15 0) (h13.I a15 1) (h13.I a15 2) h13) fun _ h18 =>
    chk (h18.kind a15 = 14) <|
    some (h18.I a15 0, h18)
  ) else (
    some ((-1 : Int32), h4)
  )
def F_X0_moved (n : Nat) (K : Nat → Nat) (p0 : Nat) (p1 : Int32) (p2 : Int32) (h : AH) : Option (Int32 × AH) :=
  chk (h.kind p0 = 1) <|
  ob (h.R p0 4) fun a2 =>
  chk (h.kind a2 = 3) <|
  bnd (F_J2_size n K a2 h) fun r3 h4 =>
  bnd (F_X0_in n K p1 (0 : Int32) (r3 - (1 : Int32)) h4) fun r6 h7 =>
  if ¬ r6 = 0 then (
    chk (h7.kind p0 = 1) <|
    ob (h7.R p0 4) fun a10 =>
    chk (h7.kind a10 = 3) <|
    bnd (F_J2_get n K a10 p1 h7) fun r11 h12 =>
    ob r11 fun a14 =>
    chk (h12.kind a14 = 14) <|
    if p2 = (0 : Int32) then (
      some (h12.I a14 0, h12)
    ) else
    if p2 = (1 : Int32) then (
      some (h12.I a14 1, h12)
    ) else
    if p2 = (2 : Int32) then (
      some (h12.I a14 2, h12)
    ) else
    if p2 = (3 : Int32) then (
      some (h12.I a14 3, h12)
    ) else
    if p2 = (4 : Int32) then (
      some (h12.I a14 4, h12)
    ) else
    if p2 = (5 : Int32) then (
      some (h12.I a14 5, h12)
    ) else
    if p2 = (6 : Int32) then (
      some (h12.I a14 7, h12)
    ) else
    if p2 = (7 : Int32) then (
      some (h12.I a14 6, h12)
    ) else
    if p2 = (8 : Int32) then (
      some (h12.I a14 8, h12)
    ) else
    (
      some ((-1 : Int32), h12)
    )
  ) else (
    some ((-1 : Int32), h7)
  )
def F_X0_count (n : Nat) (K : Nat → Nat) (p0 : Nat) (p1 : Int32) (h : AH) : Option (Int32 × AH) :=
  if p1 = (0 : Int32) then (
    chk (h.kind p0 = 1) <|
    ob (h.R p0 2) fun a3 =>
    chk (h.kind a3 = 3) <|
    bnd (F_J2_size n K a3 h) fun r4 h5 =>
    some (r4, h5)
  ) else
  if p1 = (1 : Int32) then (
    chk (h.kind p0 = 1) <|
    ob (h.R p0 3) fun a9 =>
    chk (h.kind a9 = 3) <|
    bnd (F_J2_size n K a9 h) fun r10 h11 =>
    some (r10, h11)
  ) else
  if p1 = (2 : Int32) then (
    chk (h.kind p0 = 1) <|
    some (h.I p0 7, h)
  ) else
  if p1 = (3 : Int32) then (
    chk (h.kind p0 = 1) <|
    ob (h.R p0 4) fun a17 =>
    chk (h.kind a17 = 3) <|
    bnd (F_J2_size n K a17 h) fun r18 h19 =>
    some (r18, h19)
  ) else
  if p1 = (4 : Int32) then (
    chk (h.kind p0 = 1) <|
    some (h.I p0 6, h)
  ) else
  if p1 = (5 : Int32) then (
    chk (h.kind p0 = 1) <|
    bnd (F_X0_pairMany n K p0 h) fun r24 h25 =>
    some (r24, h25)
  ) else
  (
    some ((-1 : Int32), h)
  )
def F_X3_init (n : Nat) (K : Nat → Nat) (p0 : Nat) (h : AH) : Option (Unit × AH) :=
  chk (0 ≤ (600 : Int32).toInt ∧ (600 : Int32).toInt ≤ 60000000) <|
  hl (h.new 31 (ix (600 : Int32)) (ix (600 : Int32))) fun h2 =>
  chk (h2.kind p0 = 5) <|
  hl (h2.setR p0 0 (some h.n)) fun h5 =>
  hl (gridA h5 35 32 (ix (2 : Int32)) (ix (15 : Int32)) (ix (2 : Int32))) fun h7 =>
  chk (h7.kind p0 = 5) <|
  hl (h7.setR p0 6 (some h5.n)) fun h10 =>
  hl (gridA h10 35 32 (ix (2 : Int32)) (ix (15 : Int32)) (ix (2 : Int32))) fun h12 =>
  chk (h12.kind p0 = 5) <|
  hl (h12.setR p0 7 (some h10.n)) fun h15 =>
  hl (gridA h15 35 32 (ix (2 : Int32)) (ix (15 : Int32)) (ix (2 : Int32))) fun h17 =>
  chk (h17.kind p0 = 5) <|
  hl (h17.setR p0 8 (some h15.n)) fun h20 =>
  hl (gridA h20 35 32 (ix (2 : Int32)) (ix (15 : Int32)) (ix (2 : Int32))) fun h22 =>
  chk (h22.kind p0 = 5) <|
  hl (h22.setR p0 9 (some h20.n)) fun h25 =>
  hl (gridA h25 35 32 (ix (2 : Int32)) (ix (15 : Int32)) (ix (2 : Int32))) fun h27 =>
  chk (h27.kind p0 = 5) <|
  hl (h27.setR p0 10 (some h25.n)) fun h30 =>
  hl (gridA h30 35 32 (ix (2 : Int32)) (ix (15 : Int32)) (ix (2 : Int32))) fun h32 =>
  chk (h32.kind p0 = 5) <|
  hl (h32.setR p0 11 (some h30.n)) fun h35 =>
  hl (gridA h35 35 32 (ix (2 : Int32)) (ix (20 : Int32)) (ix (2 : Int32))) fun h37 =>
  chk (h37.kind p0 = 5) <|
  hl (h37.setR p0 12 (some h35.n)) fun h40 =>
  hl (gridA h40 35 32 (ix (2 : Int32)) (ix (20 : Int32)) (ix (2 : Int32))) fun h42 =>
  chk (h42.kind p0 = 5) <|
  hl (h42.setR p0 13 (some h40.n)) fun h45 =>
  chk (0 ≤ (2 : Int32).toInt ∧ (2 : Int32).toInt ≤ 60000000) <|
  hl (h45.new 32 (ix (2 : Int32)) (ix (2 : Int32))) fun h48 =>
  chk (h48.kind p0 = 5) <|
  hl (h48.setR p0 14 (some h45.n)) fun h51 =>
  chk (0 ≤ (2 : Int32).toInt ∧ (2 : Int32).toInt ≤ 60000000) <|
  hl (h51.new 32 (ix (2 : Int32)) (ix (2 : Int32))) fun h54 =>
  chk (h54.kind p0 = 5) <|
  hl (h54.setR p0 15 (some h51.n)) fun h57 =>
  chk (0 ≤ (2 : Int32).toInt ∧ (2 : Int32).toInt ≤ 60000000) <|
  hl (h57.new 32 (ix (2 : Int32)) (ix (2 : Int32))) fun h60 =>
  chk (h60.kind p0 = 5) <|
  hl (h60.setR p0 16 (some h57.n)) fun h63 =>
  chk (0 ≤ (2 : Int32).toInt ∧ (2 : Int32).toInt ≤ 60000000) <|
  hl (h63.new 32 (ix (2 : Int32)) (ix (2 : Int32))) fun h66 =>
  chk (h66.kind p0 = 5) <|
  hl (h66.setR p0 17 (some h63.n)) fun h69 =>
  chk (0 ≤ (2 : Int32).toInt ∧ (2 : Int32).toInt ≤ 60000000) <|
  hl (h69.new 32 (ix (2 : Int32)) (ix (2 : Int32))) fun h72 =>
  chk (h72.kind p0 = 5) <|
  hl (h72.setR p0 18 (some h69.n)) fun h75 =>
  chk (0 ≤ (4 : Int32).toInt ∧ (4 : Int32).toInt ≤ 60000000) <|
  hl (h75.new 37 (ix (4 : Int32)) (ix (4 : Int32))) fun h78 =>
  chk (h78.kind h75.n = 37) <|
  chk (h78.kind (K 5) = 20) <|
  chk (inb (0 : Int32) (h78.len h75.n)) <|
  hl (h78.setR h75.n (ix (0 : Int32)) (some (K 5))) fun h83 =>
  chk (h83.kind (K 6) = 20) <|
  chk (inb (1 : Int32) (h83.len h75.n)) <|
  hl (h83.setR h75.n (ix (1 : Int32)) (some (K 6))) fun h87 =>
  chk (h87.kind (K 7) = 20) <|
  chk (inb (2 : Int32) (h87.len h75.n)) <|
  hl (h87.setR h75.n (ix (2 : Int32)) (some (K 7))) fun h91 =>
  chk (h91.kind (K 8) = 20) <|
  chk (inb (3 : Int32) (h91.len h75.n)) <|
  hl (h91.setR h75.n (ix (3 : Int32)) (some (K 8))) fun h95 =>
  chk (h95.kind p0 = 5) <|
  hl (h95.setR p0 23 (some h75.n)) fun h98 =>
  chk (0 ≤ (105 : Int32).toInt ∧ (105 : Int32).toInt ≤ 60000000) <|
  hl (h98.new 32 (ix (105 : Int32)) (ix (105 : Int32))) fun h101 =>
  chk (h101.kind p0 = 5) <|
  hl (h101.setR p0 24 (some h98.n)) fun h104 =>
  chk (0 ≤ (105 : Int32).toInt ∧ (105 : Int32).toInt ≤ 60000000) <|
  hl (h104.new 32 (ix (105 : Int32)) (ix (105 : Int32))) fun h107 =>
  chk (h107.kind p0 = 5) <|
  hl (h107.setR p0 25 (some h104.n)) fun h110 =>
  chk (0 ≤ (105 : Int32).toInt ∧ (105 : Int32).toInt ≤ 60000000) <|
  hl (h110.new 32 (ix (105 : Int32)) (ix (105 : Int32))) fun h113 =>
  chk (h113.kind p0 = 5) <|
  hl (h113.setR p0 26 (some h110.n)) fun h116 =>
  chk (0 ≤ (5600 : Int32).toInt ∧ (5600 : Int32).toInt ≤ 60000000) <|
  hl (h116.new 33 (ix (5600 : Int32)) (ix (5600 : Int32))) fun h119 =>
  chk (h119.kind p0 = 5) <|
  hl (h119.setR p0 30 (some h116.n)) fun h122 =>
  chk (0 ≤ (5600 : Int32).toInt ∧ (5600 : Int32).toInt ≤ 60000000) <|
  hl (h122.new 33 (ix (5600 : Int32)) (ix (5600 : Int32))) fun h125 =>
  chk (h125.kind p0 = 5) <|
  hl (h125.setR p0 31 (some h122.n)) fun h128 =>
  chk (0 ≤ (5600 : Int32).toInt ∧ (5600 : Int32).toInt ≤ 60000000) <|
  hl (h128.new 33 (ix (5600 : Int32)) (ix (5600 : Int32))) fun h131 =>
  chk (h131.kind p0 = 5) <|
  hl (h131.setR p0 32 (some h128.n)) fun h134 =>
  chk (0 ≤ (10000 : Int32).toInt ∧ (10000 : Int32).toInt ≤ 60000000) <|
  hl (h134.new 32 (ix (10000 : Int32)) (ix (10000 : Int32))) fun h137 =>
  chk (h137.kind p0 = 5) <|
  hl (h137.setR p0 35 (some h134.n)) fun h140 =>
  chk (0 ≤ (10000 : Int32).toInt ∧ (10000 : Int32).toInt ≤ 60000000) <|
  hl (h140.new 32 (ix (10000 : Int32)) (ix (10000 : Int32))) fun h143 =>
  chk (h143.kind p0 = 5) <|
  hl (h143.setR p0 36 (some h140.n)) fun h146 =>
  chk (0 ≤ (20 : Int32).toInt ∧ (20 : Int32).toInt ≤ 60000000) <|
  hl (h146.new 32 (ix (20 : Int32)) (ix (20 : Int32))) fun h149 =>
  chk (h149.kind p0 = 5) <|
  hl (h149.setR p0 39 (some h146.n)) fun h152 =>
  hl (gridA h152 36 33 (ix (8 : Int32)) (ix (8 : Int32)) (ix (8 : Int32))) fun h154 =>
  chk (h154.kind p0 = 5) <|
  hl (h154.setR p0 40 (some h152.n)) fun h157 =>
  chk (0 ≤ (8 : Int32).toInt ∧ (8 : Int32).toInt ≤ 60000000) <|
  hl (h157.new 33 (ix (8 : Int32)) (ix (8 : Int32))) fun h160 =>
  chk (h160.kind p0 = 5) <|
  hl (h160.setR p0 41 (some h157.n)) fun h163 =>
  chk (0 ≤ (15 : Int32).toInt ∧ (15 : Int32).toInt ≤ 60000000) <|
  hl (h163.new 32 (ix (15 : Int32)) (ix (15 : Int32))) fun h166 =>
  chk (h166.kind p0 = 5) <|
  hl (h166.setR p0 42 (some h163.n)) fun h169 =>
  chk (0 ≤ (15 : Int32).toInt ∧ (15 : Int32).toInt ≤ 60000000) <|
  hl (h169.new 32 (ix (15 : Int32)) (ix (15 : Int32))) fun h172 =>
  chk (h172.kind p0 = 5) <|
  hl (h172.setR p0 43 (some h169.n)) fun h175 =>
  hl (gridA h175 35 32 (ix (40 : Int32)) (ix (9 : Int32)) (ix (40 : Int32))) fun h177 =>
  chk (h177.kind p0 = 5) <|
  hl (h177.setR p0 47 (some h175.n)) fun h180 =>
  some ((), h180)
def F_X3_feeds_L2 (n : Nat) (K : Nat → Nat) (y3 : Nat) (y4 : Int32) : Nat → Int32 → AH → Option (Unit × AH)
  | 0, _, _ => none
  | f + 1, x2, h =>
    if x2 < 0 then (
      some ((), h)
    ) else (
      chk (h.kind y3 = 5) <|
      ob (h.R y3 0) fun a7 =>
      chk (h.kind a7 = 31) <|
      chk (inb (h.I y3 1) (h.len a7)) <|
      hl (h.setI a7 (ix (h.I y3 1)) (((y4.toUInt32 >>> (((8 : Int32) * x2).toUInt32 &&& Int32.toUInt32 31)).toInt32).toInt8.toInt32).toInt8.toInt32) fun h10 =>
      hl (h10.setI y3 1 ((h10.I y3 1) + (1 : Int32))) fun h12 =>
      F_X3_feeds_L2 n K y3 y4 f (x2 + (-1 : Int32)) h12
    )
def F_X3_feeds (n : Nat) (K : Nat → Nat) (p0 : Nat) (p1 : Int32) (h : AH) : Option (Unit × AH) :=
  F_X3_feeds_L2 n K p0 p1 n (3 : Int32) h
def F_X3_feed (n : Nat) (K : Nat → Nat) (p0 : Nat) (p1 : Int32) (p2 : Int32) (p3 : Int32) (p4 : Int32) (p5 : Int32) (h : AH) : Option (Int32 × AH) :=
  chk (h.kind p0 = 5) <|
  if ((h.I p0 1) + (20 : Int32)) ≤ (600 : Int32) then (
    bnd (F_X3_feeds n K p0 p1 h) fun _ h4 =>
    chk (h4.kind p0 = 5) <|
    bnd (F_X3_feeds n K p0 p2 h4) fun _ h6 =>
    chk (h6.kind p0 = 5) <|
    bnd (F_X3_feeds n K p0 p3 h6) fun _ h9 =>
    chk (h9.kind p0 = 5) <|
    bnd (F_X3_feeds n K p0 p4 h9) fun _ h12 =>
    chk (h12.kind p0 = 5) <|
    bnd (F_X3_feeds n K p0 p5 h12) fun _ h15 =>
    chk (h15.kind p0 = 5) <|
    some (h15.I p0 1, h15)
  ) else (
    some ((-1 : Int32), h)
  )
def F_X3_in (n : Nat) (K : Nat → Nat) (p0 : Int64) (p2 : Int64) (p4 : Int64) (h : AH) : Option (Int32 × AH) :=
  if (lg_cmp p0 p2) < 0 then (
    some ((0 : Int32), h)
  ) else (
    if 0 < (lg_cmp p0 p4) then (
      some ((0 : Int32), h)
    ) else (
      some ((1 : Int32), h)
    )
  )
def F_X3_end (n : Nat) (K : Nat → Nat) (p0 : Nat) (p1 : Int32) (h : AH) : Option (Int32 × AH) :=
  chk (h.kind p0 = 5) <|
  bnd (F_X3_in n K p1.toInt64 (0 : Int64) ((h.I p0 1).toInt64) h) fun r2 h3 =>
  if ¬ r2 = 0 then (
    chk (h3.kind p0 = 5) <|
    hl (h3.setI p0 1 p1) fun h6 =>
    some ((1 : Int32), h6)
  ) else (
    some ((0 : Int32), h3)
  )
def F_X3_isLetter (n : Nat) (K : Nat → Nat) (p0 : Int32) (h : AH) : Option (Int32 × AH) :=
  if p0 < (97 : Int32) then (
    some ((0 : Int32), h)
  ) else (
    if (122 : Int32) < p0 then (
      some ((0 : Int32), h)
    ) else (
      some ((1 : Int32), h)
    )
  )
def F_X3_isDigit (n : Nat) (K : Nat → Nat) (p0 : Int32) (h : AH) : Option (Int32 × AH) :=
  if p0 < (48 : Int32) then (
    some ((0 : Int32), h)
  ) else (
    if (57 : Int32) < p0 then (
      some ((0 : Int32), h)
    ) else (
      some ((1 : Int32), h)
    )
  )
def F_X3_skips_L0 (n : Nat) (K : Nat → Nat) (y2 : Nat) : Nat → AH → (AH → Option (Unit × AH)) → Option (Unit × AH)
  | 0, _, _ => none
  | f + 1, h, k =>
    chk (h.kind y2 = 5) <|
    if (h.I y2 1) ≤ (h.I y2 2) then (
      k h
    ) else (
      ob (h.R y2 0) fun a5 =>
      chk (h.kind a5 = 31) <|
      chk (inb (h.I y2 2) (h.len a5)) <|
      jn (α := Option (Unit × AH)) (
        hl (h.setI y2 2 ((h.I y2 2) + (1 : Int32))) fun h9 =>
        F_X3_skips_L0 n K y2 f h9 k
      ) fun j8 =>
      if (h.I a5 (ix (h.I y2 2))) = (32 : Int32) then (
        j8
      ) else (
        ob (h.R y2 0) fun a13 =>
        chk (h.kind a13 = 31) <|
        chk (inb (h.I y2 2) (h.len a13)) <|
        if ¬ (h.I a13 (ix (h.I y2 2))) = (10 : Int32) then (
          k h
        ) else (
          j8
        )
      )
    )
def F_X3_skips_L141 (n : Nat) (K : Nat → Nat) (y39 : Nat) : Nat → AH → Option (Unit × AH)
  | 0, _ => none
  | f + 1, h =>
    chk (h.kind y39 = 5) <|
    if (h.I y39 1) ≤ (h.I y39 3) then (
      some ((), h)
    ) else (
      ob (h.R y39 0) fun a42 =>
      chk (h.kind a42 = 31) <|
      chk (inb (h.I y39 3) (h.len a42)) <|
      bnd (F_X3_isDigit n K (h.I a42 (ix (h.I y39 3))) h) fun r45 h46 =>
      if r45 = 0 then (
        some ((), h46)
      ) else (
        chk (h46.kind y39 = 5) <|
        hl (h46.setI y39 3 ((h46.I y39 3) + (1 : Int32))) fun h49 =>
        F_X3_skips_L141 n K y39 f h49
      )
    )
def F_X3_skips_L87 (n : Nat) (K : Nat → Nat) (y52 : Nat) : Nat → AH → Option (Unit × AH)
  | 0, _ => none
  | f + 1, h =>
    chk (h.kind y52 = 5) <|
    if (h.I y52 1) ≤ (h.I y52 3) then (
      some ((), h)
    ) else (
      ob (h.R y52 0) fun a55 =>
      chk (h.kind a55 = 31) <|
      chk (inb (h.I y52 3) (h.len a55)) <|
      bnd (F_X3_isLetter n K (h.I a55 (ix (h.I y52 3))) h) fun r58 h59 =>
      if r58 = 0 then (
        some ((), h59)
      ) else (
        chk (h59.kind y52 = 5) <|
        hl (h59.setI y52 3 ((h59.I y52 3) + (1 : Int32))) fun h62 =>
        F_X3_skips_L87 n K y52 f h62
      )
    )
def F_X3_skips (n : Nat) (K : Nat → Nat) (p0 : Nat) (h : AH) : Option (Unit × AH) :=
  F_X3_skips_L0 n K p0 n h fun h17 =>
  chk (h17.kind p0 = 5) <|
  hl (h17.setI p0 3 (h17.I p0 2)) fun h19 =>
  if ¬ (h19.I p0 2) = (h19.I p0 1) then (
    ob (h19.R p0 0) fun a22 =>
    chk (h19.kind a22 = 31) <|
    chk (inb (h19.I p0 2) (h19.len a22)) <|
    bnd (F_X3_isLetter n K (h19.I a22 (ix (h19.I p0 2))) h19) fun r25 h26 =>
    if r25 = 0 then (
      chk (h26.kind p0 = 5) <|
      ob (h26.R p0 0) fun a29 =>
      chk (h26.kind a29 = 31) <|
      chk (inb (h26.I p0 2) (h26.len a29)) <|
      bnd (F_X3_isDigit n K (h26.I a29 (ix (h26.I p0 2))) h26) fun r32 h33 =>
      if r32 = 0 then (
        chk (h33.kind p0 = 5) <|
        hl (h33.setI p0 3 ((h33.I p0 2) + (1 : Int32))) fun h36 =>
        some ((), h36)
      ) else (
        F_X3_skips_L141 n K p0 n h33
      )
    ) else (
      F_X3_skips_L87 n K p0 n h26
    )
  ) else (
    some ((), h19)
  )
def F_X3_isWord_L31 (n : Nat) (K : Nat → Nat) (y10 : Nat) (y11 : Nat) : Nat → Int32 → AH → Option (Int32 × AH)
  | 0, _, _ => none
  | f + 1, x9, h =>
    chk (h.kind y11 = 20) <|
    bnd (F_SJ6_length n K y11 h) fun r12 h13 =>
    if r12 ≤ x9 then (
      some ((1 : Int32), h13)
    ) else (
      chk (h13.kind y10 = 5) <|
      ob (h13.R y10 0) fun a17 =>
      chk (h13.kind a17 = 31) <|
      chk (inb ((h13.I y10 2) + x9) (h13.len a17)) <|
      chk (h13.kind y11 = 20) <|
      bnd (F_SJ6_charAt n K y11 x9 h13) fun r20 h21 =>
      if (h13.I a17 (ix ((h13.I y10 2) + x9))) = r20 then (
        F_X3_isWord_L31 n K y10 y11 f (x9 + (1 : Int32)) h21
      ) else (
        some ((0 : Int32), h21)
      )
    )
def F_X3_isWord (n : Nat) (K : Nat → Nat) (p0 : Nat) (p1 : Option Nat) (h : AH) : Option (Int32 × AH) :=
  chk (h.kind p0 = 5) <|
  if (h.I p0 2) = (h.I p0 1) then (
    some ((0 : Int32), h)
  ) else (
    ob p1 fun a3 =>
    chk (h.kind a3 = 20) <|
    bnd (F_SJ6_length n K a3 h) fun r4 h5 =>
    if ((h.I p0 3) - (h.I p0 2)) = r4 then (
      F_X3_isWord_L31 n K p0 a3 n (0 : Int32) h5
    ) else (
      some ((0 : Int32), h5)
    )
  )
def F_X3_passes (n : Nat) (K : Nat → Nat) (p0 : Nat) (p1 : Int32) (h : AH) : Option (Int32 × AH) :=
  if ¬ p1 = 0 then (
    chk (h.kind p0 = 5) <|
    hl (h.setI p0 2 (h.I p0 3)) fun h3 =>
    bnd (F_X3_skips n K p0 h3) fun _ h6 =>
    some ((1 : Int32), h6)
  ) else (
    chk (h.kind p0 = 5) <|
    if ¬ (h.I p0 4) = (-1 : Int32) then (
      some ((0 : Int32), h)
    ) else (
      hl (h.setI p0 4 (h.I p0 2)) fun h9 =>
      some ((0 : Int32), h9)
    )
  )
def F_X3_isSign (n : Nat) (K : Nat → Nat) (p0 : Nat) (p1 : Int32) (h : AH) : Option (Int32 × AH) :=
  chk (h.kind p0 = 5) <|
  if (h.I p0 1) ≤ (h.I p0 2) then (
    some ((0 : Int32), h)
  ) else (
    ob (h.R p0 0) fun a3 =>
    chk (h.kind a3 = 31) <|
    chk (inb (h.I p0 2) (h.len a3)) <|
    if ¬ (h.I a3 (ix (h.I p0 2))) = p1 then (
      some ((0 : Int32), h)
    ) else (
      some ((1 : Int32), h)
    )
  )
def F_X3_near_L4 (n : Nat) (K : Nat → Nat) (y4 : Nat) : Nat → Int32 → Int32 → AH → Option (Int32 × AH)
  | 0, _, _, _ => none
  | f + 1, x2, x3, h =>
    if (4 : Int32) ≤ x2 then (
      chk (h.kind y4 = 5) <|
      hl (h.setI y4 19 x3) fun h7 =>
      jn (α := Int32 → Option (Int32 × AH)) (fun x9 =>
        bnd (F_X3_passes n K y4 x9 h7) fun r11 h12 =>
        if r11 = 0 then (
          some ((0 : Int32), h12)
        ) else (
          chk (h12.kind y4 = 5) <|
          bnd (F_X3_isSign n K y4 (59 : Int32) h12) fun r14 h15 =>
          chk (h15.kind y4 = 5) <|
          bnd (F_X3_passes n K y4 r14 h15) fun r17 h18 =>
          if r17 = 0 then (
            some ((0 : Int32), h18)
          ) else (
            some ((1 : Int32), h18)
          )
        )
      ) fun j10 =>
      if x3 = (-1 : Int32) then (
        j10 (0 : Int32)
      ) else (
        j10 (1 : Int32)
      )
    ) else (
      chk (h.kind y4 = 5) <|
      ob (h.R y4 23) fun a24 =>
      chk (h.kind a24 = 37) <|
      chk (inb x2 (h.len a24)) <|
      bnd (F_X3_isWord n K y4 (h.R a24 (ix x2)) h) fun r27 h28 =>
      if r27 = 0 then (
        F_X3_near_L4 n K y4 f (x2 + (1 : Int32)) x3 h28
      ) else (
        F_X3_near_L4 n K y4 f (x2 + (1 : Int32)) x2 h28
      )
    )
def F_X3_near (n : Nat) (K : Nat → Nat) (p0 : Nat) (h : AH) : Option (Int32 × AH) :=
  F_X3_near_L4 n K p0 n (0 : Int32) (-1 : Int32) h
def F_X3_number_L41 (n : Nat) (K : Nat → Nat) (y9 : Int32) (y10 : Nat) (y11 : Int32) (y12 : Int32) (h : AH) : Nat → Int32 → Int32 → Option (Int32 × AH)
  | 0, _, _ => none
  | f + 1, x7, x8 =>
    jn (α := Option (Int32 × AH)) (
      chk (h.kind y10 = 5) <|
      hl (h.setI y10 5 x8) fun h15 =>
      jn (α := Int32 → AH → Option (Int32 × AH)) (fun x17 h18 =>
        chk (h18.kind y10 = 5) <|
        bnd (F_X3_passes n K y10 x17 h18) fun r20 h21 =>
        chk (r20 = 0 ∨ r20 = 1) <|
        some (r20, h21)
      ) fun j19 =>
      if y9 = 0 then (
        j19 (0 : Int32) h15
      ) else (
        bnd (F_X3_in n K x8.toInt64 y11.toInt64 y12.toInt64 h15) fun r26 h27 =>
        if r26 = 0 then (
          j19 (0 : Int32) h27
        ) else (
          j19 (1 : Int32) h27
        )
      )
    ) fun j13 =>
    if y9 = 0 then (
      j13
    ) else (
      chk (h.kind y10 = 5) <|
      if (h.I y10 3) ≤ x7 then (
        j13
      ) else (
        if x8 ≤ (999 : Int32) then (
          ob (h.R y10 0) fun a34 =>
          chk (h.kind a34 = 31) <|
          chk (inb x7 (h.len a34)) <|
          F_X3_number_L41 n K y9 y10 y11 y12 h f (x7 + (1 : Int32)) ((((10 : Int32) * x8) + (h.I a34 (ix x7))) - (48 : Int32))
        ) else (
          F_X3_number_L41 n K y9 y10 y11 y12 h f (x7 + (1 : Int32)) (9999 : Int32)
        )
      )
    )
def F_X3_number (n : Nat) (K : Nat → Nat) (p0 : Nat) (p1 : Int32) (p2 : Int32) (h : AH) : Option (Int32 × AH) :=
  chk (h.kind p0 = 5) <|
  jn (α := Int32 → AH → Option (Int32 × AH)) (fun x2 h3 =>
    chk (h3.kind p0 = 5) <|
    F_X3_number_L41 n K x2 p0 p1 p2 h3 n (h3.I p0 2) (0 : Int32)
  ) fun j4 =>
  if (h.I p0 1) ≤ (h.I p0 2) then (
    j4 (0 : Int32) h
  ) else (
    ob (h.R p0 0) fun a39 =>
    chk (h.kind a39 = 31) <|
    chk (inb (h.I p0 2) (h.len a39)) <|
    bnd (F_X3_isDigit n K (h.I a39 (ix (h.I p0 2))) h) fun r42 h43 =>
    if r42 = 0 then (
      j4 (0 : Int32) h43
    ) else (
      j4 (1 : Int32) h43
    )
  )
def F_X3_stretch (n : Nat) (K : Nat → Nat) (p0 : Nat) (h : AH) : Option (Int32 × AH) :=
  chk (h.kind p0 = 5) <|
  bnd (F_X3_number n K p0 (1 : Int32) (9 : Int32) h) fun r1 h2 =>
  if ¬ r1 = 0 then (
    chk (h2.kind p0 = 5) <|
    bnd (F_X3_number n K p0 (1 : Int32) (9 : Int32) h2) fun r6 h7 =>
    if ¬ r6 = 0 then (
      chk (h7.kind p0 = 5) <|
      hl (h7.setI p0 20 (h2.I p0 5)) fun h10 =>
      hl (h10.setI p0 21 (h10.I p0 5)) fun h12 =>
      bnd (F_X3_isSign n K p0 (59 : Int32) h12) fun r14 h15 =>
      chk (h15.kind p0 = 5) <|
      bnd (F_X3_passes n K p0 r14 h15) fun r16 h17 =>
      chk (r16 = 0 ∨ r16 = 1) <|
      some (r16, h17)
    ) else (
      some ((0 : Int32), h7)
    )
  ) else (
    some ((0 : Int32), h2)
  )
def F_X3_voterRead (n : Nat) (K : Nat → Nat) (p0 : Nat) (h : AH) : Option (Int32 × AH) :=
  chk (h.kind p0 = 5) <|
  ob (h.R p0 14) fun a2 =>
  chk (h.kind a2 = 32) <|
  chk (inb (1 : Int32) (h.len a2)) <|
  bnd (F_X3_number n K p0 (0 : Int32) (99 : Int32) h) fun r5 h6 =>
  if ¬ r5 = 0 then (
    chk (h6.kind p0 = 5) <|
    ob (h6.R p0 6) fun a9 =>
    chk (h6.kind a9 = 35) <|
    chk (inb (1 : Int32) (h6.len a9)) <|
    ob (h6.R a9 (ix (1 : Int32))) fun a12 =>
    chk (h6.kind a12 = 32) <|
    chk (inb (h.I a2 (ix (1 : Int32))) (h6.len a12)) <|
    hl (h6.setI a12 (ix (h.I a2 (ix (1 : Int32)))) (h6.I p0 5)) fun h15 =>
    bnd (F_X3_number n K p0 (0 : Int32) (99 : Int32) h15) fun r17 h18 =>
    if ¬ r17 = 0 then (
      chk (h18.kind p0 = 5) <|
      ob (h18.R p0 7) fun a21 =>
      chk (h18.kind a21 = 35) <|
      chk (inb (1 : Int32) (h18.len a21)) <|
      ob (h18.R a21 (ix (1 : Int32))) fun a24 =>
      chk (h18.kind a24 = 32) <|
      chk (inb (h.I a2 (ix (1 : Int32))) (h18.len a24)) <|
      hl (h18.setI a24 (ix (h.I a2 (ix (1 : Int32)))) (h18.I p0 5)) fun h27 =>
      ob (h27.R p0 8) fun a29 =>
      chk (h27.kind a29 = 35) <|
      chk (inb (1 : Int32) (h27.len a29)) <|
      ob (h27.R a29 (ix (1 : Int32))) fun a32 =>
      chk (h27.kind a32 = 32) <|
      chk (inb (h.I a2 (ix (1 : Int32))) (h27.len a32)) <|
      hl (h27.setI a32 (ix (h.I a2 (ix (1 : Int32)))) (1 : Int32)) fun h35 =>
      ob (h35.R p0 9) fun a37 =>
      chk (h35.kind a37 = 35) <|
      chk (inb (1 : Int32) (h35.len a37)) <|
      ob (h35.R a37 (ix (1 : Int32))) fun a40 =>
      chk (h35.kind a40 = 32) <|
      chk (inb (h.I a2 (ix (1 : Int32))) (h35.len a40)) <|
      hl (h35.setI a40 (ix (h.I a2 (ix (1 : Int32)))) (h35.I p0 19)) fun h43 =>
      ob (h43.R p0 10) fun a45 =>
      chk (h43.kind a45 = 35) <|
      chk (inb (1 : Int32) (h43.len a45)) <|
      ob (h43.R a45 (ix (1 : Int32))) fun a48 =>
      chk (h43.kind a48 = 32) <|
      chk (inb (h.I a2 (ix (1 : Int32))) (h43.len a48)) <|
      hl (h43.setI a48 (ix (h.I a2 (ix (1 : Int32)))) (h43.I p0 20)) fun h51 =>
      ob (h51.R p0 11) fun a53 =>
      chk (h51.kind a53 = 35) <|
      chk (inb (1 : Int32) (h51.len a53)) <|
      ob (h51.R a53 (ix (1 : Int32))) fun a56 =>
      chk (h51.kind a56 = 32) <|
      chk (inb (h.I a2 (ix (1 : Int32))) (h51.len a56)) <|
      hl (h51.setI a56 (ix (h.I a2 (ix (1 : Int32)))) (h51.I p0 21)) fun h59 =>
      bnd (F_X3_isWord n K p0 (some (K 12)) h59) fun r61 h62 =>
      jn (α := AH → Option (Int32 × AH)) (fun h63 =>
        chk (h63.kind p0 = 5) <|
        ob (h63.R p0 14) fun a66 =>
        chk (h63.kind a66 = 32) <|
        chk (inb (1 : Int32) (h63.len a66)) <|
        chk (inb (1 : Int32) (h63.len a66)) <|
        hl (h63.setI a66 (ix (1 : Int32)) ((h63.I a66 (ix (1 : Int32))) + (1 : Int32))) fun h70 =>
        bnd (F_X3_isSign n K p0 (59 : Int32) h70) fun r72 h73 =>
        chk (h73.kind p0 = 5) <|
        bnd (F_X3_passes n K p0 r72 h73) fun r74 h75 =>
        chk (r74 = 0 ∨ r74 = 1) <|
        some (r74, h75)
      ) fun j64 =>
      if r61 = 0 then (
        j64 h62
      ) else (
        chk (h62.kind p0 = 5) <|
        bnd (F_X3_passes n K p0 (1 : Int32) h62) fun r80 h81 =>
        if r80 = 0 then (
          some ((0 : Int32), h81)
        ) else (
          chk (h81.kind p0 = 5) <|
          bnd (F_X3_number n K p0 (1 : Int32) (9 : Int32) h81) fun r84 h85 =>
          if ¬ r84 = 0 then (
            chk (h85.kind p0 = 5) <|
            ob (h85.R p0 8) fun a89 =>
            chk (h85.kind a89 = 35) <|
            chk (inb (1 : Int32) (h85.len a89)) <|
            ob (h85.R a89 (ix (1 : Int32))) fun a92 =>
            chk (h85.kind a92 = 32) <|
            chk (inb (h.I a2 (ix (1 : Int32))) (h85.len a92)) <|
            hl (h85.setI a92 (ix (h.I a2 (ix (1 : Int32)))) (h85.I p0 5)) fun h95 =>
            j64 h95
          ) else (
            some ((0 : Int32), h85)
          )
        )
      )
    ) else (
      some ((0 : Int32), h18)
    )
  ) else (
    some ((0 : Int32), h6)
  )
def F_X3_placeRead (n : Nat) (K : Nat → Nat) (p0 : Nat) (h : AH) : Option (Int32 × AH) :=
  chk (h.kind p0 = 5) <|
  ob (h.R p0 15) fun a2 =>
  chk (h.kind a2 = 32) <|
  chk (inb (1 : Int32) (h.len a2)) <|
  bnd (F_X3_number n K p0 (0 : Int32) (99 : Int32) h) fun r5 h6 =>
  if ¬ r5 = 0 then (
    chk (h6.kind p0 = 5) <|
    ob (h6.R p0 12) fun a9 =>
    chk (h6.kind a9 = 35) <|
    chk (inb (1 : Int32) (h6.len a9)) <|
    ob (h6.R a9 (ix (1 : Int32))) fun a12 =>
    chk (h6.kind a12 = 32) <|
    chk (inb (h.I a2 (ix (1 : Int32))) (h6.len a12)) <|
    hl (h6.setI a12 (ix (h.I a2 (ix (1 : Int32)))) (h6.I p0 5)) fun h15 =>
    bnd (F_X3_number n K p0 (0 : Int32) (99 : Int32) h15) fun r17 h18 =>
    if ¬ r17 = 0 then (
      chk (h18.kind p0 = 5) <|
      ob (h18.R p0 13) fun a21 =>
      chk (h18.kind a21 = 35) <|
      chk (inb (1 : Int32) (h18.len a21)) <|
      ob (h18.R a21 (ix (1 : Int32))) fun a24 =>
      chk (h18.kind a24 = 32) <|
      chk (inb (h.I a2 (ix (1 : Int32))) (h18.len a24)) <|
      hl (h18.setI a24 (ix (h.I a2 (ix (1 : Int32)))) (h18.I p0 5)) fun h27 =>
      ob (h27.R p0 15) fun a29 =>
      chk (h27.kind a29 = 32) <|
      chk (inb (1 : Int32) (h27.len a29)) <|
      chk (inb (1 : Int32) (h27.len a29)) <|
      hl (h27.setI a29 (ix (1 : Int32)) ((h27.I a29 (ix (1 : Int32))) + (1 : Int32))) fun h33 =>
      bnd (F_X3_isSign n K p0 (59 : Int32) h33) fun r35 h36 =>
      chk (h36.kind p0 = 5) <|
      bnd (F_X3_passes n K p0 r35 h36) fun r37 h38 =>
      chk (r37 = 0 ∨ r37 = 1) <|
      some (r37, h38)
    ) else (
      some ((0 : Int32), h18)
    )
  ) else (
    some ((0 : Int32), h6)
  )
def F_X3_winRead (n : Nat) (K : Nat → Nat) (p0 : Nat) (h : AH) : Option (Int32 × AH) :=
  chk (h.kind p0 = 5) <|
  hl (h.setI p0 22 (1 : Int32)) fun h2 =>
  bnd (F_X3_isWord n K p0 (some (K 15)) h2) fun r4 h5 =>
  if r4 = 0 then (
    chk (h5.kind p0 = 5) <|
    bnd (F_X3_isWord n K p0 (some (K 16)) h5) fun r8 h9 =>
    jn (α := Int32 → Option (Int32 × AH)) (fun x10 =>
      ob (h5.R p0 16) fun a12 =>
      chk (h9.kind a12 = 32) <|
      chk (inb (1 : Int32) (h9.len a12)) <|
      hl (h9.setI a12 (ix (1 : Int32)) x10) fun h15 =>
      chk (h15.kind p0 = 5) <|
      bnd (F_X3_isWord n K p0 (some (K 16)) h15) fun r17 h18 =>
      jn (α := Int32 → AH → Option (Int32 × AH)) (fun x20 h21 =>
        chk (h21.kind p0 = 5) <|
        bnd (F_X3_passes n K p0 x20 h21) fun r23 h24 =>
        if r23 = 0 then (
          some ((0 : Int32), h24)
        ) else (
          chk (h24.kind p0 = 5) <|
          bnd (F_X3_number n K p0 (1 : Int32) (99 : Int32) h24) fun r27 h28 =>
          if ¬ r27 = 0 then (
            chk (h28.kind p0 = 5) <|
            ob (h28.R p0 17) fun a32 =>
            chk (h28.kind a32 = 32) <|
            chk (inb (1 : Int32) (h28.len a32)) <|
            hl (h28.setI a32 (ix (1 : Int32)) (h28.I p0 5)) fun h35 =>
            bnd (F_X3_isSign n K p0 (47 : Int32) h35) fun r37 h38 =>
            chk (h38.kind p0 = 5) <|
            bnd (F_X3_passes n K p0 r37 h38) fun r39 h40 =>
            if r39 = 0 then (
              some ((0 : Int32), h40)
            ) else (
              chk (h40.kind p0 = 5) <|
              ob (h40.R p0 17) fun a44 =>
              chk (h40.kind a44 = 32) <|
              chk (inb (1 : Int32) (h40.len a44)) <|
              ob (h40.R p0 17) fun a47 =>
              chk (h40.kind a47 = 32) <|
              chk (inb (1 : Int32) (h40.len a47)) <|
              bnd (F_X3_number n K p0 (if (1 : Int32) < (h40.I a44 (ix (1 : Int32))) then (h40.I a44 (ix (1 : Int32))) else (1 : Int32)) (if ((2 : Int32) * (h40.I a47 (ix (1 : Int32)))) < (99 : Int32) then ((2 : Int32) * (h40.I a47 (ix (1 : Int32)))) else (99 : Int32)) h40) fun r50 h51 =>
              if ¬ r50 = 0 then (
                chk (h51.kind p0 = 5) <|
                ob (h51.R p0 18) fun a54 =>
                chk (h51.kind a54 = 32) <|
                chk (inb (1 : Int32) (h51.len a54)) <|
                hl (h51.setI a54 (ix (1 : Int32)) (h51.I p0 5)) fun h57 =>
                bnd (F_X3_isSign n K p0 (59 : Int32) h57) fun r59 h60 =>
                chk (h60.kind p0 = 5) <|
                bnd (F_X3_passes n K p0 r59 h60) fun r61 h62 =>
                chk (r61 = 0 ∨ r61 = 1) <|
                some (r61, h62)
              ) else (
                some ((0 : Int32), h51)
              )
            )
          ) else (
            some ((0 : Int32), h28)
          )
        )
      ) fun j22 =>
      if ¬ r17 = 0 then (
        j22 (1 : Int32) h18
      ) else (
        chk (h18.kind p0 = 5) <|
        bnd (F_X3_isWord n K p0 (some (K 17)) h18) fun r67 h68 =>
        if r67 = 0 then (
          j22 (0 : Int32) h68
        ) else (
          j22 (1 : Int32) h68
        )
      )
    ) fun j11 =>
    if r8 = 0 then (
      j11 (2 : Int32)
    ) else (
      j11 (1 : Int32)
    )
  ) else (
    chk (h5.kind p0 = 5) <|
    bnd (F_X3_passes n K p0 (1 : Int32) h5) fun r73 h74 =>
    if r73 = 0 then (
      some ((0 : Int32), h74)
    ) else (
      chk (h74.kind p0 = 5) <|
      bnd (F_X3_isSign n K p0 (59 : Int32) h74) fun r77 h78 =>
      chk (h78.kind p0 = 5) <|
      bnd (F_X3_passes n K p0 r77 h78) fun r80 h81 =>
      if r80 = 0 then (
        some ((0 : Int32), h81)
      ) else (
        some ((1 : Int32), h81)
      )
    )
  )
def F_X3_told (n : Nat) (K : Nat → Nat) (p0 : Nat) (h : AH) : Option (Int32 × AH) :=
  chk (h.kind p0 = 5) <|
  bnd (F_X3_isWord n K p0 (some (K 9)) h) fun r1 h2 =>
  if r1 = 0 then (
    chk (h2.kind p0 = 5) <|
    bnd (F_X3_isWord n K p0 (some (K 10)) h2) fun r5 h6 =>
    if r5 = 0 then (
      chk (h6.kind p0 = 5) <|
      bnd (F_X3_isWord n K p0 (some (K 11)) h6) fun r9 h10 =>
      if r9 = 0 then (
        chk (h10.kind p0 = 5) <|
        bnd (F_X3_isWord n K p0 (some (K 13)) h10) fun r13 h14 =>
        if r13 = 0 then (
          chk (h14.kind p0 = 5) <|
          bnd (F_X3_isWord n K p0 (some (K 14)) h14) fun r17 h18 =>
          jn (α := Int32 → Option (Int32 × AH)) (fun x20 =>
            chk (h18.kind p0 = 5) <|
            bnd (F_X3_passes n K p0 x20 h18) fun r22 h23 =>
            if r22 = 0 then (
              some ((0 : Int32), h23)
            ) else (
              chk (h23.kind p0 = 5) <|
              bnd (F_X3_winRead n K p0 h23) fun r26 h27 =>
              if r26 = 0 then (
                some ((0 : Int32), h27)
              ) else (
                some ((1 : Int32), h27)
              )
            )
          ) fun j21 =>
          if r17 = 0 then (
            j21 (0 : Int32)
          ) else (
            chk (h18.kind p0 = 5) <|
            if ¬ (h18.I p0 22) = 0 then (
              j21 (0 : Int32)
            ) else (
              j21 (1 : Int32)
            )
          )
        ) else (
          chk (h14.kind p0 = 5) <|
          ob (h14.R p0 15) fun a35 =>
          chk (h14.kind a35 = 32) <|
          chk (inb (1 : Int32) (h14.len a35)) <|
          jn (α := Int32 → Option (Int32 × AH)) (fun x38 =>
            bnd (F_X3_passes n K p0 x38 h14) fun r40 h41 =>
            if r40 = 0 then (
              some ((0 : Int32), h41)
            ) else (
              chk (h41.kind p0 = 5) <|
              bnd (F_X3_placeRead n K p0 h41) fun r43 h44 =>
              if r43 = 0 then (
                some ((0 : Int32), h44)
              ) else (
                some ((1 : Int32), h44)
              )
            )
          ) fun j39 =>
          if (20 : Int32) ≤ (h14.I a35 (ix (1 : Int32))) then (
            j39 (0 : Int32)
          ) else (
            j39 (1 : Int32)
          )
        )
      ) else (
        chk (h10.kind p0 = 5) <|
        ob (h10.R p0 14) fun a50 =>
        chk (h10.kind a50 = 32) <|
        chk (inb (1 : Int32) (h10.len a50)) <|
        jn (α := Int32 → Option (Int32 × AH)) (fun x53 =>
          bnd (F_X3_passes n K p0 x53 h10) fun r55 h56 =>
          if r55 = 0 then (
            some ((0 : Int32), h56)
          ) else (
            chk (h56.kind p0 = 5) <|
            bnd (F_X3_voterRead n K p0 h56) fun r58 h59 =>
            if r58 = 0 then (
              some ((0 : Int32), h59)
            ) else (
              some ((1 : Int32), h59)
            )
          )
        ) fun j54 =>
        if (15 : Int32) ≤ (h10.I a50 (ix (1 : Int32))) then (
          j54 (0 : Int32)
        ) else (
          j54 (1 : Int32)
        )
      )
    ) else (
      chk (h6.kind p0 = 5) <|
      bnd (F_X3_passes n K p0 (1 : Int32) h6) fun r64 h65 =>
      if r64 = 0 then (
        some ((0 : Int32), h65)
      ) else (
        chk (h65.kind p0 = 5) <|
        bnd (F_X3_stretch n K p0 h65) fun r68 h69 =>
        if r68 = 0 then (
          some ((0 : Int32), h69)
        ) else (
          some ((1 : Int32), h69)
        )
      )
    )
  ) else (
    chk (h2.kind p0 = 5) <|
    bnd (F_X3_passes n K p0 (1 : Int32) h2) fun r72 h73 =>
    if r72 = 0 then (
      some ((0 : Int32), h73)
    ) else (
      chk (h73.kind p0 = 5) <|
      bnd (F_X3_near n K p0 h73) fun r76 h77 =>
      if r76 = 0 then (
        some ((0 : Int32), h77)
      ) else (
        some ((1 : Int32), h77)
      )
    )
  )
def F_X3_reads_L71 (n : Nat) (K : Nat → Nat) (y43 : Nat) : Nat → Int32 → AH → Option (Unit × AH)
  | 0, _, _ => none
  | f + 1, x42, h =>
    jn (α := Option (Unit × AH)) (
      if x42 = 0 then (
        some ((), h)
      ) else (
        chk (h.kind y43 = 5) <|
        ob (h.R y43 14) fun a47 =>
        chk (h.kind a47 = 32) <|
        chk (inb (1 : Int32) (h.len a47)) <|
        if ¬ (h.I a47 (ix (1 : Int32))) = 0 then (
          some ((), h)
        ) else (
          hl (h.setI y43 4 (h.I y43 1)) fun h51 =>
          some ((), h51)
        )
      )
    ) fun j44 =>
    if x42 = 0 then (
      j44
    ) else (
      chk (h.kind y43 = 5) <|
      if (h.I y43 1) ≤ (h.I y43 2) then (
        j44
      ) else (
        bnd (F_X3_told n K y43 h) fun r57 h58 =>
        F_X3_reads_L71 n K y43 f r57 h58
      )
    )
def F_X3_reads (n : Nat) (K : Nat → Nat) (p0 : Nat) (h : AH) : Option (Unit × AH) :=
  chk (h.kind p0 = 5) <|
  hl (h.setI p0 4 (-1 : Int32)) fun h2 =>
  ob (h2.R p0 14) fun a4 =>
  chk (h2.kind a4 = 32) <|
  chk (inb (1 : Int32) (h2.len a4)) <|
  hl (h2.setI a4 (ix (1 : Int32)) (0 : Int32)) fun h7 =>
  ob (h7.R p0 15) fun a9 =>
  chk (h7.kind a9 = 32) <|
  chk (inb (1 : Int32) (h7.len a9)) <|
  hl (h7.setI a9 (ix (1 : Int32)) (0 : Int32)) fun h12 =>
  ob (h12.R p0 16) fun a14 =>
  chk (h12.kind a14 = 32) <|
  chk (inb (1 : Int32) (h12.len a14)) <|
  hl (h12.setI a14 (ix (1 : Int32)) (0 : Int32)) fun h17 =>
  ob (h17.R p0 17) fun a19 =>
  chk (h17.kind a19 = 32) <|
  chk (inb (1 : Int32) (h17.len a19)) <|
  hl (h17.setI a19 (ix (1 : Int32)) (1 : Int32)) fun h22 =>
  ob (h22.R p0 18) fun a24 =>
  chk (h22.kind a24 = 32) <|
  chk (inb (1 : Int32) (h22.len a24)) <|
  hl (h22.setI a24 (ix (1 : Int32)) (2 : Int32)) fun h27 =>
  hl (h27.setI p0 19 (0 : Int32)) fun h29 =>
  hl (h29.setI p0 20 (1 : Int32)) fun h31 =>
  hl (h31.setI p0 21 (1 : Int32)) fun h33 =>
  hl (h33.setI p0 22 (0 : Int32)) fun h35 =>
  hl (h35.setI p0 2 (0 : Int32)) fun h37 =>
  bnd (F_X3_skips n K p0 h37) fun _ h40 =>
  F_X3_reads_L71 n K p0 n (1 : Int32) h40
def F_X3_fault (n : Nat) (K : Nat → Nat) (p0 : Nat) (h : AH) : Option (Int32 × AH) :=
  chk (h.kind p0 = 5) <|
  bnd (F_X3_reads n K p0 h) fun _ h2 =>
  chk (h2.kind p0 = 5) <|
  some (h2.I p0 4, h2)
def F_X3_voters (n : Nat) (K : Nat → Nat) (p0 : Nat) (h : AH) : Option (Int32 × AH) :=
  chk (h.kind p0 = 5) <|
  ob (h.R p0 14) fun a2 =>
  chk (h.kind a2 = 32) <|
  chk (inb (0 : Int32) (h.len a2)) <|
  some (h.I a2 (ix (0 : Int32)), h)
def F_X3_sheet_L76 (n : Nat) (K : Nat → Nat) (y38 : Nat) : Nat → Int32 → AH → (AH → Option (Int32 × AH)) → Option (Int32 × AH)
  | 0, _, _, _ => none
  | f + 1, x37, h, k =>
    if (15 : Int32) ≤ x37 then (
      k h
    ) else (
      chk (h.kind y38 = 5) <|
      ob (h.R y38 6) fun a41 =>
      chk (h.kind a41 = 35) <|
      chk (inb (0 : Int32) (h.len a41)) <|
      ob (h.R y38 6) fun a44 =>
      chk (h.kind a44 = 35) <|
      chk (inb (1 : Int32) (h.len a44)) <|
      ob (h.R a44 (ix (1 : Int32))) fun a47 =>
      chk (h.kind a47 = 32) <|
      chk (inb x37 (h.len a47)) <|
      ob (h.R a41 (ix (0 : Int32))) fun a50 =>
      chk (h.kind a50 = 32) <|
      chk (inb x37 (h.len a50)) <|
      hl (h.setI a50 (ix x37) (h.I a47 (ix x37))) fun h53 =>
      ob (h53.R y38 7) fun a55 =>
      chk (h53.kind a55 = 35) <|
      chk (inb (0 : Int32) (h53.len a55)) <|
      ob (h53.R y38 7) fun a58 =>
      chk (h53.kind a58 = 35) <|
      chk (inb (1 : Int32) (h53.len a58)) <|
      ob (h53.R a58 (ix (1 : Int32))) fun a61 =>
      chk (h53.kind a61 = 32) <|
      chk (inb x37 (h53.len a61)) <|
      ob (h53.R a55 (ix (0 : Int32))) fun a64 =>
      chk (h53.kind a64 = 32) <|
      chk (inb x37 (h53.len a64)) <|
      hl (h53.setI a64 (ix x37) (h53.I a61 (ix x37))) fun h67 =>
      ob (h67.R y38 8) fun a69 =>
      chk (h67.kind a69 = 35) <|
      chk (inb (0 : Int32) (h67.len a69)) <|
      ob (h67.R y38 8) fun a72 =>
      chk (h67.kind a72 = 35) <|
      chk (inb (1 : Int32) (h67.len a72)) <|
      ob (h67.R a72 (ix (1 : Int32))) fun a75 =>
      chk (h67.kind a75 = 32) <|
      chk (inb x37 (h67.len a75)) <|
      ob (h67.R a69 (ix (0 : Int32))) fun a78 =>
      chk (h67.kind a78 = 32) <|
      chk (inb x37 (h67.len a78)) <|
      hl (h67.setI a78 (ix x37) (h67.I a75 (ix x37))) fun h81 =>
      ob (h81.R y38 9) fun a83 =>
      chk (h81.kind a83 = 35) <|
      chk (inb (0 : Int32) (h81.len a83)) <|
      ob (h81.R y38 9) fun a86 =>
      chk (h81.kind a86 = 35) <|
      chk (inb (1 : Int32) (h81.len a86)) <|
      ob (h81.R a86 (ix (1 : Int32))) fun a89 =>
      chk (h81.kind a89 = 32) <|
      chk (inb x37 (h81.len a89)) <|
      ob (h81.R a83 (ix (0 : Int32))) fun a92 =>
      chk (h81.kind a92 = 32) <|
      chk (inb x37 (h81.len a92)) <|
      hl (h81.setI a92 (ix x37) (h81.I a89 (ix x37))) fun h95 =>
      ob (h95.R y38 10) fun a97 =>
      chk (h95.kind a97 = 35) <|
      chk (inb (0 : Int32) (h95.len a97)) <|
      ob (h95.R y38 10) fun a100 =>
      chk (h95.kind a100 = 35) <|
      chk (inb (1 : Int32) (h95.len a100)) <|
      ob (h95.R a100 (ix (1 : Int32))) fun a103 =>
      chk (h95.kind a103 = 32) <|
      chk (inb x37 (h95.len a103)) <|
      ob (h95.R a97 (ix (0 : Int32))) fun a106 =>
      chk (h95.kind a106 = 32) <|
      chk (inb x37 (h95.len a106)) <|
      hl (h95.setI a106 (ix x37) (h95.I a103 (ix x37))) fun h109 =>
      ob (h109.R y38 11) fun a111 =>
      chk (h109.kind a111 = 35) <|
      chk (inb (0 : Int32) (h109.len a111)) <|
      ob (h109.R y38 11) fun a114 =>
      chk (h109.kind a114 = 35) <|
      chk (inb (1 : Int32) (h109.len a114)) <|
      ob (h109.R a114 (ix (1 : Int32))) fun a117 =>
      chk (h109.kind a117 = 32) <|
      chk (inb x37 (h109.len a117)) <|
      ob (h109.R a111 (ix (0 : Int32))) fun a120 =>
      chk (h109.kind a120 = 32) <|
      chk (inb x37 (h109.len a120)) <|
      hl (h109.setI a120 (ix x37) (h109.I a117 (ix x37))) fun h123 =>
      F_X3_sheet_L76 n K y38 f (x37 + (1 : Int32)) h123 k
    )
def F_X3_sheet_L186 (n : Nat) (K : Nat → Nat) (y128 : Nat) : Nat → Int32 → AH → Option (Int32 × AH)
  | 0, _, _ => none
  | f + 1, x127, h =>
    if (20 : Int32) ≤ x127 then (
      chk (h.kind y128 = 5) <|
      hl (h.setI y128 1 (0 : Int32)) fun h131 =>
      hl (h131.setI y128 48 (0 : Int32)) fun h133 =>
      hl (h133.setI y128 29 (0 : Int32)) fun h135 =>
      bnd (F_X3_voters n K y128 h135) fun r137 h138 =>
      some (r137, h138)
    ) else (
      chk (h.kind y128 = 5) <|
      ob (h.R y128 12) fun a140 =>
      chk (h.kind a140 = 35) <|
      chk (inb (0 : Int32) (h.len a140)) <|
      ob (h.R y128 12) fun a143 =>
      chk (h.kind a143 = 35) <|
      chk (inb (1 : Int32) (h.len a143)) <|
      ob (h.R a143 (ix (1 : Int32))) fun a146 =>
      chk (h.kind a146 = 32) <|
      chk (inb x127 (h.len a146)) <|
      ob (h.R a140 (ix (0 : Int32))) fun a149 =>
      chk (h.kind a149 = 32) <|
      chk (inb x127 (h.len a149)) <|
      hl (h.setI a149 (ix x127) (h.I a146 (ix x127))) fun h152 =>
      ob (h152.R y128 13) fun a154 =>
      chk (h152.kind a154 = 35) <|
      chk (inb (0 : Int32) (h152.len a154)) <|
      ob (h152.R y128 13) fun a157 =>
      chk (h152.kind a157 = 35) <|
      chk (inb (1 : Int32) (h152.len a157)) <|
      ob (h152.R a157 (ix (1 : Int32))) fun a160 =>
      chk (h152.kind a160 = 32) <|
      chk (inb x127 (h152.len a160)) <|
      ob (h152.R a154 (ix (0 : Int32))) fun a163 =>
      chk (h152.kind a163 = 32) <|
      chk (inb x127 (h152.len a163)) <|
      hl (h152.setI a163 (ix x127) (h152.I a160 (ix x127))) fun h166 =>
      F_X3_sheet_L186 n K y128 f (x127 + (1 : Int32)) h166
    )
def F_X3_sheet (n : Nat) (K : Nat → Nat) (p0 : Nat) (h : AH) : Option (Int32 × AH) :=
  chk (h.kind p0 = 5) <|
  bnd (F_X3_reads n K p0 h) fun _ h2 =>
  chk (h2.kind p0 = 5) <|
  if (h2.I p0 4) = (-1 : Int32) then (
    ob (h2.R p0 14) fun a6 =>
    chk (h2.kind a6 = 32) <|
    chk (inb (1 : Int32) (h2.len a6)) <|
    chk (inb (0 : Int32) (h2.len a6)) <|
    hl (h2.setI a6 (ix (0 : Int32)) (h2.I a6 (ix (1 : Int32)))) fun h10 =>
    ob (h10.R p0 15) fun a12 =>
    chk (h10.kind a12 = 32) <|
    chk (inb (1 : Int32) (h10.len a12)) <|
    chk (inb (0 : Int32) (h10.len a12)) <|
    hl (h10.setI a12 (ix (0 : Int32)) (h10.I a12 (ix (1 : Int32)))) fun h16 =>
    ob (h16.R p0 16) fun a18 =>
    chk (h16.kind a18 = 32) <|
    chk (inb (1 : Int32) (h16.len a18)) <|
    chk (inb (0 : Int32) (h16.len a18)) <|
    hl (h16.setI a18 (ix (0 : Int32)) (h16.I a18 (ix (1 : Int32)))) fun h22 =>
    ob (h22.R p0 17) fun a24 =>
    chk (h22.kind a24 = 32) <|
    chk (inb (1 : Int32) (h22.len a24)) <|
    chk (inb (0 : Int32) (h22.len a24)) <|
    hl (h22.setI a24 (ix (0 : Int32)) (h22.I a24 (ix (1 : Int32)))) fun h28 =>
    ob (h28.R p0 18) fun a30 =>
    chk (h28.kind a30 = 32) <|
    chk (inb (1 : Int32) (h28.len a30)) <|
    chk (inb (0 : Int32) (h28.len a30)) <|
    hl (h28.setI a30 (ix (0 : Int32)) (h28.I a30 (ix (1 : Int32)))) fun h34 =>
    F_X3_sheet_L76 n K p0 n (0 : Int32) h34 fun h125 =>
    F_X3_sheet_L186 n K p0 n (0 : Int32) h125
  ) else (
    some ((-1 : Int32), h2)
  )
def F_X3_isVoter (n : Nat) (K : Nat → Nat) (p0 : Nat) (p1 : Int32) (h : AH) : Option (Int32 × AH) :=
  chk (h.kind p0 = 5) <|
  bnd (F_X3_voters n K p0 h) fun r1 h2 =>
  bnd (F_X3_in n K p1.toInt64 (0 : Int64) ((r1 - (1 : Int32)).toInt64) h2) fun r4 h5 =>
  chk (r4 = 0 ∨ r4 = 1) <|
  some (r4, h5)
def F_X3_voter (n : Nat) (K : Nat → Nat) (p0 : Nat) (p1 : Int32) (p2 : Int32) (h : AH) : Option (Int32 × AH) :=
  chk (h.kind p0 = 5) <|
  bnd (F_X3_isVoter n K p0 p1 h) fun r1 h2 =>
  if ¬ r1 = 0 then (
    if p2 = (0 : Int32) then (
      chk (h2.kind p0 = 5) <|
      ob (h2.R p0 6) fun a7 =>
      chk (h2.kind a7 = 35) <|
      chk (inb (0 : Int32) (h2.len a7)) <|
      ob (h2.R a7 (ix (0 : Int32))) fun a10 =>
      chk (h2.kind a10 = 32) <|
      chk (inb p1 (h2.len a10)) <|
      some (h2.I a10 (ix p1), h2)
    ) else
    if p2 = (1 : Int32) then (
      chk (h2.kind p0 = 5) <|
      ob (h2.R p0 7) fun a15 =>
      chk (h2.kind a15 = 35) <|
      chk (inb (0 : Int32) (h2.len a15)) <|
      ob (h2.R a15 (ix (0 : Int32))) fun a18 =>
      chk (h2.kind a18 = 32) <|
      chk (inb p1 (h2.len a18)) <|
      some (h2.I a18 (ix p1), h2)
    ) else
    if p2 = (2 : Int32) then (
      chk (h2.kind p0 = 5) <|
      ob (h2.R p0 8) fun a23 =>
      chk (h2.kind a23 = 35) <|
      chk (inb (0 : Int32) (h2.len a23)) <|
      ob (h2.R a23 (ix (0 : Int32))) fun a26 =>
      chk (h2.kind a26 = 32) <|
      chk (inb p1 (h2.len a26)) <|
      some (h2.I a26 (ix p1), h2)
    ) else
    if p2 = (3 : Int32) then (
      chk (h2.kind p0 = 5) <|
      ob (h2.R p0 9) fun a31 =>
      chk (h2.kind a31 = 35) <|
      chk (inb (0 : Int32) (h2.len a31)) <|
      ob (h2.R a31 (ix (0 : Int32))) fun a34 =>
      chk (h2.kind a34 = 32) <|
      chk (inb p1 (h2.len a34)) <|
      some (h2.I a34 (ix p1), h2)
    ) else
    if p2 = (4 : Int32) then (
      chk (h2.kind p0 = 5) <|
      ob (h2.R p0 10) fun a39 =>
      chk (h2.kind a39 = 35) <|
      chk (inb (0 : Int32) (h2.len a39)) <|
      ob (h2.R a39 (ix (0 : Int32))) fun a42 =>
      chk (h2.kind a42 = 32) <|
      chk (inb p1 (h2.len a42)) <|
      some (h2.I a42 (ix p1), h2)
    ) else
    if p2 = (5 : Int32) then (
      chk (h2.kind p0 = 5) <|
      ob (h2.R p0 11) fun a47 =>
      chk (h2.kind a47 = 35) <|
      chk (inb (0 : Int32) (h2.len a47)) <|
      ob (h2.R a47 (ix (0 : Int32))) fun a50 =>
      chk (h2.kind a50 = 32) <|
      chk (inb p1 (h2.len a50)) <|
      some (h2.I a50 (ix p1), h2)
    ) else
    (
      some ((-1 : Int32), h2)
    )
  ) else (
    some ((-1 : Int32), h2)
  )
def F_X3_places (n : Nat) (K : Nat → Nat) (p0 : Nat) (h : AH) : Option (Int32 × AH) :=
  chk (h.kind p0 = 5) <|
  ob (h.R p0 15) fun a2 =>
  chk (h.kind a2 = 32) <|
  chk (inb (0 : Int32) (h.len a2)) <|
  some (h.I a2 (ix (0 : Int32)), h)
def F_X3_isPlace (n : Nat) (K : Nat → Nat) (p0 : Nat) (p1 : Int32) (h : AH) : Option (Int32 × AH) :=
  chk (h.kind p0 = 5) <|
  bnd (F_X3_places n K p0 h) fun r1 h2 =>
  bnd (F_X3_in n K p1.toInt64 (0 : Int64) ((r1 - (1 : Int32)).toInt64) h2) fun r4 h5 =>
  chk (r4 = 0 ∨ r4 = 1) <|
  some (r4, h5)
def F_X3_place (n : Nat) (K : Nat → Nat) (p0 : Nat) (p1 : Int32) (p2 : Int32) (h : AH) : Option (Int32 × AH) :=
  chk (h.kind p0 = 5) <|
  bnd (F_X3_isPlace n K p0 p1 h) fun r1 h2 =>
  if r1 = 0 then (
    some ((-1 : Int32), h2)
  ) else (
    bnd (F_X3_in n K p2.toInt64 (0 : Int64) (1 : Int64) h2) fun r5 h6 =>
    if ¬ r5 = 0 then (
      if ¬ p2 = 0 then (
        chk (h6.kind p0 = 5) <|
        ob (h6.R p0 13) fun a10 =>
        chk (h6.kind a10 = 35) <|
        chk (inb (0 : Int32) (h6.len a10)) <|
        ob (h6.R a10 (ix (0 : Int32))) fun a13 =>
        chk (h6.kind a13 = 32) <|
        chk (inb p1 (h6.len a13)) <|
        some (h6.I a13 (ix p1), h6)
      ) else (
        chk (h6.kind p0 = 5) <|
        ob (h6.R p0 12) fun a17 =>
        chk (h6.kind a17 = 35) <|
        chk (inb (0 : Int32) (h6.len a17)) <|
        ob (h6.R a17 (ix (0 : Int32))) fun a20 =>
        chk (h6.kind a20 = 32) <|
        chk (inb p1 (h6.len a20)) <|
        some (h6.I a20 (ix p1), h6)
      )
    ) else (
      some ((-1 : Int32), h6)
    )
  )
def F_X3_isPoint (n : Nat) (K : Nat → Nat) (p0 : Int32) (p1 : Int32) (h : AH) : Option (Int32 × AH) :=
  bnd (F_X3_in n K p0.toInt64 (0 : Int64) (99 : Int64) h) fun r1 h2 =>
  if r1 = 0 then (
    some ((0 : Int32), h2)
  ) else (
    bnd (F_X3_in n K p1.toInt64 (0 : Int64) (99 : Int64) h2) fun r4 h5 =>
    if r4 = 0 then (
      some ((0 : Int32), h5)
    ) else (
      some ((1 : Int32), h5)
    )
  )
def F_X3_propose (n : Nat) (K : Nat → Nat) (p0 : Nat) (p1 : Int32) (p2 : Int32) (h : AH) : Option (Int32 × AH) :=
  chk (h.kind p0 = 5) <|
  bnd (F_X3_voters n K p0 h) fun r1 h2 =>
  if r1 = 0 then (
    some ((-1 : Int32), h2)
  ) else (
    bnd (F_X3_isPoint n K p1 p2 h2) fun r5 h6 =>
    if r5 = 0 then (
      some ((-1 : Int32), h6)
    ) else (
      chk (h6.kind p0 = 5) <|
      bnd (F_X3_places n K p0 h6) fun r8 h9 =>
      if ¬ r8 = (20 : Int32) then (
        chk (h9.kind p0 = 5) <|
        ob (h9.R p0 12) fun a13 =>
        chk (h9.kind a13 = 35) <|
        chk (inb (0 : Int32) (h9.len a13)) <|
        bnd (F_X3_places n K p0 h9) fun r16 h17 =>
        ob (h9.R a13 (ix (0 : Int32))) fun a18 =>
        chk (h17.kind a18 = 32) <|
        chk (inb r16 (h17.len a18)) <|
        hl (h17.setI a18 (ix r16) p1) fun h21 =>
        chk (h21.kind p0 = 5) <|
        ob (h21.R p0 13) fun a24 =>
        chk (h21.kind a24 = 35) <|
        chk (inb (0 : Int32) (h21.len a24)) <|
        bnd (F_X3_places n K p0 h21) fun r27 h28 =>
        ob (h21.R a24 (ix (0 : Int32))) fun a29 =>
        chk (h28.kind a29 = 32) <|
        chk (inb r27 (h28.len a29)) <|
        hl (h28.setI a29 (ix r27) p2) fun h32 =>
        chk (h32.kind p0 = 5) <|
        ob (h32.R p0 15) fun a35 =>
        chk (h32.kind a35 = 32) <|
        chk (inb (0 : Int32) (h32.len a35)) <|
        chk (inb (0 : Int32) (h32.len a35)) <|
        hl (h32.setI a35 (ix (0 : Int32)) ((h32.I a35 (ix (0 : Int32))) + (1 : Int32))) fun h39 =>
        bnd (F_X3_places n K p0 h39) fun r41 h42 =>
        some (r41 - (1 : Int32), h42)
      ) else (
        some ((-1 : Int32), h9)
      )
    )
  )
def F_X3_wayFrom (n : Nat) (K : Nat → Nat) (p0 : Nat) (p1 : Int32) (p2 : Int32) (p3 : Int32) (p4 : Int32) (p5 : Int32) (h : AH) : Option (Int32 × AH) :=
  chk (h.kind p0 = 5) <|
  ob (h.R p0 10) fun a2 =>
  chk (h.kind a2 = 35) <|
  chk (inb (0 : Int32) (h.len a2)) <|
  ob (h.R a2 (ix (0 : Int32))) fun a5 =>
  chk (h.kind a5 = 32) <|
  chk (inb p1 (h.len a5)) <|
  ob (h.R p0 11) fun a8 =>
  chk (h.kind a8 = 35) <|
  chk (inb (0 : Int32) (h.len a8)) <|
  ob (h.R a8 (ix (0 : Int32))) fun a11 =>
  chk (h.kind a11 = 32) <|
  chk (inb p1 (h.len a11)) <|
  ob (h.R p0 9) fun a14 =>
  chk (h.kind a14 = 35) <|
  chk (inb (0 : Int32) (h.len a14)) <|
  ob (h.R a14 (ix (0 : Int32))) fun a17 =>
  chk (h.kind a17 = 32) <|
  chk (inb p1 (h.len a17)) <|
  if (h.I a17 (ix p1)) = (0 : Int32) then (
    some ((((if 0 ≤ (p4 - p2) then (p4 - p2) else 0 - (p4 - p2)) * (h.I a5 (ix p1))) * ((if 0 ≤ (p4 - p2) then (p4 - p2) else 0 - (p4 - p2)) * (h.I a5 (ix p1)))) + (((if 0 ≤ (p5 - p3) then (p5 - p3) else 0 - (p5 - p3)) * (h.I a11 (ix p1))) * ((if 0 ≤ (p5 - p3) then (p5 - p3) else 0 - (p5 - p3)) * (h.I a11 (ix p1)))), h)
  ) else
  if (h.I a17 (ix p1)) = (1 : Int32) then (
    some (((if 0 ≤ (p4 - p2) then (p4 - p2) else 0 - (p4 - p2)) * (h.I a5 (ix p1))) + ((if 0 ≤ (p5 - p3) then (p5 - p3) else 0 - (p5 - p3)) * (h.I a11 (ix p1))), h)
  ) else
  if (h.I a17 (ix p1)) = (2 : Int32) then (
    some (if ((if 0 ≤ (p4 - p2) then (p4 - p2) else 0 - (p4 - p2)) * (h.I a5 (ix p1))) < ((if 0 ≤ (p5 - p3) then (p5 - p3) else 0 - (p5 - p3)) * (h.I a11 (ix p1))) then ((if 0 ≤ (p5 - p3) then (p5 - p3) else 0 - (p5 - p3)) * (h.I a11 (ix p1))) else ((if 0 ≤ (p4 - p2) then (p4 - p2) else 0 - (p4 - p2)) * (h.I a5 (ix p1))), h)
  ) else
  (
    some ((if 0 ≤ (p4 - p2) then (p4 - p2) else 0 - (p4 - p2)) * (h.I a5 (ix p1)), h)
  )
def F_X3_wayOf (n : Nat) (K : Nat → Nat) (p0 : Nat) (p1 : Int32) (p2 : Int32) (p3 : Int32) (h : AH) : Option (Int32 × AH) :=
  chk (h.kind p0 = 5) <|
  ob (h.R p0 6) fun a2 =>
  chk (h.kind a2 = 35) <|
  chk (inb (0 : Int32) (h.len a2)) <|
  ob (h.R a2 (ix (0 : Int32))) fun a5 =>
  chk (h.kind a5 = 32) <|
  chk (inb p1 (h.len a5)) <|
  ob (h.R p0 7) fun a8 =>
  chk (h.kind a8 = 35) <|
  chk (inb (0 : Int32) (h.len a8)) <|
  ob (h.R a8 (ix (0 : Int32))) fun a11 =>
  chk (h.kind a11 = 32) <|
  chk (inb p1 (h.len a11)) <|
  bnd (F_X3_wayFrom n K p0 p1 (h.I a5 (ix p1)) (h.I a11 (ix p1)) p2 p3 h) fun r14 h15 =>
  some (r14, h15)
def F_X3_way (n : Nat) (K : Nat → Nat) (p0 : Nat) (p1 : Int32) (p2 : Int32) (p3 : Int32) (h : AH) : Option (Int32 × AH) :=
  chk (h.kind p0 = 5) <|
  bnd (F_X3_isVoter n K p0 p1 h) fun r1 h2 =>
  if r1 = 0 then (
    some ((-1 : Int32), h2)
  ) else (
    bnd (F_X3_isPoint n K p2 p3 h2) fun r5 h6 =>
    if r5 = 0 then (
      some ((-1 : Int32), h6)
    ) else (
      chk (h6.kind p0 = 5) <|
      bnd (F_X3_wayOf n K p0 p1 p2 p3 h6) fun r8 h9 =>
      some (r8, h9)
    )
  )
def F_X3_forOf_L6 (n : Nat) (K : Nat → Nat) (y4 : Nat) (y5 : Int32) (y6 : Int32) (y7 : Int32) (y8 : Int32) : Nat → Int32 → Int32 → AH → Option (Int32 × AH)
  | 0, _, _, _ => none
  | f + 1, x2, x3, h =>
    chk (h.kind y4 = 5) <|
    bnd (F_X3_voters n K y4 h) fun r9 h10 =>
    if r9 ≤ x2 then (
      some (x3, h10)
    ) else (
      chk (h10.kind y4 = 5) <|
      bnd (F_X3_wayOf n K y4 x2 y5 y6 h10) fun r13 h14 =>
      chk (h14.kind y4 = 5) <|
      bnd (F_X3_wayOf n K y4 x2 y7 y8 h14) fun r16 h17 =>
      if r16 ≤ r13 then (
        F_X3_forOf_L6 n K y4 y5 y6 y7 y8 f (x2 + (1 : Int32)) x3 h17
      ) else (
        chk (h17.kind y4 = 5) <|
        ob (h17.R y4 8) fun a21 =>
        chk (h17.kind a21 = 35) <|
        chk (inb (0 : Int32) (h17.len a21)) <|
        ob (h17.R a21 (ix (0 : Int32))) fun a24 =>
        chk (h17.kind a24 = 32) <|
        chk (inb x2 (h17.len a24)) <|
        F_X3_forOf_L6 n K y4 y5 y6 y7 y8 f (x2 + (1 : Int32)) (x3 + (h17.I a24 (ix x2))) h17
      )
    )
def F_X3_forOf (n : Nat) (K : Nat → Nat) (p0 : Nat) (p1 : Int32) (p2 : Int32) (p3 : Int32) (p4 : Int32) (h : AH) : Option (Int32 × AH) :=
  F_X3_forOf_L6 n K p0 p1 p2 p3 p4 n (0 : Int32) (0 : Int32) h
def F_X3_votesOf (n : Nat) (K : Nat → Nat) (p0 : Nat) (p1 : Int32) (p2 : Int32) (h : AH) : Option (Int32 × AH) :=
  chk (h.kind p0 = 5) <|
  ob (h.R p0 12) fun a2 =>
  chk (h.kind a2 = 35) <|
  chk (inb (0 : Int32) (h.len a2)) <|
  ob (h.R a2 (ix (0 : Int32))) fun a5 =>
  chk (h.kind a5 = 32) <|
  chk (inb p1 (h.len a5)) <|
  ob (h.R p0 13) fun a8 =>
  chk (h.kind a8 = 35) <|
  chk (inb (0 : Int32) (h.len a8)) <|
  ob (h.R a8 (ix (0 : Int32))) fun a11 =>
  chk (h.kind a11 = 32) <|
  chk (inb p1 (h.len a11)) <|
  ob (h.R p0 12) fun a14 =>
  chk (h.kind a14 = 35) <|
  chk (inb (0 : Int32) (h.len a14)) <|
  ob (h.R a14 (ix (0 : Int32))) fun a17 =>
  chk (h.kind a17 = 32) <|
  chk (inb p2 (h.len a17)) <|
  ob (h.R p0 13) fun a20 =>
  chk (h.kind a20 = 35) <|
  chk (inb (0 : Int32) (h.len a20)) <|
  ob (h.R a20 (ix (0 : Int32))) fun a23 =>
  chk (h.kind a23 = 32) <|
  chk (inb p2 (h.len a23)) <|
  bnd (F_X3_forOf n K p0 (h.I a5 (ix p1)) (h.I a11 (ix p1)) (h.I a17 (ix p2)) (h.I a23 (ix p2)) h) fun r26 h27 =>
  some (r26, h27)
def F_X3_votes (n : Nat) (K : Nat → Nat) (p0 : Nat) (p1 : Int32) (p2 : Int32) (h : AH) : Option (Int32 × AH) :=
  chk (h.kind p0 = 5) <|
  bnd (F_X3_isPlace n K p0 p1 h) fun r1 h2 =>
  if r1 = 0 then (
    some ((-1 : Int32), h2)
  ) else (
    chk (h2.kind p0 = 5) <|
    bnd (F_X3_isPlace n K p0 p2 h2) fun r5 h6 =>
    if r5 = 0 then (
      some ((-1 : Int32), h6)
    ) else (
      chk (h6.kind p0 = 5) <|
      bnd (F_X3_votesOf n K p0 p1 p2 h6) fun r9 h10 =>
      some (r9, h10)
    )
  )
def F_X3_total_L4 (n : Nat) (K : Nat → Nat) (y4 : Nat) : Nat → Int32 → Int32 → AH → Option (Int32 × AH)
  | 0, _, _, _ => none
  | f + 1, x2, x3, h =>
    chk (h.kind y4 = 5) <|
    bnd (F_X3_voters n K y4 h) fun r5 h6 =>
    if r5 ≤ x2 then (
      some (x3, h6)
    ) else (
      chk (h6.kind y4 = 5) <|
      ob (h6.R y4 8) fun a10 =>
      chk (h6.kind a10 = 35) <|
      chk (inb (0 : Int32) (h6.len a10)) <|
      ob (h6.R a10 (ix (0 : Int32))) fun a13 =>
      chk (h6.kind a13 = 32) <|
      chk (inb x2 (h6.len a13)) <|
      F_X3_total_L4 n K y4 f (x2 + (1 : Int32)) (x3 + (h6.I a13 (ix x2))) h6
    )
def F_X3_total (n : Nat) (K : Nat → Nat) (p0 : Nat) (h : AH) : Option (Int32 × AH) :=
  F_X3_total_L4 n K p0 n (0 : Int32) (0 : Int32) h
def F_X3_isWon (n : Nat) (K : Nat → Nat) (p0 : Nat) (p1 : Int32) (p2 : Int32) (h : AH) : Option (Int32 × AH) :=
  chk (h.kind p0 = 5) <|
  ob (h.R p0 16) fun a2 =>
  chk (h.kind a2 = 32) <|
  chk (inb (0 : Int32) (h.len a2)) <|
  if ¬ (h.I a2 (ix (0 : Int32))) = 0 then (
    ob (h.R p0 17) fun a6 =>
    chk (h.kind a6 = 32) <|
    chk (inb (0 : Int32) (h.len a6)) <|
    bnd (F_X3_total n K p0 h) fun r9 h10 =>
    chk (h10.kind p0 = 5) <|
    ob (h10.R p0 16) fun a12 =>
    chk (h10.kind a12 = 32) <|
    chk (inb (0 : Int32) (h10.len a12)) <|
    if ¬ (h10.I a12 (ix (0 : Int32))) = (1 : Int32) then (
      ob (h10.R p0 18) fun a16 =>
      chk (h10.kind a16 = 32) <|
      chk (inb (0 : Int32) (h10.len a16)) <|
      if (p1 * (h10.I a16 (ix (0 : Int32)))) < ((h.I a6 (ix (0 : Int32))) * r9) then (
        some ((0 : Int32), h10)
      ) else (
        if p1 ≤ p2 then (
          some ((0 : Int32), h10)
        ) else (
          some ((1 : Int32), h10)
        )
      )
    ) else (
      ob (h10.R p0 18) fun a21 =>
      chk (h10.kind a21 = 32) <|
      chk (inb (0 : Int32) (h10.len a21)) <|
      if (p1 * (h10.I a21 (ix (0 : Int32)))) ≤ ((h.I a6 (ix (0 : Int32))) * r9) then (
        some ((0 : Int32), h10)
      ) else (
        some ((1 : Int32), h10)
      )
    )
  ) else (
    if p1 ≤ p2 then (
      some ((0 : Int32), h)
    ) else (
      some ((1 : Int32), h)
    )
  )
def F_X3_beatsAt (n : Nat) (K : Nat → Nat) (p0 : Nat) (p1 : Int32) (p2 : Int32) (p3 : Int32) (p4 : Int32) (h : AH) : Option (Int32 × AH) :=
  chk (h.kind p0 = 5) <|
  bnd (F_X3_forOf n K p0 p1 p2 p3 p4 h) fun r1 h2 =>
  chk (h2.kind p0 = 5) <|
  bnd (F_X3_forOf n K p0 p3 p4 p1 p2 h2) fun r4 h5 =>
  chk (h5.kind p0 = 5) <|
  bnd (F_X3_isWon n K p0 r1 r4 h5) fun r7 h8 =>
  chk (r7 = 0 ∨ r7 = 1) <|
  some (r7, h8)
def F_X3_beatsOf (n : Nat) (K : Nat → Nat) (p0 : Nat) (p1 : Int32) (p2 : Int32) (h : AH) : Option (Int32 × AH) :=
  chk (h.kind p0 = 5) <|
  ob (h.R p0 12) fun a2 =>
  chk (h.kind a2 = 35) <|
  chk (inb (0 : Int32) (h.len a2)) <|
  ob (h.R a2 (ix (0 : Int32))) fun a5 =>
  chk (h.kind a5 = 32) <|
  chk (inb p1 (h.len a5)) <|
  ob (h.R p0 13) fun a8 =>
  chk (h.kind a8 = 35) <|
  chk (inb (0 : Int32) (h.len a8)) <|
  ob (h.R a8 (ix (0 : Int32))) fun a11 =>
  chk (h.kind a11 = 32) <|
  chk (inb p1 (h.len a11)) <|
  ob (h.R p0 12) fun a14 =>
  chk (h.kind a14 = 35) <|
  chk (inb (0 : Int32) (h.len a14)) <|
  ob (h.R a14 (ix (0 : Int32))) fun a17 =>
  chk (h.kind a17 = 32) <|
  chk (inb p2 (h.len a17)) <|
  ob (h.R p0 13) fun a20 =>
  chk (h.kind a20 = 35) <|
  chk (inb (0 : Int32) (h.len a20)) <|
  ob (h.R a20 (ix (0 : Int32))) fun a23 =>
  chk (h.kind a23 = 32) <|
  chk (inb p2 (h.len a23)) <|
  bnd (F_X3_beatsAt n K p0 (h.I a5 (ix p1)) (h.I a11 (ix p1)) (h.I a17 (ix p2)) (h.I a23 (ix p2)) h) fun r26 h27 =>
  chk (r26 = 0 ∨ r26 = 1) <|
  some (r26, h27)
def F_X3_beats (n : Nat) (K : Nat → Nat) (p0 : Nat) (p1 : Int32) (p2 : Int32) (h : AH) : Option (Int32 × AH) :=
  chk (h.kind p0 = 5) <|
  bnd (F_X3_isPlace n K p0 p1 h) fun r1 h2 =>
  if r1 = 0 then (
    some ((0 : Int32), h2)
  ) else (
    chk (h2.kind p0 = 5) <|
    bnd (F_X3_isPlace n K p0 p2 h2) fun r5 h6 =>
    if r5 = 0 then (
      some ((0 : Int32), h6)
    ) else (
      chk (h6.kind p0 = 5) <|
      bnd (F_X3_beatsOf n K p0 p1 p2 h6) fun r9 h10 =>
      if r9 = 0 then (
        some ((0 : Int32), h10)
      ) else (
        some ((1 : Int32), h10)
      )
    )
  )
def F_X3_wins (n : Nat) (K : Nat → Nat) (p0 : Nat) (p1 : Int32) (p2 : Int32) (h : AH) : Option (Int32 × AH) :=
  chk (h.kind p0 = 5) <|
  bnd (F_X3_voters n K p0 h) fun r1 h2 =>
  if r1 = 0 then (
    some ((0 : Int32), h2)
  ) else (
    bnd (F_X3_in n K p1.toInt64 (0 : Int64) (9999 : Int64) h2) fun r5 h6 =>
    if r5 = 0 then (
      some ((0 : Int32), h6)
    ) else (
      bnd (F_X3_in n K p2.toInt64 (0 : Int64) (9999 : Int64) h6) fun r8 h9 =>
      if ¬ r8 = 0 then (
        chk (h9.kind p0 = 5) <|
        bnd (F_X3_beatsAt n K p0 (p1 / (100 : Int32)) (p1 - p1 / (100 : Int32) * (100 : Int32)) (p2 / (100 : Int32)) (p2 - p2 / (100 : Int32) * (100 : Int32)) h9) fun r11 h12 =>
        chk (r11 = 0 ∨ r11 = 1) <|
        some (r11, h12)
      ) else (
        some ((0 : Int32), h9)
      )
    )
  )
def F_X3_gcd_L28 (n : Nat) (K : Nat → Nat) (h : AH) : Nat → Int64 → Int64 → Option (Int64 × AH)
  | 0, _, _ => none
  | f + 1, x6, x7 =>
    if (lg_cmp x6 (0 : Int64)) ≤ 0 then (
      some (x7, h)
    ) else (
      chk (¬ x6 = 0) <|
      F_X3_gcd_L28 n K h f (x7 - x7 / x6 * x6) x6
    )
def F_X3_gcd (n : Nat) (K : Nat → Nat) (p0 : Int64) (p2 : Int64) (h : AH) : Option (Int64 × AH) :=
  jn (α := Int64 → Option (Int64 × AH)) (fun x1 =>
    jn (α := Int64 → Option (Int64 × AH)) (fun x3 =>
      F_X3_gcd_L28 n K h n x3 x1
    ) fun j4 =>
    if 0 ≤ (lg_cmp p2 (0 : Int64)) then (
      j4 p2
    ) else (
      j4 (-p2)
    )
  ) fun j2 =>
  if 0 ≤ (lg_cmp p0 (0 : Int64)) then (
    j2 p0
  ) else (
    j2 (-p0)
  )
def F_X3_halves_L9 (n : Nat) (K : Nat → Nat) (y5 : Nat) (y6 : Int32) (y7 : Int32) (y8 : Int32) : Nat → Int32 → Int32 → Int32 → AH → Option (Int32 × AH)
  | 0, _, _, _, _ => none
  | f + 1, x2, x3, x4, h =>
    chk (h.kind y5 = 5) <|
    bnd (F_X3_voters n K y5 h) fun r9 h10 =>
    if r9 ≤ x2 then (
      chk (h10.kind y5 = 5) <|
      bnd (F_X3_total n K y5 h10) fun r13 h14 =>
      if r13 < ((2 : Int32) * x4) then (
        some ((0 : Int32), h14)
      ) else (
        chk (h14.kind y5 = 5) <|
        bnd (F_X3_total n K y5 h14) fun r17 h18 =>
        if r17 < ((2 : Int32) * x3) then (
          some ((0 : Int32), h18)
        ) else (
          some ((1 : Int32), h18)
        )
      )
    ) else (
      chk (h10.kind y5 = 5) <|
      ob (h10.R y5 6) fun a22 =>
      chk (h10.kind a22 = 35) <|
      chk (inb (0 : Int32) (h10.len a22)) <|
      ob (h10.R a22 (ix (0 : Int32))) fun a25 =>
      chk (h10.kind a25 = 32) <|
      chk (inb x2 (h10.len a25)) <|
      ob (h10.R y5 7) fun a28 =>
      chk (h10.kind a28 = 35) <|
      chk (inb (0 : Int32) (h10.len a28)) <|
      ob (h10.R a28 (ix (0 : Int32))) fun a31 =>
      chk (h10.kind a31 = 32) <|
      chk (inb x2 (h10.len a31)) <|
      jn (α := Int32 → Option (Int32 × AH)) (fun x34 =>
        if y8 ≤ ((y6 * (h10.I a25 (ix x2))) + (y7 * (h10.I a31 (ix x2)))) then (
          F_X3_halves_L9 n K y5 y6 y7 y8 f (x2 + (1 : Int32)) (x3 + (0 : Int32)) (x4 + x34) h10
        ) else (
          ob (h10.R y5 8) fun a37 =>
          chk (h10.kind a37 = 35) <|
          chk (inb (0 : Int32) (h10.len a37)) <|
          ob (h10.R a37 (ix (0 : Int32))) fun a40 =>
          chk (h10.kind a40 = 32) <|
          chk (inb x2 (h10.len a40)) <|
          F_X3_halves_L9 n K y5 y6 y7 y8 f (x2 + (1 : Int32)) (x3 + (h10.I a40 (ix x2))) (x4 + x34) h10
        )
      ) fun j35 =>
      if ((y6 * (h10.I a25 (ix x2))) + (y7 * (h10.I a31 (ix x2)))) ≤ y8 then (
        j35 (0 : Int32)
      ) else (
        ob (h10.R y5 8) fun a45 =>
        chk (h10.kind a45 = 35) <|
        chk (inb (0 : Int32) (h10.len a45)) <|
        ob (h10.R a45 (ix (0 : Int32))) fun a48 =>
        chk (h10.kind a48 = 32) <|
        chk (inb x2 (h10.len a48)) <|
        j35 (h10.I a48 (ix x2))
      )
    )
def F_X3_halves (n : Nat) (K : Nat → Nat) (p0 : Nat) (p1 : Int32) (p2 : Int32) (p3 : Int32) (h : AH) : Option (Int32 × AH) :=
  F_X3_halves_L9 n K p0 p1 p2 p3 n (0 : Int32) (0 : Int32) (0 : Int32) h
def F_X3_isAhead (n : Nat) (K : Nat → Nat) (p0 : Nat) (p1 : Int32) (p2 : Int32) (p3 : Int32) (p4 : Int32) (h : AH) : Option (Int32 × AH) :=
  jn (α := Int32 → Option (Int32 × AH)) (fun x1 =>
    chk (h.kind p0 = 5) <|
    ob (h.R p0 24) fun a4 =>
    chk (h.kind a4 = 32) <|
    chk (inb p4 (h.len a4)) <|
    jn (α := Int32 → Option (Int32 × AH)) (fun x7 =>
      if x1 = x7 then (
        ob (h.R p0 24) fun a10 =>
        chk (h.kind a10 = 32) <|
        chk (inb p4 (h.len a10)) <|
        ob (h.R p0 25) fun a13 =>
        chk (h.kind a13 = 32) <|
        chk (inb p4 (h.len a13)) <|
        if ((p2 * (h.I a10 (ix p4))) - ((h.I a13 (ix p4)) * p1)) = 0 then (
          ob (h.R p0 26) fun a17 =>
          chk (h.kind a17 = 32) <|
          chk (inb p4 (h.len a17)) <|
          if (h.I a17 (ix p4)) ≤ p3 then (
            some ((0 : Int32), h)
          ) else (
            some ((1 : Int32), h)
          )
        ) else (
          if 0 ≤ ((p2 * (h.I a10 (ix p4))) - ((h.I a13 (ix p4)) * p1)) then (
            some ((0 : Int32), h)
          ) else (
            some ((1 : Int32), h)
          )
        )
      ) else (
        if p1 = 0 then (
          some ((0 : Int32), h)
        ) else (
          some ((1 : Int32), h)
        )
      )
    ) fun j8 =>
    if ¬ (h.I a4 (ix p4)) = 0 then (
      j8 (0 : Int32)
    ) else (
      j8 (1 : Int32)
    )
  ) fun j2 =>
  if ¬ p1 = 0 then (
    j2 (0 : Int32)
  ) else (
    j2 (1 : Int32)
  )
def F_X3_addsLine_L3 (n : Nat) (K : Nat → Nat) (y3 : Nat) (y4 : Int32) (y5 : Int32) (y6 : Int32) (h : AH) : Nat → Int32 → (Option (Unit × AH)) → Option (Unit × AH)
  | 0, _, _ => none
  | f + 1, x2, k =>
    chk (h.kind y3 = 5) <|
    if (h.I y3 27) ≤ x2 then (
      k
    ) else (
      ob (h.R y3 24) fun a9 =>
      chk (h.kind a9 = 32) <|
      chk (inb x2 (h.len a9)) <|
      if ¬ (h.I a9 (ix x2)) = y4 then (
        F_X3_addsLine_L3 n K y3 y4 y5 y6 h f (x2 + (1 : Int32)) k
      ) else (
        ob (h.R y3 25) fun a13 =>
        chk (h.kind a13 = 32) <|
        chk (inb x2 (h.len a13)) <|
        if ¬ (h.I a13 (ix x2)) = y5 then (
          F_X3_addsLine_L3 n K y3 y4 y5 y6 h f (x2 + (1 : Int32)) k
        ) else (
          ob (h.R y3 26) fun a17 =>
          chk (h.kind a17 = 32) <|
          chk (inb x2 (h.len a17)) <|
          if ¬ (h.I a17 (ix x2)) = y6 then (
            F_X3_addsLine_L3 n K y3 y4 y5 y6 h f (x2 + (1 : Int32)) k
          ) else (
            some ((), h)
          )
        )
      )
    )
def F_X3_addsLine_L58 (n : Nat) (K : Nat → Nat) (y24 : Nat) (y25 : Int32) (y26 : Int32) (y27 : Int32) : Nat → Int32 → AH → Option (Unit × AH)
  | 0, _, _ => none
  | f + 1, x23, h =>
    jn (α := AH → Option (Unit × AH)) (fun h28 =>
      chk (h28.kind y24 = 5) <|
      ob (h28.R y24 24) fun a31 =>
      chk (h28.kind a31 = 32) <|
      chk (inb x23 (h28.len a31)) <|
      hl (h28.setI a31 (ix x23) y25) fun h34 =>
      ob (h34.R y24 25) fun a36 =>
      chk (h34.kind a36 = 32) <|
      chk (inb x23 (h34.len a36)) <|
      hl (h34.setI a36 (ix x23) y26) fun h39 =>
      ob (h39.R y24 26) fun a41 =>
      chk (h39.kind a41 = 32) <|
      chk (inb x23 (h39.len a41)) <|
      hl (h39.setI a41 (ix x23) y27) fun h44 =>
      hl (h44.setI y24 27 ((h44.I y24 27) + (1 : Int32))) fun h46 =>
      some ((), h46)
    ) fun j29 =>
    if x23 ≤ 0 then (
      j29 h
    ) else (
      chk (h.kind y24 = 5) <|
      bnd (F_X3_isAhead n K y24 y25 y26 y27 (x23 - (1 : Int32)) h) fun r50 h51 =>
      if r50 = 0 then (
        j29 h51
      ) else (
        chk (h51.kind y24 = 5) <|
        ob (h51.R y24 24) fun a55 =>
        chk (h51.kind a55 = 32) <|
        chk (inb (x23 - (1 : Int32)) (h51.len a55)) <|
        chk (inb x23 (h51.len a55)) <|
        hl (h51.setI a55 (ix x23) (h51.I a55 (ix (x23 - (1 : Int32))))) fun h59 =>
        ob (h59.R y24 25) fun a61 =>
        chk (h59.kind a61 = 32) <|
        chk (inb (x23 - (1 : Int32)) (h59.len a61)) <|
        chk (inb x23 (h59.len a61)) <|
        hl (h59.setI a61 (ix x23) (h59.I a61 (ix (x23 - (1 : Int32))))) fun h65 =>
        ob (h65.R y24 26) fun a67 =>
        chk (h65.kind a67 = 32) <|
        chk (inb (x23 - (1 : Int32)) (h65.len a67)) <|
        chk (inb x23 (h65.len a67)) <|
        hl (h65.setI a67 (ix x23) (h65.I a67 (ix (x23 - (1 : Int32))))) fun h71 =>
        F_X3_addsLine_L58 n K y24 y25 y26 y27 f (x23 + (-1 : Int32)) h71
      )
    )
def F_X3_addsLine (n : Nat) (K : Nat → Nat) (p0 : Nat) (p1 : Int32) (p2 : Int32) (p3 : Int32) (h : AH) : Option (Unit × AH) :=
  F_X3_addsLine_L3 n K p0 p1 p2 p3 h n (0 : Int32) <|
  chk (h.kind p0 = 5) <|
  F_X3_addsLine_L58 n K p0 p1 p2 p3 n (h.I p0 27) h
def F_X3_through (n : Nat) (K : Nat → Nat) (p0 : Nat) (p1 : Int32) (p2 : Int32) (h : AH) : Option (Unit × AH) :=
  chk (h.kind p0 = 5) <|
  ob (h.R p0 7) fun a2 =>
  chk (h.kind a2 = 35) <|
  chk (inb (0 : Int32) (h.len a2)) <|
  ob (h.R a2 (ix (0 : Int32))) fun a5 =>
  chk (h.kind a5 = 32) <|
  chk (inb p2 (h.len a5)) <|
  ob (h.R p0 7) fun a8 =>
  chk (h.kind a8 = 35) <|
  chk (inb (0 : Int32) (h.len a8)) <|
  ob (h.R a8 (ix (0 : Int32))) fun a11 =>
  chk (h.kind a11 = 32) <|
  chk (inb p1 (h.len a11)) <|
  ob (h.R p0 6) fun a14 =>
  chk (h.kind a14 = 35) <|
  chk (inb (0 : Int32) (h.len a14)) <|
  ob (h.R a14 (ix (0 : Int32))) fun a17 =>
  chk (h.kind a17 = 32) <|
  chk (inb p1 (h.len a17)) <|
  ob (h.R p0 6) fun a20 =>
  chk (h.kind a20 = 35) <|
  chk (inb (0 : Int32) (h.len a20)) <|
  ob (h.R a20 (ix (0 : Int32))) fun a23 =>
  chk (h.kind a23 = 32) <|
  chk (inb p2 (h.len a23)) <|
  jn (α := Option (Unit × AH)) (
    bnd (F_X3_gcd n K (((h.I a5 (ix p2)) - (h.I a11 (ix p1))).toInt64) (((h.I a17 (ix p1)) - (h.I a23 (ix p2))).toInt64) h) fun r27 h28 =>
    jn (α := Int32 → Option (Unit × AH)) (fun x29 =>
      chk (¬ x29 = 0) <|
      chk (¬ x29 = 0) <|
      chk (h28.kind p0 = 5) <|
      ob (h28.R p0 6) fun a34 =>
      chk (h28.kind a34 = 35) <|
      chk (inb (0 : Int32) (h28.len a34)) <|
      ob (h28.R a34 (ix (0 : Int32))) fun a37 =>
      chk (h28.kind a37 = 32) <|
      chk (inb p1 (h28.len a37)) <|
      ob (h28.R p0 7) fun a40 =>
      chk (h28.kind a40 = 35) <|
      chk (inb (0 : Int32) (h28.len a40)) <|
      ob (h28.R a40 (ix (0 : Int32))) fun a43 =>
      chk (h28.kind a43 = 32) <|
      chk (inb p1 (h28.len a43)) <|
      bnd (F_X3_halves n K p0 (((h.I a5 (ix p2)) - (h.I a11 (ix p1))) / x29) (((h.I a17 (ix p1)) - (h.I a23 (ix p2))) / x29) (((((h.I a5 (ix p2)) - (h.I a11 (ix p1))) / x29) * (h28.I a37 (ix p1))) + ((((h.I a17 (ix p1)) - (h.I a23 (ix p2))) / x29) * (h28.I a43 (ix p1)))) h28) fun r46 h47 =>
      if r46 = 0 then (
        some ((), h47)
      ) else (
        chk (h47.kind p0 = 5) <|
        bnd (F_X3_addsLine n K p0 (((h.I a5 (ix p2)) - (h.I a11 (ix p1))) / x29) (((h.I a17 (ix p1)) - (h.I a23 (ix p2))) / x29) (((((h.I a5 (ix p2)) - (h.I a11 (ix p1))) / x29) * (h28.I a37 (ix p1))) + ((((h.I a17 (ix p1)) - (h.I a23 (ix p2))) / x29) * (h28.I a43 (ix p1)))) h47) fun _ h50 =>
        some ((), h50)
      )
    ) fun j30 =>
    if ((h.I a5 (ix p2)) - (h.I a11 (ix p1))) < 0 then (
      j30 (-r27.toInt32)
    ) else (
      if ¬ ((h.I a5 (ix p2)) - (h.I a11 (ix p1))) = 0 then (
        j30 r27.toInt32
      ) else (
        if 0 ≤ ((h.I a17 (ix p1)) - (h.I a23 (ix p2))) then (
          j30 r27.toInt32
        ) else (
          j30 (-r27.toInt32)
        )
      )
    )
  ) fun j26 =>
  if ¬ ((h.I a5 (ix p2)) - (h.I a11 (ix p1))) = 0 then (
    j26
  ) else (
    if ¬ ((h.I a17 (ix p1)) - (h.I a23 (ix p2))) = 0 then (
      j26
    ) else (
      some ((), h)
    )
  )
def F_X3_isMiddle_L84 (n : Nat) (K : Nat → Nat) (y35 : Int64) (y36 : Int64) (y37 : Int32) (y38 : Int32) (y39 : Nat) (y40 : Int64) (y41 : Int64) (y42 : Int64) : Nat → Int32 → Int32 → Int32 → Int32 → Int32 → AH → (Int32 → Int32 → Int32 → Int32 → AH → Option (Int32 × AH)) → Option (Int32 × AH)
  | 0, _, _, _, _, _, _, _ => none
  | f + 1, x30, x31, x32, x33, x34, h, k =>
    chk (h.kind y39 = 5) <|
    bnd (F_X3_voters n K y39 h) fun r43 h44 =>
    if r43 ≤ x30 then (
      k x31 x32 x33 x34 h44
    ) else (
      chk (h44.kind y39 = 5) <|
      ob (h44.R y39 6) fun a48 =>
      chk (h44.kind a48 = 35) <|
      chk (inb (0 : Int32) (h44.len a48)) <|
      ob (h44.R a48 (ix (0 : Int32))) fun a51 =>
      chk (h44.kind a51 = 32) <|
      chk (inb x30 (h44.len a51)) <|
      ob (h44.R y39 7) fun a54 =>
      chk (h44.kind a54 = 35) <|
      chk (inb (0 : Int32) (h44.len a54)) <|
      ob (h44.R a54 (ix (0 : Int32))) fun a57 =>
      chk (h44.kind a57 = 32) <|
      chk (inb x30 (h44.len a57)) <|
      ob (h44.R y39 8) fun a60 =>
      chk (h44.kind a60 = 35) <|
      chk (inb (0 : Int32) (h44.len a60)) <|
      ob (h44.R a60 (ix (0 : Int32))) fun a63 =>
      chk (h44.kind a63 = 32) <|
      chk (inb x30 (h44.len a63)) <|
      if (lg_cmp ((y36 * ((y42 * ((h44.I a57 (ix x30)).toInt64)) - y41)) - (y35 * ((y42 * ((h44.I a51 (ix x30)).toInt64)) - y40))) (0 : Int64)) ≤ 0 then (
        if 0 ≤ (lg_cmp ((y36 * ((y42 * ((h44.I a57 (ix x30)).toInt64)) - y41)) - (y35 * ((y42 * ((h44.I a51 (ix x30)).toInt64)) - y40))) (0 : Int64)) then (
          if (lg_cmp ((y36 * ((y42 * ((h44.I a51 (ix x30)).toInt64)) - y40)) + (y35 * ((y42 * ((h44.I a57 (ix x30)).toInt64)) - y41))) (0 : Int64)) ≤ 0 then (
            if 0 ≤ (lg_cmp ((y36 * ((y42 * ((h44.I a51 (ix x30)).toInt64)) - y40)) + (y35 * ((y42 * ((h44.I a57 (ix x30)).toInt64)) - y41))) (0 : Int64)) then (
              F_X3_isMiddle_L84 n K y35 y36 y37 y38 y39 y40 y41 y42 f (x30 + (1 : Int32)) x31 x32 x33 x34 h44 k
            ) else (
              F_X3_isMiddle_L84 n K y35 y36 y37 y38 y39 y40 y41 y42 f (x30 + (1 : Int32)) (x31 + (h44.I a63 (ix x30))) x32 x33 x34 h44 k
            )
          ) else (
            F_X3_isMiddle_L84 n K y35 y36 y37 y38 y39 y40 y41 y42 f (x30 + (1 : Int32)) x31 (x32 + (h44.I a63 (ix x30))) x33 x34 h44 k
          )
        ) else (
          F_X3_isMiddle_L84 n K y35 y36 y37 y38 y39 y40 y41 y42 f (x30 + (1 : Int32)) x31 x32 (x33 + (h44.I a63 (ix x30))) x34 h44 k
        )
      ) else (
        F_X3_isMiddle_L84 n K y35 y36 y37 y38 y39 y40 y41 y42 f (x30 + (1 : Int32)) x31 x32 x33 (x34 + (h44.I a63 (ix x30))) h44 k
      )
    )
def F_X3_isMiddle_L9 (n : Nat) (K : Nat → Nat) (y6 : Int32) (y7 : Nat) (y8 : Int64) (y9 : Int64) (y10 : Int64) : Nat → Int32 → AH → Option (Int32 × AH)
  | 0, _, _ => none
  | f + 1, x5, h =>
    chk (h.kind y7 = 5) <|
    bnd (F_X3_voters n K y7 h) fun r11 h12 =>
    if r11 ≤ x5 then (
      some ((1 : Int32), h12)
    ) else (
      chk (h12.kind y7 = 5) <|
      ob (h12.R y7 6) fun a16 =>
      chk (h12.kind a16 = 35) <|
      chk (inb (0 : Int32) (h12.len a16)) <|
      ob (h12.R a16 (ix (0 : Int32))) fun a19 =>
      chk (h12.kind a19 = 32) <|
      chk (inb x5 (h12.len a19)) <|
      ob (h12.R y7 7) fun a22 =>
      chk (h12.kind a22 = 35) <|
      chk (inb (0 : Int32) (h12.len a22)) <|
      ob (h12.R a22 (ix (0 : Int32))) fun a25 =>
      chk (h12.kind a25 = 32) <|
      chk (inb x5 (h12.len a25)) <|
      jn (α := Option (Int32 × AH)) (
        F_X3_isMiddle_L84 n K ((y10 * ((h12.I a25 (ix x5)).toInt64)) - y9) ((y10 * ((h12.I a19 (ix x5)).toInt64)) - y8) x5 y6 y7 y8 y9 y10 n (0 : Int32) (0 : Int32) (0 : Int32) (0 : Int32) (0 : Int32) h12 fun x70 x71 x72 x73 h74 =>
        if ((2 : Int32) * ((if x73 < x72 then x72 else x73) + (if x71 < x70 then x70 else x71))) ≤ y6 then (
          F_X3_isMiddle_L9 n K y6 y7 y8 y9 y10 f (x5 + (1 : Int32)) h74
        ) else (
          some ((0 : Int32), h74)
        )
      ) fun j28 =>
      if ¬ (lg_cmp ((y10 * ((h12.I a19 (ix x5)).toInt64)) - y8) (0 : Int64)) = 0 then (
        j28
      ) else (
        if ¬ (lg_cmp ((y10 * ((h12.I a25 (ix x5)).toInt64)) - y9) (0 : Int64)) = 0 then (
          j28
        ) else (
          F_X3_isMiddle_L9 n K y6 y7 y8 y9 y10 f (x5 + (1 : Int32)) h12
        )
      )
    )
def F_X3_isMiddle (n : Nat) (K : Nat → Nat) (p0 : Nat) (p1 : Int64) (p3 : Int64) (p5 : Int64) (h : AH) : Option (Int32 × AH) :=
  chk (h.kind p0 = 5) <|
  bnd (F_X3_total n K p0 h) fun r1 h2 =>
  F_X3_isMiddle_L9 n K r1 p0 p1 p3 p5 n (0 : Int32) h2
def F_X3_isBehind (n : Nat) (K : Nat → Nat) (p0 : Nat) (p1 : Int32) (p2 : Int64) (p4 : Int64) (p6 : Int64) (h : AH) : Option (Int32 × AH) :=
  chk (h.kind p0 = 5) <|
  ob (h.R p0 30) fun a2 =>
  chk (h.kind a2 = 33) <|
  chk (inb p1 (h.len a2)) <|
  ob (h.R p0 32) fun a5 =>
  chk (h.kind a5 = 33) <|
  chk (inb p1 (h.len a5)) <|
  if (lg_cmp (((h.L a2 (ix p1)) * p6) - (p2 * (h.L a5 (ix p1)))) (0 : Int64)) = 0 then (
    ob (h.R p0 31) fun a9 =>
    chk (h.kind a9 = 33) <|
    chk (inb p1 (h.len a9)) <|
    ob (h.R p0 32) fun a12 =>
    chk (h.kind a12 = 33) <|
    chk (inb p1 (h.len a12)) <|
    if (lg_cmp ((h.L a9 (ix p1)) * p6) (p4 * (h.L a12 (ix p1)))) ≤ 0 then (
      some ((0 : Int32), h)
    ) else (
      some ((1 : Int32), h)
    )
  ) else (
    if (lg_cmp (((h.L a2 (ix p1)) * p6) - (p2 * (h.L a5 (ix p1)))) (0 : Int64)) ≤ 0 then (
      some ((0 : Int32), h)
    ) else (
      some ((1 : Int32), h)
    )
  )
def F_X3_addsMiddle_L51 (n : Nat) (K : Nat → Nat) (y12 : Int64) (y13 : Int64) (y14 : Int64) (y15 : Nat) (h : AH) : Nat → Int32 → (Option (Unit × AH)) → Option (Unit × AH)
  | 0, _, _ => none
  | f + 1, x11, k =>
    chk (h.kind y15 = 5) <|
    if (h.I y15 28) ≤ x11 then (
      k
    ) else (
      ob (h.R y15 30) fun a18 =>
      chk (h.kind a18 = 33) <|
      chk (inb x11 (h.len a18)) <|
      if ¬ (lg_cmp (h.L a18 (ix x11)) y14) = 0 then (
        F_X3_addsMiddle_L51 n K y12 y13 y14 y15 h f (x11 + (1 : Int32)) k
      ) else (
        ob (h.R y15 31) fun a22 =>
        chk (h.kind a22 = 33) <|
        chk (inb x11 (h.len a22)) <|
        if ¬ (lg_cmp (h.L a22 (ix x11)) y13) = 0 then (
          F_X3_addsMiddle_L51 n K y12 y13 y14 y15 h f (x11 + (1 : Int32)) k
        ) else (
          ob (h.R y15 32) fun a26 =>
          chk (h.kind a26 = 33) <|
          chk (inb x11 (h.len a26)) <|
          if ¬ (lg_cmp (h.L a26 (ix x11)) y12) = 0 then (
            F_X3_addsMiddle_L51 n K y12 y13 y14 y15 h f (x11 + (1 : Int32)) k
          ) else (
            some ((), h)
          )
        )
      )
    )
def F_X3_addsMiddle_L126 (n : Nat) (K : Nat → Nat) (y37 : Int64) (y38 : Int64) (y39 : Int64) (y40 : Nat) : Nat → Int32 → AH → Option (Unit × AH)
  | 0, _, _ => none
  | f + 1, x36, h =>
    jn (α := AH → Option (Unit × AH)) (fun h41 =>
      chk (h41.kind y40 = 5) <|
      ob (h41.R y40 30) fun a44 =>
      chk (h41.kind a44 = 33) <|
      chk (inb x36 (h41.len a44)) <|
      hl (h41.setL a44 (ix x36) y39) fun h47 =>
      ob (h47.R y40 31) fun a49 =>
      chk (h47.kind a49 = 33) <|
      chk (inb x36 (h47.len a49)) <|
      hl (h47.setL a49 (ix x36) y38) fun h52 =>
      ob (h52.R y40 32) fun a54 =>
      chk (h52.kind a54 = 33) <|
      chk (inb x36 (h52.len a54)) <|
      hl (h52.setL a54 (ix x36) y37) fun h57 =>
      hl (h57.setI y40 28 ((h57.I y40 28) + (1 : Int32))) fun h59 =>
      some ((), h59)
    ) fun j42 =>
    if x36 ≤ 0 then (
      j42 h
    ) else (
      chk (h.kind y40 = 5) <|
      bnd (F_X3_isBehind n K y40 (x36 - (1 : Int32)) y39 y38 y37 h) fun r63 h64 =>
      if r63 = 0 then (
        j42 h64
      ) else (
        chk (h64.kind y40 = 5) <|
        ob (h64.R y40 30) fun a68 =>
        chk (h64.kind a68 = 33) <|
        chk (inb (x36 - (1 : Int32)) (h64.len a68)) <|
        chk (inb x36 (h64.len a68)) <|
        hl (h64.setL a68 (ix x36) (h64.L a68 (ix (x36 - (1 : Int32))))) fun h72 =>
        ob (h72.R y40 31) fun a74 =>
        chk (h72.kind a74 = 33) <|
        chk (inb (x36 - (1 : Int32)) (h72.len a74)) <|
        chk (inb x36 (h72.len a74)) <|
        hl (h72.setL a74 (ix x36) (h72.L a74 (ix (x36 - (1 : Int32))))) fun h78 =>
        ob (h78.R y40 32) fun a80 =>
        chk (h78.kind a80 = 33) <|
        chk (inb (x36 - (1 : Int32)) (h78.len a80)) <|
        chk (inb x36 (h78.len a80)) <|
        hl (h78.setL a80 (ix x36) (h78.L a80 (ix (x36 - (1 : Int32))))) fun h84 =>
        F_X3_addsMiddle_L126 n K y37 y38 y39 y40 f (x36 + (-1 : Int32)) h84
      )
    )
def F_X3_addsMiddle (n : Nat) (K : Nat → Nat) (p0 : Nat) (p1 : Int64) (p3 : Int64) (p5 : Int64) (h : AH) : Option (Unit × AH) :=
  bnd (F_X3_gcd n K p1 p3 h) fun r1 h2 =>
  bnd (F_X3_gcd n K r1 p5 h2) fun r3 h4 =>
  jn (α := Int64 → Option (Unit × AH)) (fun x5 =>
    chk (¬ x5 = 0) <|
    chk (¬ x5 = 0) <|
    chk (¬ x5 = 0) <|
    F_X3_addsMiddle_L51 n K (p5 / x5) (p3 / x5) (p1 / x5) p0 h4 n (0 : Int32) <|
    chk (h4.kind p0 = 5) <|
    bnd (F_X3_isMiddle n K p0 (p1 / x5) (p3 / x5) (p5 / x5) h4) fun r30 h31 =>
    if ¬ r30 = 0 then (
      chk (h31.kind p0 = 5) <|
      F_X3_addsMiddle_L126 n K (p5 / x5) (p3 / x5) (p1 / x5) p0 n (h31.I p0 28) h31
    ) else (
      some ((), h31)
    )
  ) fun j6 =>
  if 0 ≤ (lg_cmp p5 (0 : Int64)) then (
    j6 r3
  ) else (
    j6 (-r3)
  )
def F_X3_findsMiddles_L7 (n : Nat) (K : Nat → Nat) (y6 : Nat) : Nat → Int32 → AH → (AH → Option (Unit × AH)) → Option (Unit × AH)
  | 0, _, _, _ => none
  | f + 1, x5, h, k =>
    chk (h.kind y6 = 5) <|
    bnd (F_X3_voters n K y6 h) fun r7 h8 =>
    if r7 ≤ x5 then (
      k h8
    ) else (
      chk (h8.kind y6 = 5) <|
      ob (h8.R y6 6) fun a12 =>
      chk (h8.kind a12 = 35) <|
      chk (inb (0 : Int32) (h8.len a12)) <|
      ob (h8.R a12 (ix (0 : Int32))) fun a15 =>
      chk (h8.kind a15 = 32) <|
      chk (inb x5 (h8.len a15)) <|
      ob (h8.R y6 7) fun a18 =>
      chk (h8.kind a18 = 35) <|
      chk (inb (0 : Int32) (h8.len a18)) <|
      ob (h8.R a18 (ix (0 : Int32))) fun a21 =>
      chk (h8.kind a21 = 32) <|
      chk (inb x5 (h8.len a21)) <|
      bnd (F_X3_addsMiddle n K y6 ((h8.I a15 (ix x5)).toInt64) ((h8.I a21 (ix x5)).toInt64) (1 : Int64) h8) fun _ h25 =>
      F_X3_findsMiddles_L7 n K y6 f (x5 + (1 : Int32)) h25 k
    )
def F_X3_findsMiddles_L56 (n : Nat) (K : Nat → Nat) (y34 : Int32) (y35 : Nat) : Nat → Int32 → AH → (AH → Option (Unit × AH)) → Option (Unit × AH)
  | 0, _, _, _ => none
  | f + 1, x33, h, k =>
    if y34 ≤ x33 then (
      k h
    ) else (
      chk (h.kind y35 = 5) <|
      ob (h.R y35 24) fun a38 =>
      chk (h.kind a38 = 32) <|
      chk (inb y34 (h.len a38)) <|
      ob (h.R y35 25) fun a41 =>
      chk (h.kind a41 = 32) <|
      chk (inb x33 (h.len a41)) <|
      ob (h.R y35 24) fun a44 =>
      chk (h.kind a44 = 32) <|
      chk (inb x33 (h.len a44)) <|
      ob (h.R y35 25) fun a47 =>
      chk (h.kind a47 = 32) <|
      chk (inb y34 (h.len a47)) <|
      if ¬ (lg_cmp ((((h.I a38 (ix y34)).toInt64) * ((h.I a41 (ix x33)).toInt64)) - (((h.I a44 (ix x33)).toInt64) * ((h.I a47 (ix y34)).toInt64))) (0 : Int64)) = 0 then (
        ob (h.R y35 26) fun a51 =>
        chk (h.kind a51 = 32) <|
        chk (inb y34 (h.len a51)) <|
        ob (h.R y35 25) fun a54 =>
        chk (h.kind a54 = 32) <|
        chk (inb x33 (h.len a54)) <|
        ob (h.R y35 26) fun a57 =>
        chk (h.kind a57 = 32) <|
        chk (inb x33 (h.len a57)) <|
        ob (h.R y35 25) fun a60 =>
        chk (h.kind a60 = 32) <|
        chk (inb y34 (h.len a60)) <|
        ob (h.R y35 24) fun a63 =>
        chk (h.kind a63 = 32) <|
        chk (inb y34 (h.len a63)) <|
        ob (h.R y35 26) fun a66 =>
        chk (h.kind a66 = 32) <|
        chk (inb x33 (h.len a66)) <|
        ob (h.R y35 24) fun a69 =>
        chk (h.kind a69 = 32) <|
        chk (inb x33 (h.len a69)) <|
        ob (h.R y35 26) fun a72 =>
        chk (h.kind a72 = 32) <|
        chk (inb y34 (h.len a72)) <|
        bnd (F_X3_addsMiddle n K y35 ((((h.I a51 (ix y34)).toInt64) * ((h.I a54 (ix x33)).toInt64)) - (((h.I a57 (ix x33)).toInt64) * ((h.I a60 (ix y34)).toInt64))) ((((h.I a63 (ix y34)).toInt64) * ((h.I a66 (ix x33)).toInt64)) - (((h.I a69 (ix x33)).toInt64) * ((h.I a72 (ix y34)).toInt64))) ((((h.I a38 (ix y34)).toInt64) * ((h.I a41 (ix x33)).toInt64)) - (((h.I a44 (ix x33)).toInt64) * ((h.I a47 (ix y34)).toInt64))) h) fun _ h76 =>
        F_X3_findsMiddles_L56 n K y34 y35 f (x33 + (1 : Int32)) h76 k
      ) else (
        F_X3_findsMiddles_L56 n K y34 y35 f (x33 + (1 : Int32)) h k
      )
    )
def F_X3_findsMiddles_L46 (n : Nat) (K : Nat → Nat) (y29 : Nat) : Nat → Int32 → AH → Option (Unit × AH)
  | 0, _, _ => none
  | f + 1, x28, h =>
    chk (h.kind y29 = 5) <|
    if (h.I y29 27) ≤ x28 then (
      some ((), h)
    ) else (
      F_X3_findsMiddles_L56 n K x28 y29 n (0 : Int32) h fun h77 =>
      F_X3_findsMiddles_L46 n K y29 f (x28 + (1 : Int32)) h77
    )
def F_X3_findsMiddles (n : Nat) (K : Nat → Nat) (p0 : Nat) (h : AH) : Option (Unit × AH) :=
  chk (h.kind p0 = 5) <|
  hl (h.setI p0 28 (0 : Int32)) fun h2 =>
  F_X3_findsMiddles_L7 n K p0 n (0 : Int32) h2 fun h26 =>
  F_X3_findsMiddles_L46 n K p0 n (0 : Int32) h26
def F_X3_knows_L30 (n : Nat) (K : Nat → Nat) (y19 : Int32) (y20 : Nat) : Nat → Int32 → AH → (AH → Option (Unit × AH)) → Option (Unit × AH)
  | 0, _, _, _ => none
  | f + 1, x18, h, k =>
    if y19 ≤ x18 then (
      k h
    ) else (
      chk (h.kind y20 = 5) <|
      bnd (F_X3_through n K y20 y19 x18 h) fun _ h23 =>
      F_X3_knows_L30 n K y19 y20 f (x18 + (1 : Int32)) h23 k
    )
def F_X3_knows_L20 (n : Nat) (K : Nat → Nat) (y9 : Nat) : Nat → Int32 → AH → Option (Unit × AH)
  | 0, _, _ => none
  | f + 1, x8, h =>
    chk (h.kind y9 = 5) <|
    bnd (F_X3_voters n K y9 h) fun r10 h11 =>
    if r10 ≤ x8 then (
      chk (h11.kind y9 = 5) <|
      bnd (F_X3_findsMiddles n K y9 h11) fun _ h15 =>
      some ((), h15)
    ) else (
      F_X3_knows_L30 n K x8 y9 n (0 : Int32) h11 fun h25 =>
      F_X3_knows_L20 n K y9 f (x8 + (1 : Int32)) h25
    )
def F_X3_knows (n : Nat) (K : Nat → Nat) (p0 : Nat) (h : AH) : Option (Unit × AH) :=
  chk (h.kind p0 = 5) <|
  if (h.I p0 29) = 0 then (
    hl (h.setI p0 29 (1 : Int32)) fun h3 =>
    hl (h3.setI p0 27 (0 : Int32)) fun h5 =>
    F_X3_knows_L20 n K p0 n (0 : Int32) h5
  ) else (
    some ((), h)
  )
def F_X3_line (n : Nat) (K : Nat → Nat) (p0 : Nat) (p1 : Int32) (p2 : Int32) (h : AH) : Option (Int32 × AH) :=
  chk (h.kind p0 = 5) <|
  bnd (F_X3_knows n K p0 h) fun _ h2 =>
  if ¬ p1 = (-1 : Int32) then (
    chk (h2.kind p0 = 5) <|
    bnd (F_X3_in n K p1.toInt64 (0 : Int64) (((h2.I p0 27) - (1 : Int32)).toInt64) h2) fun r6 h7 =>
    if ¬ r6 = 0 then (
      if p2 = (0 : Int32) then (
        chk (h7.kind p0 = 5) <|
        ob (h7.R p0 24) fun a11 =>
        chk (h7.kind a11 = 32) <|
        chk (inb p1 (h7.len a11)) <|
        some (h7.I a11 (ix p1), h7)
      ) else
      if p2 = (1 : Int32) then (
        chk (h7.kind p0 = 5) <|
        ob (h7.R p0 25) fun a16 =>
        chk (h7.kind a16 = 32) <|
        chk (inb p1 (h7.len a16)) <|
        some (h7.I a16 (ix p1), h7)
      ) else
      if p2 = (2 : Int32) then (
        chk (h7.kind p0 = 5) <|
        ob (h7.R p0 26) fun a21 =>
        chk (h7.kind a21 = 32) <|
        chk (inb p1 (h7.len a21)) <|
        some (h7.I a21 (ix p1), h7)
      ) else
      (
        some ((-2147483648 : Int32), h7)
      )
    ) else (
      some ((-2147483648 : Int32), h7)
    )
  ) else (
    chk (h2.kind p0 = 5) <|
    some (h2.I p0 27, h2)
  )
def F_X3_middle (n : Nat) (K : Nat → Nat) (p0 : Nat) (p1 : Int32) (p2 : Int32) (h : AH) : Option (Int32 × AH) :=
  chk (h.kind p0 = 5) <|
  bnd (F_X3_knows n K p0 h) fun _ h2 =>
  if ¬ p1 = (-1 : Int32) then (
    chk (h2.kind p0 = 5) <|
    bnd (F_X3_in n K p1.toInt64 (0 : Int64) (((h2.I p0 28) - (1 : Int32)).toInt64) h2) fun r6 h7 =>
    if ¬ r6 = 0 then (
      if p2 = (0 : Int32) then (
        chk (h7.kind p0 = 5) <|
        ob (h7.R p0 30) fun a11 =>
        chk (h7.kind a11 = 33) <|
        chk (inb p1 (h7.len a11)) <|
        some ((h7.L a11 (ix p1)).toInt32, h7)
      ) else
      if p2 = (1 : Int32) then (
        chk (h7.kind p0 = 5) <|
        ob (h7.R p0 31) fun a16 =>
        chk (h7.kind a16 = 33) <|
        chk (inb p1 (h7.len a16)) <|
        some ((h7.L a16 (ix p1)).toInt32, h7)
      ) else
      if p2 = (2 : Int32) then (
        chk (h7.kind p0 = 5) <|
        ob (h7.R p0 32) fun a21 =>
        chk (h7.kind a21 = 33) <|
        chk (inb p1 (h7.len a21)) <|
        some ((h7.L a21 (ix p1)).toInt32, h7)
      ) else
      (
        some ((-2147483648 : Int32), h7)
      )
    ) else (
      some ((-2147483648 : Int32), h7)
    )
  ) else (
    chk (h2.kind p0 = 5) <|
    some (h2.I p0 28, h2)
  )
def F_X3_meet (n : Nat) (K : Nat → Nat) (p0 : Nat) (p1 : Int32) (p2 : Int32) (p3 : Int32) (h : AH) : Option (Int32 × AH) :=
  chk (h.kind p0 = 5) <|
  ob (h.R p0 24) fun a2 =>
  chk (h.kind a2 = 32) <|
  chk (inb p1 (h.len a2)) <|
  ob (h.R p0 25) fun a5 =>
  chk (h.kind a5 = 32) <|
  chk (inb p2 (h.len a5)) <|
  ob (h.R p0 24) fun a8 =>
  chk (h.kind a8 = 32) <|
  chk (inb p2 (h.len a8)) <|
  ob (h.R p0 25) fun a11 =>
  chk (h.kind a11 = 32) <|
  chk (inb p1 (h.len a11)) <|
  if ¬ (lg_cmp ((((h.I a2 (ix p1)).toInt64) * ((h.I a5 (ix p2)).toInt64)) - (((h.I a8 (ix p2)).toInt64) * ((h.I a11 (ix p1)).toInt64))) (0 : Int64)) = 0 then (
    ob (h.R p0 26) fun a15 =>
    chk (h.kind a15 = 32) <|
    chk (inb p1 (h.len a15)) <|
    ob (h.R p0 25) fun a18 =>
    chk (h.kind a18 = 32) <|
    chk (inb p2 (h.len a18)) <|
    ob (h.R p0 26) fun a21 =>
    chk (h.kind a21 = 32) <|
    chk (inb p2 (h.len a21)) <|
    ob (h.R p0 25) fun a24 =>
    chk (h.kind a24 = 32) <|
    chk (inb p1 (h.len a24)) <|
    ob (h.R p0 24) fun a27 =>
    chk (h.kind a27 = 32) <|
    chk (inb p1 (h.len a27)) <|
    ob (h.R p0 26) fun a30 =>
    chk (h.kind a30 = 32) <|
    chk (inb p2 (h.len a30)) <|
    ob (h.R p0 24) fun a33 =>
    chk (h.kind a33 = 32) <|
    chk (inb p2 (h.len a33)) <|
    ob (h.R p0 26) fun a36 =>
    chk (h.kind a36 = 32) <|
    chk (inb p1 (h.len a36)) <|
    ob (h.R p0 24) fun a39 =>
    chk (h.kind a39 = 32) <|
    chk (inb p3 (h.len a39)) <|
    ob (h.R p0 25) fun a42 =>
    chk (h.kind a42 = 32) <|
    chk (inb p3 (h.len a42)) <|
    ob (h.R p0 26) fun a45 =>
    chk (h.kind a45 = 32) <|
    chk (inb p3 (h.len a45)) <|
    if ¬ (lg_cmp ((((h.I a39 (ix p3)).toInt64) * ((((h.I a15 (ix p1)).toInt64) * ((h.I a18 (ix p2)).toInt64)) - (((h.I a21 (ix p2)).toInt64) * ((h.I a24 (ix p1)).toInt64)))) + (((h.I a42 (ix p3)).toInt64) * ((((h.I a27 (ix p1)).toInt64) * ((h.I a30 (ix p2)).toInt64)) - (((h.I a33 (ix p2)).toInt64) * ((h.I a36 (ix p1)).toInt64))))) (((h.I a45 (ix p3)).toInt64) * ((((h.I a2 (ix p1)).toInt64) * ((h.I a5 (ix p2)).toInt64)) - (((h.I a8 (ix p2)).toInt64) * ((h.I a11 (ix p1)).toInt64))))) = 0 then (
      some ((0 : Int32), h)
    ) else (
      some ((1 : Int32), h)
    )
  ) else (
    some ((0 : Int32), h)
  )
def F_X3_proof_L54 (n : Nat) (K : Nat → Nat) (y24 : Int32) (y25 : Int32) (y26 : Nat) (y27 : Int32) : Nat → Int32 → AH → (AH → Option (Int32 × AH)) → Option (Int32 × AH)
  | 0, _, _, _ => none
  | f + 1, x23, h, k =>
    chk (h.kind y26 = 5) <|
    if (h.I y26 27) ≤ x23 then (
      k h
    ) else (
      bnd (F_X3_meet n K y26 y25 y24 x23 h) fun r30 h31 =>
      if ¬ r30 = 0 then (
        F_X3_proof_L54 n K y24 y25 y26 y27 f (x23 + (1 : Int32)) h31 k
      ) else (
        if ¬ y27 = 0 then (
          if ¬ y27 = (1 : Int32) then (
            some (x23, h31)
          ) else (
            some (y24, h31)
          )
        ) else (
          some (y25, h31)
        )
      )
    )
def F_X3_proof_L41 (n : Nat) (K : Nat → Nat) (y17 : Int32) (y18 : Nat) (y19 : Int32) : Nat → Int32 → AH → (AH → Option (Int32 × AH)) → Option (Int32 × AH)
  | 0, _, _, _ => none
  | f + 1, x16, h, k =>
    chk (h.kind y18 = 5) <|
    if (h.I y18 27) ≤ x16 then (
      k h
    ) else (
      F_X3_proof_L54 n K x16 y17 y18 y19 n (x16 + (1 : Int32)) h fun h35 =>
      F_X3_proof_L41 n K y17 y18 y19 f (x16 + (1 : Int32)) h35 k
    )
def F_X3_proof_L29 (n : Nat) (K : Nat → Nat) (y11 : Nat) (y12 : Int32) : Nat → Int32 → AH → Option (Int32 × AH)
  | 0, _, _ => none
  | f + 1, x10, h =>
    chk (h.kind y11 = 5) <|
    if (h.I y11 27) ≤ x10 then (
      some ((-1 : Int32), h)
    ) else (
      F_X3_proof_L41 n K x10 y11 y12 n (x10 + (1 : Int32)) h fun h36 =>
      F_X3_proof_L29 n K y11 y12 f (x10 + (1 : Int32)) h36
    )
def F_X3_proof (n : Nat) (K : Nat → Nat) (p0 : Nat) (p1 : Int32) (h : AH) : Option (Int32 × AH) :=
  bnd (F_X3_in n K p1.toInt64 (0 : Int64) (2 : Int64) h) fun r1 h2 =>
  if ¬ r1 = 0 then (
    chk (h2.kind p0 = 5) <|
    bnd (F_X3_knows n K p0 h2) fun _ h5 =>
    chk (h5.kind p0 = 5) <|
    if (h5.I p0 28) ≤ 0 then (
      F_X3_proof_L29 n K p0 p1 n (0 : Int32) h5
    ) else (
      some ((-1 : Int32), h5)
    )
  ) else (
    some ((-1 : Int32), h2)
  )
def F_X3_far_L12 (n : Nat) (K : Nat → Nat) (y8 : Nat) (y9 : Int32) (y10 : Int32) : Nat → Int32 → AH → Option (Unit × AH)
  | 0, _, _ => none
  | f + 1, x7, h =>
    chk (h.kind y8 = 5) <|
    if (h.I y8 27) ≤ x7 then (
      some ((), h)
    ) else (
      ob (h.R y8 24) fun a13 =>
      chk (h.kind a13 = 32) <|
      chk (inb x7 (h.len a13)) <|
      ob (h.R y8 25) fun a16 =>
      chk (h.kind a16 = 32) <|
      chk (inb x7 (h.len a16)) <|
      ob (h.R y8 26) fun a19 =>
      chk (h.kind a19 = 32) <|
      chk (inb x7 (h.len a19)) <|
      ob (h.R y8 24) fun a22 =>
      chk (h.kind a22 = 32) <|
      chk (inb x7 (h.len a22)) <|
      ob (h.R y8 24) fun a25 =>
      chk (h.kind a25 = 32) <|
      chk (inb x7 (h.len a25)) <|
      ob (h.R y8 25) fun a28 =>
      chk (h.kind a28 = 32) <|
      chk (inb x7 (h.len a28)) <|
      ob (h.R y8 25) fun a31 =>
      chk (h.kind a31 = 32) <|
      chk (inb x7 (h.len a31)) <|
      if 0 < (lg_cmp (((((((h.I a13 (ix x7)).toInt64) * y9.toInt64) + (((h.I a16 (ix x7)).toInt64) * y10.toInt64)) - ((h.I a19 (ix x7)).toInt64)) * (((((h.I a13 (ix x7)).toInt64) * y9.toInt64) + (((h.I a16 (ix x7)).toInt64) * y10.toInt64)) - ((h.I a19 (ix x7)).toInt64))) * (h.L y8 34)) ((h.L y8 33) * ((((h.I a22 (ix x7)).toInt64) * ((h.I a25 (ix x7)).toInt64)) + (((h.I a28 (ix x7)).toInt64) * ((h.I a31 (ix x7)).toInt64))))) then (
        hl (h.setL y8 33 ((((((h.I a13 (ix x7)).toInt64) * y9.toInt64) + (((h.I a16 (ix x7)).toInt64) * y10.toInt64)) - ((h.I a19 (ix x7)).toInt64)) * (((((h.I a13 (ix x7)).toInt64) * y9.toInt64) + (((h.I a16 (ix x7)).toInt64) * y10.toInt64)) - ((h.I a19 (ix x7)).toInt64)))) fun h35 =>
        hl (h35.setL y8 34 ((((h.I a22 (ix x7)).toInt64) * ((h.I a25 (ix x7)).toInt64)) + (((h.I a28 (ix x7)).toInt64) * ((h.I a31 (ix x7)).toInt64)))) fun h37 =>
        F_X3_far_L12 n K y8 y9 y10 f (x7 + (1 : Int32)) h37
      ) else (
        F_X3_far_L12 n K y8 y9 y10 f (x7 + (1 : Int32)) h
      )
    )
def F_X3_far (n : Nat) (K : Nat → Nat) (p0 : Nat) (p1 : Int32) (p2 : Int32) (h : AH) : Option (Unit × AH) :=
  chk (h.kind p0 = 5) <|
  hl (h.setL p0 33 (0 : Int64)) fun h2 =>
  hl (h2.setL p0 34 (1 : Int64)) fun h4 =>
  F_X3_far_L12 n K p0 p1 p2 n (0 : Int32) h4
def F_X3_round_L47 (n : Nat) (K : Nat → Nat) (y20 : Nat) (y21 : Int32) : Nat → Int32 → Int64 → Int64 → Int32 → AH → Option (Int32 × AH)
  | 0, _, _, _, _, _ => none
  | f + 1, x16, x17, x18, x19, h =>
    if (10000 : Int32) ≤ x16 then (
      bnd (F_X3_gcd n K x18 x17 h) fun r23 h24 =>
      if ¬ y21 = 0 then (
        if ¬ y21 = (1 : Int32) then (
          if ¬ y21 = (2 : Int32) then (
            chk (¬ r23 = 0) <|
            some ((x17 / r23).toInt32, h24)
          ) else (
            chk (¬ r23 = 0) <|
            some ((x18 / r23).toInt32, h24)
          )
        ) else (
          some (x19 - x19 / (100 : Int32) * (100 : Int32), h24)
        )
      ) else (
        some (x19 / (100 : Int32), h24)
      )
    ) else (
      chk (h.kind y20 = 5) <|
      bnd (F_X3_far n K y20 (x16 / (100 : Int32)) (x16 - x16 / (100 : Int32) * (100 : Int32)) h) fun _ h31 =>
      chk (h31.kind y20 = 5) <|
      if (lg_cmp ((h31.L y20 33) * x17) (x18 * (h31.L y20 34))) < 0 then (
        F_X3_round_L47 n K y20 y21 f (x16 + (1 : Int32)) (h31.L y20 34) (h31.L y20 33) x16 h31
      ) else (
        F_X3_round_L47 n K y20 y21 f (x16 + (1 : Int32)) x17 x18 x19 h31
      )
    )
def F_X3_round (n : Nat) (K : Nat → Nat) (p0 : Nat) (p1 : Int32) (h : AH) : Option (Int32 × AH) :=
  chk (h.kind p0 = 5) <|
  bnd (F_X3_voters n K p0 h) fun r1 h2 =>
  if r1 = 0 then (
    some ((-1 : Int32), h2)
  ) else (
    bnd (F_X3_in n K p1.toInt64 (0 : Int64) (3 : Int64) h2) fun r5 h6 =>
    if ¬ r5 = 0 then (
      chk (h6.kind p0 = 5) <|
      bnd (F_X3_knows n K p0 h6) fun _ h9 =>
      chk (h9.kind p0 = 5) <|
      bnd (F_X3_far n K p0 (0 : Int32) (0 : Int32) h9) fun _ h12 =>
      chk (h12.kind p0 = 5) <|
      F_X3_round_L47 n K p0 p1 n (1 : Int32) (h12.L p0 34) (h12.L p0 33) (0 : Int32) h12
    ) else (
      some ((-1 : Int32), h6)
    )
  )
def F_X3_floods_L52 (n : Nat) (K : Nat → Nat) (y27 : Int32) (y28 : Int32) (y29 : Int32) (y31 : Nat) (y32 : Int32) : Nat → Int32 → Int32 → AH → (Int32 → AH → Option (Unit × AH)) → Option (Unit × AH)
  | 0, _, _, _, _ => none
  | f + 1, x26, x30, h, k =>
    if (4 : Int32) ≤ x26 then (
      k x30 h
    ) else (
      jn (α := Int32 → Option (Unit × AH)) (fun x34 =>
        jn (α := Int32 → Option (Unit × AH)) (fun x36 =>
          bnd (F_X3_isPoint n K x34 x36 h) fun r38 h39 =>
          if r38 = 0 then (
            F_X3_floods_L52 n K y27 y28 y29 y31 y32 f (x26 + (1 : Int32)) x30 h39 k
          ) else (
            chk (h39.kind y31 = 5) <|
            ob (h39.R y31 35) fun a42 =>
            chk (h39.kind a42 = 32) <|
            chk (inb (((100 : Int32) * x34) + x36) (h39.len a42)) <|
            if (h39.I a42 (ix (((100 : Int32) * x34) + x36))) = (-2 : Int32) then (
              ob (h39.R y31 35) fun a46 =>
              chk (h39.kind a46 = 32) <|
              chk (inb (((100 : Int32) * x34) + x36) (h39.len a46)) <|
              hl (h39.setI a46 (ix (((100 : Int32) * x34) + x36)) y32) fun h49 =>
              ob (h49.R y31 36) fun a51 =>
              chk (h49.kind a51 = 32) <|
              chk (inb x30 (h49.len a51)) <|
              hl (h49.setI a51 (ix x30) (((100 : Int32) * x34) + x36)) fun h54 =>
              F_X3_floods_L52 n K y27 y28 y29 y31 y32 f (x26 + (1 : Int32)) (x30 + (1 : Int32)) h54 k
            ) else (
              F_X3_floods_L52 n K y27 y28 y29 y31 y32 f (x26 + (1 : Int32)) x30 h39 k
            )
          )
        ) fun j37 =>
        if ¬ x26 = (2 : Int32) then (
          if ¬ x26 = (3 : Int32) then (
            j37 y27
          ) else (
            j37 (y27 + (1 : Int32))
          )
        ) else (
          j37 (y27 - (1 : Int32))
        )
      ) fun j35 =>
      if ¬ x26 = 0 then (
        if ¬ x26 = (1 : Int32) then (
          j35 y28
        ) else (
          j35 (y28 + (1 : Int32))
        )
      ) else (
        j35 (y28 - (1 : Int32))
      )
    )
def F_X3_floods_L19 (n : Nat) (K : Nat → Nat) (y15 : Nat) (y16 : Int32) : Nat → Int32 → Int32 → AH → Option (Unit × AH)
  | 0, _, _, _ => none
  | f + 1, x13, x14, h =>
    if x14 ≤ x13 then (
      some ((), h)
    ) else (
      chk (h.kind y15 = 5) <|
      ob (h.R y15 36) fun a19 =>
      chk (h.kind a19 = 32) <|
      chk (inb x13 (h.len a19)) <|
      ob (h.R y15 36) fun a22 =>
      chk (h.kind a22 = 32) <|
      chk (inb x13 (h.len a22)) <|
      F_X3_floods_L52 n K ((h.I a22 (ix x13)) - (h.I a22 (ix x13)) / (100 : Int32) * (100 : Int32)) ((h.I a19 (ix x13)) / (100 : Int32)) x13 y15 y16 n (0 : Int32) x14 h fun x62 h63 =>
      F_X3_floods_L19 n K y15 y16 f (x13 + (1 : Int32)) x62 h63
    )
def F_X3_floods (n : Nat) (K : Nat → Nat) (p0 : Nat) (p1 : Int32) (p2 : Int32) (h : AH) : Option (Unit × AH) :=
  chk (h.kind p0 = 5) <|
  ob (h.R p0 36) fun a2 =>
  chk (h.kind a2 = 32) <|
  chk (inb (0 : Int32) (h.len a2)) <|
  hl (h.setI a2 (ix (0 : Int32)) p1) fun h5 =>
  ob (h5.R p0 35) fun a7 =>
  chk (h5.kind a7 = 32) <|
  chk (inb p1 (h5.len a7)) <|
  hl (h5.setI a7 (ix p1) p2) fun h10 =>
  F_X3_floods_L19 n K p0 p2 n (0 : Int32) (1 : Int32) h10
def F_X3_finds_L12 (n : Nat) (K : Nat → Nat) (y8 : Nat) (y9 : Int32) (y10 : Int32) : Nat → Int32 → AH → (AH → Option (Unit × AH)) → Option (Unit × AH)
  | 0, _, _, _ => none
  | f + 1, x7, h, k =>
    if (10000 : Int32) ≤ x7 then (
      k h
    ) else (
      chk (h.kind y8 = 5) <|
      bnd (F_X3_beatsAt n K y8 (x7 / (100 : Int32)) (x7 - x7 / (100 : Int32) * (100 : Int32)) y9 y10 h) fun r12 h13 =>
      chk (h13.kind y8 = 5) <|
      jn (α := Int32 → Option (Unit × AH)) (fun x16 =>
        ob (h13.R y8 35) fun a18 =>
        chk (h13.kind a18 = 32) <|
        chk (inb x7 (h13.len a18)) <|
        hl (h13.setI a18 (ix x7) x16) fun h21 =>
        jn (α := Int32 → Option (Unit × AH)) (fun x23 =>
          hl (h21.setI y8 38 ((h21.I y8 38) + x23)) fun h25 =>
          F_X3_finds_L12 n K y8 y9 y10 f (x7 + (1 : Int32)) h25 k
        ) fun j24 =>
        if r12 = 0 then (
          j24 (0 : Int32)
        ) else (
          j24 (1 : Int32)
        )
      ) fun j17 =>
      if r12 = 0 then (
        j17 (-1 : Int32)
      ) else (
        j17 (-2 : Int32)
      )
    )
def F_X3_finds_L79 (n : Nat) (K : Nat → Nat) (y34 : Nat) : Nat → Int32 → AH → Option (Unit × AH)
  | 0, _, _ => none
  | f + 1, x33, h =>
    if (10000 : Int32) ≤ x33 then (
      some ((), h)
    ) else (
      chk (h.kind y34 = 5) <|
      ob (h.R y34 35) fun a37 =>
      chk (h.kind a37 = 32) <|
      chk (inb x33 (h.len a37)) <|
      if (h.I a37 (ix x33)) = (-2 : Int32) then (
        bnd (F_X3_floods n K y34 x33 (h.I y34 37) h) fun _ h42 =>
        chk (h42.kind y34 = 5) <|
        hl (h42.setI y34 37 ((h42.I y34 37) + (1 : Int32))) fun h44 =>
        F_X3_finds_L79 n K y34 f (x33 + (1 : Int32)) h44
      ) else (
        F_X3_finds_L79 n K y34 f (x33 + (1 : Int32)) h
      )
    )
def F_X3_finds (n : Nat) (K : Nat → Nat) (p0 : Nat) (p1 : Int32) (p2 : Int32) (h : AH) : Option (Unit × AH) :=
  chk (h.kind p0 = 5) <|
  hl (h.setI p0 38 (0 : Int32)) fun h2 =>
  hl (h2.setI p0 37 (0 : Int32)) fun h4 =>
  F_X3_finds_L12 n K p0 p1 p2 n (0 : Int32) h4 fun h31 =>
  F_X3_finds_L79 n K p0 n (0 : Int32) h31
def F_X3_winSet (n : Nat) (K : Nat → Nat) (p0 : Nat) (p1 : Int32) (p2 : Int32) (p3 : Int32) (h : AH) : Option (Int32 × AH) :=
  chk (h.kind p0 = 5) <|
  bnd (F_X3_voters n K p0 h) fun r1 h2 =>
  if r1 = 0 then (
    some ((-1 : Int32), h2)
  ) else (
    bnd (F_X3_isPoint n K p1 p2 h2) fun r5 h6 =>
    if r5 = 0 then (
      some ((-1 : Int32), h6)
    ) else (
      bnd (F_X3_in n K p3.toInt64 (0 : Int64) (1 : Int64) h6) fun r8 h9 =>
      if ¬ r8 = 0 then (
        chk (h9.kind p0 = 5) <|
        bnd (F_X3_finds n K p0 p1 p2 h9) fun _ h12 =>
        if ¬ p3 = 0 then (
          chk (h12.kind p0 = 5) <|
          some (h12.I p0 37, h12)
        ) else (
          chk (h12.kind p0 = 5) <|
          some (h12.I p0 38, h12)
        )
      ) else (
        some ((-1 : Int32), h9)
      )
    )
  )
def F_X3_piece_L63 (n : Nat) (K : Nat → Nat) (y22 : Nat) (y23 : Int32) (y24 : Int32) (h : AH) : Nat → Int32 → Int32 → Int32 → Option (Int32 × AH)
  | 0, _, _, _ => none
  | f + 1, x19, x20, x21 =>
    if (10000 : Int32) ≤ x19 then (
      if ¬ y24 = 0 then (
        if ¬ y24 = (1 : Int32) then (
          some (x20, h)
        ) else (
          some (x21 - x21 / (100 : Int32) * (100 : Int32), h)
        )
      ) else (
        some (x21 / (100 : Int32), h)
      )
    ) else (
      chk (h.kind y22 = 5) <|
      ob (h.R y22 35) fun a29 =>
      chk (h.kind a29 = 32) <|
      chk (inb x19 (h.len a29)) <|
      if (h.I a29 (ix x19)) = y23 then (
        if ¬ x21 = (-1 : Int32) then (
          F_X3_piece_L63 n K y22 y23 y24 h f (x19 + (1 : Int32)) (x20 + (1 : Int32)) x21
        ) else (
          F_X3_piece_L63 n K y22 y23 y24 h f (x19 + (1 : Int32)) (x20 + (1 : Int32)) x19
        )
      ) else (
        F_X3_piece_L63 n K y22 y23 y24 h f (x19 + (1 : Int32)) x20 x21
      )
    )
def F_X3_piece (n : Nat) (K : Nat → Nat) (p0 : Nat) (p1 : Int32) (p2 : Int32) (p3 : Int32) (p4 : Int32) (h : AH) : Option (Int32 × AH) :=
  chk (h.kind p0 = 5) <|
  bnd (F_X3_voters n K p0 h) fun r1 h2 =>
  if r1 = 0 then (
    some ((-1 : Int32), h2)
  ) else (
    bnd (F_X3_isPoint n K p1 p2 h2) fun r5 h6 =>
    if r5 = 0 then (
      some ((-1 : Int32), h6)
    ) else (
      bnd (F_X3_in n K p4.toInt64 (0 : Int64) (2 : Int64) h6) fun r8 h9 =>
      if ¬ r8 = 0 then (
        chk (h9.kind p0 = 5) <|
        bnd (F_X3_finds n K p0 p1 p2 h9) fun _ h12 =>
        chk (h12.kind p0 = 5) <|
        bnd (F_X3_in n K p3.toInt64 (0 : Int64) (((h12.I p0 37) - (1 : Int32)).toInt64) h12) fun r15 h16 =>
        if ¬ r15 = 0 then (
          F_X3_piece_L63 n K p0 p3 p4 h16 n (0 : Int32) (0 : Int32) (-1 : Int32)
        ) else (
          some ((-1 : Int32), h16)
        )
      ) else (
        some ((-1 : Int32), h9)
      )
    )
  )
def F_X3_leads_L2 (n : Nat) (K : Nat → Nat) (y3 : Nat) (y4 : Int32) : Nat → Int32 → AH → (AH → Option (Unit × AH)) → Option (Unit × AH)
  | 0, _, _, _ => none
  | f + 1, x2, h, k =>
    if (20 : Int32) ≤ x2 then (
      k h
    ) else (
      chk (h.kind y3 = 5) <|
      jn (α := Int32 → Option (Unit × AH)) (fun x7 =>
        ob (h.R y3 39) fun a9 =>
        chk (h.kind a9 = 32) <|
        chk (inb x2 (h.len a9)) <|
        hl (h.setI a9 (ix x2) x7) fun h12 =>
        F_X3_leads_L2 n K y3 y4 f (x2 + (1 : Int32)) h12 k
      ) fun j8 =>
      if ¬ x2 = y4 then (
        j8 (-1 : Int32)
      ) else (
        j8 (0 : Int32)
      )
    )
def F_X3_leads_L66 (n : Nat) (K : Nat → Nat) (y39 : Int32) (y40 : Int32) (y41 : Nat) : Nat → Int32 → AH → (AH → Option (Unit × AH)) → Option (Unit × AH)
  | 0, _, _, _ => none
  | f + 1, x38, h, k =>
    chk (h.kind y41 = 5) <|
    bnd (F_X3_places n K y41 h) fun r42 h43 =>
    if r42 ≤ x38 then (
      k h43
    ) else (
      chk (h43.kind y41 = 5) <|
      ob (h43.R y41 39) fun a47 =>
      chk (h43.kind a47 = 32) <|
      chk (inb x38 (h43.len a47)) <|
      if ¬ (h43.I a47 (ix x38)) = y40 then (
        F_X3_leads_L66 n K y39 y40 y41 f (x38 + (1 : Int32)) h43 k
      ) else (
        bnd (F_X3_beatsOf n K y41 x38 y39 h43) fun r51 h52 =>
        if r51 = 0 then (
          F_X3_leads_L66 n K y39 y40 y41 f (x38 + (1 : Int32)) h52 k
        ) else (
          chk (h52.kind y41 = 5) <|
          ob (h52.R y41 39) fun a55 =>
          chk (h52.kind a55 = 32) <|
          chk (inb y39 (h52.len a55)) <|
          hl (h52.setI a55 (ix y39) (y40 + (1 : Int32))) fun h58 =>
          F_X3_leads_L66 n K y39 y40 y41 f (x38 + (1 : Int32)) h58 k
        )
      )
    )
def F_X3_leads_L42 (n : Nat) (K : Nat → Nat) (y26 : Int32) (y27 : Nat) : Nat → Int32 → AH → (AH → Option (Unit × AH)) → Option (Unit × AH)
  | 0, _, _, _ => none
  | f + 1, x25, h, k =>
    chk (h.kind y27 = 5) <|
    bnd (F_X3_places n K y27 h) fun r28 h29 =>
    if r28 ≤ x25 then (
      k h29
    ) else (
      chk (h29.kind y27 = 5) <|
      ob (h29.R y27 39) fun a33 =>
      chk (h29.kind a33 = 32) <|
      chk (inb x25 (h29.len a33)) <|
      if (h29.I a33 (ix x25)) = (-1 : Int32) then (
        F_X3_leads_L66 n K x25 y26 y27 n (0 : Int32) h29 fun h60 =>
        F_X3_leads_L42 n K y26 y27 f (x25 + (1 : Int32)) h60 k
      ) else (
        F_X3_leads_L42 n K y26 y27 f (x25 + (1 : Int32)) h29 k
      )
    )
def F_X3_leads_L32 (n : Nat) (K : Nat → Nat) (y19 : Nat) : Nat → Int32 → AH → Option (Unit × AH)
  | 0, _, _ => none
  | f + 1, x18, h =>
    chk (h.kind y19 = 5) <|
    bnd (F_X3_places n K y19 h) fun r20 h21 =>
    if r20 ≤ x18 then (
      some ((), h21)
    ) else (
      F_X3_leads_L42 n K x18 y19 n (0 : Int32) h21 fun h61 =>
      F_X3_leads_L32 n K y19 f (x18 + (1 : Int32)) h61
    )
def F_X3_leads (n : Nat) (K : Nat → Nat) (p0 : Nat) (p1 : Int32) (h : AH) : Option (Unit × AH) :=
  F_X3_leads_L2 n K p0 p1 n (0 : Int32) h fun h16 =>
  F_X3_leads_L32 n K p0 n (0 : Int32) h16
def F_X3_led_L80 (n : Nat) (K : Nat → Nat) (y32 : Int32) (y33 : Int32) (y34 : Nat) (y35 : Int32) : Nat → Int32 → AH → (Int32 → AH → Option (Int32 × AH)) → Option (Int32 × AH)
  | 0, _, _, _ => none
  | f + 1, x31, h, k =>
    chk (h.kind y34 = 5) <|
    ob (h.R y34 39) fun a37 =>
    chk (h.kind a37 = 32) <|
    chk (inb x31 (h.len a37)) <|
    ob (h.R y34 39) fun a40 =>
    chk (h.kind a40 = 32) <|
    chk (inb y33 (h.len a40)) <|
    if ¬ (h.I a37 (ix x31)) = ((h.I a40 (ix y33)) - (1 : Int32)) then (
      F_X3_led_L80 n K y32 y33 y34 y35 f (x31 + (1 : Int32)) h k
    ) else (
      bnd (F_X3_beatsOf n K y34 x31 y33 h) fun r44 h45 =>
      if ¬ r44 = 0 then (
        k x31 h45
      ) else (
        F_X3_led_L80 n K y32 y33 y34 y35 f (x31 + (1 : Int32)) h45 k
      )
    )
def F_X3_led_L71 (n : Nat) (K : Nat → Nat) (y27 : Nat) (y28 : Int32) : Nat → Int32 → Int32 → AH → Option (Int32 × AH)
  | 0, _, _, _ => none
  | f + 1, x25, x26, h =>
    if y28 ≤ x25 then (
      some (x26, h)
    ) else (
      F_X3_led_L80 n K x25 x26 y27 y28 n (0 : Int32) h fun x47 h48 =>
      F_X3_led_L71 n K y27 y28 f (x25 + (1 : Int32)) x47 h48
    )
def F_X3_led (n : Nat) (K : Nat → Nat) (p0 : Nat) (p1 : Int32) (p2 : Int32) (p3 : Int32) (h : AH) : Option (Int32 × AH) :=
  chk (h.kind p0 = 5) <|
  bnd (F_X3_isPlace n K p0 p1 h) fun r1 h2 =>
  if r1 = 0 then (
    some ((-1 : Int32), h2)
  ) else (
    chk (h2.kind p0 = 5) <|
    bnd (F_X3_isPlace n K p0 p2 h2) fun r5 h6 =>
    if ¬ r5 = 0 then (
      chk (h6.kind p0 = 5) <|
      bnd (F_X3_leads n K p0 p2 h6) fun _ h10 =>
      chk (h10.kind p0 = 5) <|
      ob (h10.R p0 39) fun a13 =>
      chk (h10.kind a13 = 32) <|
      chk (inb p1 (h10.len a13)) <|
      if ¬ (h10.I a13 (ix p1)) = (-1 : Int32) then (
        if ¬ p3 = (-1 : Int32) then (
          ob (h10.R p0 39) fun a18 =>
          chk (h10.kind a18 = 32) <|
          chk (inb p1 (h10.len a18)) <|
          bnd (F_X3_in n K p3.toInt64 (0 : Int64) ((h10.I a18 (ix p1)).toInt64) h10) fun r21 h22 =>
          if ¬ r21 = 0 then (
            F_X3_led_L71 n K p0 p3 n (0 : Int32) p1 h22
          ) else (
            some ((-1 : Int32), h22)
          )
        ) else (
          ob (h10.R p0 39) fun a49 =>
          chk (h10.kind a49 = 32) <|
          chk (inb p1 (h10.len a49)) <|
          some (h10.I a49 (ix p1), h10)
        )
      ) else (
        some ((-1 : Int32), h10)
      )
    ) else (
      some ((-1 : Int32), h6)
    )
  )
def F_X3_isReached_L7 (n : Nat) (K : Nat → Nat) (y6 : Nat) : Nat → Int32 → AH → Option (Int32 × AH)
  | 0, _, _ => none
  | f + 1, x5, h =>
    chk (h.kind y6 = 5) <|
    bnd (F_X3_places n K y6 h) fun r7 h8 =>
    if r7 ≤ x5 then (
      some ((1 : Int32), h8)
    ) else (
      chk (h8.kind y6 = 5) <|
      ob (h8.R y6 39) fun a12 =>
      chk (h8.kind a12 = 32) <|
      chk (inb x5 (h8.len a12)) <|
      if ¬ (h8.I a12 (ix x5)) = (-1 : Int32) then (
        F_X3_isReached_L7 n K y6 f (x5 + (1 : Int32)) h8
      ) else (
        some ((0 : Int32), h8)
      )
    )
def F_X3_isReached (n : Nat) (K : Nat → Nat) (p0 : Nat) (p1 : Int32) (h : AH) : Option (Int32 × AH) :=
  chk (h.kind p0 = 5) <|
  bnd (F_X3_leads n K p0 p1 h) fun _ h2 =>
  F_X3_isReached_L7 n K p0 n (0 : Int32) h2
def F_X3_covers_L13 (n : Nat) (K : Nat → Nat) (y7 : Nat) (y8 : Int32) (y9 : Int32) : Nat → Int32 → AH → Option (Int32 × AH)
  | 0, _, _ => none
  | f + 1, x6, h =>
    chk (h.kind y7 = 5) <|
    bnd (F_X3_places n K y7 h) fun r10 h11 =>
    if r10 ≤ x6 then (
      some ((1 : Int32), h11)
    ) else (
      chk (h11.kind y7 = 5) <|
      bnd (F_X3_beatsOf n K y7 x6 y8 h11) fun r14 h15 =>
      if r14 = 0 then (
        F_X3_covers_L13 n K y7 y8 y9 f (x6 + (1 : Int32)) h15
      ) else (
        chk (h15.kind y7 = 5) <|
        bnd (F_X3_beatsOf n K y7 x6 y9 h15) fun r18 h19 =>
        if ¬ r18 = 0 then (
          F_X3_covers_L13 n K y7 y8 y9 f (x6 + (1 : Int32)) h19
        ) else (
          some ((0 : Int32), h19)
        )
      )
    )
def F_X3_covers (n : Nat) (K : Nat → Nat) (p0 : Nat) (p1 : Int32) (p2 : Int32) (h : AH) : Option (Int32 × AH) :=
  chk (h.kind p0 = 5) <|
  bnd (F_X3_beatsOf n K p0 p1 p2 h) fun r1 h2 =>
  if ¬ r1 = 0 then (
    F_X3_covers_L13 n K p0 p1 p2 n (0 : Int32) h2
  ) else (
    some ((0 : Int32), h2)
  )
def F_X3_isOpen_L2 (n : Nat) (K : Nat → Nat) (y3 : Nat) (y4 : Int32) : Nat → Int32 → AH → Option (Int32 × AH)
  | 0, _, _ => none
  | f + 1, x2, h =>
    chk (h.kind y3 = 5) <|
    bnd (F_X3_places n K y3 h) fun r5 h6 =>
    if r5 ≤ x2 then (
      some ((1 : Int32), h6)
    ) else (
      if x2 = y4 then (
        F_X3_isOpen_L2 n K y3 y4 f (x2 + (1 : Int32)) h6
      ) else (
        chk (h6.kind y3 = 5) <|
        bnd (F_X3_covers n K y3 x2 y4 h6) fun r10 h11 =>
        if r10 = 0 then (
          F_X3_isOpen_L2 n K y3 y4 f (x2 + (1 : Int32)) h11
        ) else (
          some ((0 : Int32), h11)
        )
      )
    )
def F_X3_isOpen (n : Nat) (K : Nat → Nat) (p0 : Nat) (p1 : Int32) (h : AH) : Option (Int32 × AH) :=
  F_X3_isOpen_L2 n K p0 p1 n (0 : Int32) h
def F_X3_best_L23 (n : Nat) (K : Nat → Nat) (y11 : Nat) (y12 : Int32) : Nat → Int32 → Int32 → AH → Option (Int32 × AH)
  | 0, _, _, _ => none
  | f + 1, x9, x10, h =>
    chk (h.kind y11 = 5) <|
    bnd (F_X3_places n K y11 h) fun r13 h14 =>
    if r13 ≤ x9 then (
      some (x10, h14)
    ) else (
      jn (α := AH → Option (Int32 × AH)) (fun h17 =>
        F_X3_best_L23 n K y11 y12 f (x9 + (1 : Int32)) (x10 ||| ((1 : Int32) <<< (x9 &&& 31))) h17
      ) fun j18 =>
      if ¬ y12 = 0 then (
        chk (h14.kind y11 = 5) <|
        bnd (F_X3_isOpen n K y11 x9 h14) fun r21 h22 =>
        if r21 = 0 then (
          F_X3_best_L23 n K y11 y12 f (x9 + (1 : Int32)) (x10 ||| (0 : Int32)) h22
        ) else (
          j18 h22
        )
      ) else (
        chk (h14.kind y11 = 5) <|
        bnd (F_X3_isReached n K y11 x9 h14) fun r25 h26 =>
        if r25 = 0 then (
          F_X3_best_L23 n K y11 y12 f (x9 + (1 : Int32)) (x10 ||| (0 : Int32)) h26
        ) else (
          j18 h26
        )
      )
    )
def F_X3_best (n : Nat) (K : Nat → Nat) (p0 : Nat) (p1 : Int32) (h : AH) : Option (Int32 × AH) :=
  chk (h.kind p0 = 5) <|
  bnd (F_X3_voters n K p0 h) fun r1 h2 =>
  if r1 = 0 then (
    some ((-1 : Int32), h2)
  ) else (
    bnd (F_X3_in n K p1.toInt64 (0 : Int64) (1 : Int64) h2) fun r5 h6 =>
    if ¬ r5 = 0 then (
      F_X3_best_L23 n K p0 p1 n (0 : Int32) (0 : Int32) h6
    ) else (
      some ((-1 : Int32), h6)
    )
  )
def F_X3_between_L20 (n : Nat) (K : Nat → Nat) (y11 : Nat) (y12 : Int32) (y13 : Int32) : Nat → Int32 → AH → Option (Int32 × AH)
  | 0, _, _ => none
  | f + 1, x10, h =>
    if (10000 : Int32) ≤ x10 then (
      some ((-1 : Int32), h)
    ) else (
      chk (h.kind y11 = 5) <|
      ob (h.R y11 12) fun a16 =>
      chk (h.kind a16 = 35) <|
      chk (inb (0 : Int32) (h.len a16)) <|
      ob (h.R a16 (ix (0 : Int32))) fun a19 =>
      chk (h.kind a19 = 32) <|
      chk (inb y12 (h.len a19)) <|
      ob (h.R y11 13) fun a22 =>
      chk (h.kind a22 = 35) <|
      chk (inb (0 : Int32) (h.len a22)) <|
      ob (h.R a22 (ix (0 : Int32))) fun a25 =>
      chk (h.kind a25 = 32) <|
      chk (inb y12 (h.len a25)) <|
      bnd (F_X3_beatsAt n K y11 (x10 / (100 : Int32)) (x10 - x10 / (100 : Int32) * (100 : Int32)) (h.I a19 (ix y12)) (h.I a25 (ix y12)) h) fun r28 h29 =>
      if r28 = 0 then (
        F_X3_between_L20 n K y11 y12 y13 f (x10 + (1 : Int32)) h29
      ) else (
        chk (h29.kind y11 = 5) <|
        ob (h29.R y11 12) fun a32 =>
        chk (h29.kind a32 = 35) <|
        chk (inb (0 : Int32) (h29.len a32)) <|
        ob (h29.R a32 (ix (0 : Int32))) fun a35 =>
        chk (h29.kind a35 = 32) <|
        chk (inb y13 (h29.len a35)) <|
        ob (h29.R y11 13) fun a38 =>
        chk (h29.kind a38 = 35) <|
        chk (inb (0 : Int32) (h29.len a38)) <|
        ob (h29.R a38 (ix (0 : Int32))) fun a41 =>
        chk (h29.kind a41 = 32) <|
        chk (inb y13 (h29.len a41)) <|
        bnd (F_X3_beatsAt n K y11 (h29.I a35 (ix y13)) (h29.I a41 (ix y13)) (x10 / (100 : Int32)) (x10 - x10 / (100 : Int32) * (100 : Int32)) h29) fun r44 h45 =>
        if r44 = 0 then (
          F_X3_between_L20 n K y11 y12 y13 f (x10 + (1 : Int32)) h45
        ) else (
          some (x10, h45)
        )
      )
    )
def F_X3_between (n : Nat) (K : Nat → Nat) (p0 : Nat) (p1 : Int32) (p2 : Int32) (h : AH) : Option (Int32 × AH) :=
  chk (h.kind p0 = 5) <|
  bnd (F_X3_isPlace n K p0 p1 h) fun r1 h2 =>
  if r1 = 0 then (
    some ((-1 : Int32), h2)
  ) else (
    chk (h2.kind p0 = 5) <|
    bnd (F_X3_isPlace n K p0 p2 h2) fun r5 h6 =>
    if ¬ r5 = 0 then (
      F_X3_between_L20 n K p0 p1 p2 n (0 : Int32) h6
    ) else (
      some ((-1 : Int32), h6)
    )
  )
def F_X3_chosen (n : Nat) (K : Nat → Nat) (p0 : Nat) (h : AH) : Option (Int32 × AH) :=
  chk (h.kind p0 = 5) <|
  bnd (F_X3_places n K p0 h) fun r1 h2 =>
  some (if r1 < (8 : Int32) then r1 else (8 : Int32), h2)
def F_X3_gain (n : Nat) (K : Nat → Nat) (p0 : Nat) (p1 : Int32) (p2 : Int32) (h : AH) : Option (Int32 × AH) :=
  chk (h.kind p0 = 5) <|
  bnd (F_X3_votesOf n K p0 p1 p2 h) fun r1 h2 =>
  chk (h2.kind p0 = 5) <|
  bnd (F_X3_votesOf n K p0 p2 p1 h2) fun r4 h5 =>
  some (r1 - r4, h5)
def F_X3_rest_L14 (n : Nat) (K : Nat → Nat) (y11 : Int32) (y12 : Nat) : Nat → Int32 → Int32 → AH → (Int32 → AH → Option (Int32 × AH)) → Option (Int32 × AH)
  | 0, _, _, _, _ => none
  | f + 1, x9, x10, h, k =>
    chk (h.kind y12 = 5) <|
    bnd (F_X3_chosen n K y12 h) fun r13 h14 =>
    if r13 ≤ x9 then (
      k x10 h14
    ) else (
      if x10 = 0 then (
        F_X3_rest_L14 n K y11 y12 f (x9 + (1 : Int32)) (0 : Int32) h14 k
      ) else (
        chk (h14.kind y12 = 5) <|
        bnd (F_X3_gain n K y12 x9 y11 h14) fun r18 h19 =>
        if 0 < r18 then (
          F_X3_rest_L14 n K y11 y12 f (x9 + (1 : Int32)) (0 : Int32) h19 k
        ) else (
          F_X3_rest_L14 n K y11 y12 f (x9 + (1 : Int32)) (1 : Int32) h19 k
        )
      )
    )
def F_X3_rest_L2 (n : Nat) (K : Nat → Nat) (y3 : Nat) : Nat → Int32 → AH → Option (Int32 × AH)
  | 0, _, _ => none
  | f + 1, x2, h =>
    chk (h.kind y3 = 5) <|
    bnd (F_X3_chosen n K y3 h) fun r4 h5 =>
    if r4 ≤ x2 then (
      some ((-1 : Int32), h5)
    ) else (
      F_X3_rest_L14 n K x2 y3 n (0 : Int32) (1 : Int32) h5 fun x22 h23 =>
      if x22 = 0 then (
        F_X3_rest_L2 n K y3 f (x2 + (1 : Int32)) h23
      ) else (
        some (x2, h23)
      )
    )
def F_X3_rest (n : Nat) (K : Nat → Nat) (p0 : Nat) (h : AH) : Option (Int32 × AH) :=
  F_X3_rest_L2 n K p0 n (0 : Int32) h
def F_X3_coupled_L30 (n : Nat) (K : Nat → Nat) (rec : Nat → Int32 → AH → Option (Int64 × AH)) (y8 : Int32) (y9 : Int32) (y10 : Nat) : Nat → Int32 → Int32 → Int64 → AH → Option (Int64 × AH)
  | 0, _, _, _, _ => none
  | f + 1, x5, x6, x7, h =>
    if (8 : Int32) ≤ x5 then (
      some (x7, h)
    ) else (
      if ¬ ((y8 >>> (x5 &&& 31)) &&& (1 : Int32)) = 0 then (
        chk (h.kind y10 = 5) <|
        ob (h.R y10 40) fun a14 =>
        chk (h.kind a14 = 36) <|
        chk (inb y9 (h.len a14)) <|
        ob (h.R a14 (ix y9)) fun a17 =>
        chk (h.kind a17 = 33) <|
        chk (inb x5 (h.len a17)) <|
        if (lg_cmp (h.L a17 (ix x5)) (0 : Int64)) = 0 then (
          F_X3_coupled_L30 n K rec y8 y9 y10 f (x5 + (1 : Int32)) (-x6) x7 h
        ) else (
          ob (h.R y10 40) fun a21 =>
          chk (h.kind a21 = 36) <|
          chk (inb y9 (h.len a21)) <|
          ob (h.R a21 (ix y9)) fun a24 =>
          chk (h.kind a24 = 33) <|
          chk (inb x5 (h.len a24)) <|
          bnd (rec y10 (y8 &&& (((1 : Int32) <<< (x5 &&& 31)) ^^^ (-1 : Int32))) h) fun r27 h28 =>
          F_X3_coupled_L30 n K rec y8 y9 y10 f (x5 + (1 : Int32)) (-x6) (x7 + ((x6.toInt64 * (h.L a24 (ix x5))) * r27)) h28
        )
      ) else (
        F_X3_coupled_L30 n K rec y8 y9 y10 f (x5 + (1 : Int32)) x6 x7 h
      )
    )
def F_X3_coupled_B (n : Nat) (K : Nat → Nat) (rec : Nat → Int32 → AH → Option (Int64 × AH)) (p0 : Nat) (p1 : Int32) (h : AH) : Option (Int64 × AH) :=
  if ¬ p1 = 0 then (
    bnd (F_J15_numberOfTrailingZeros n K p1 h) fun r2 h3 =>
    F_X3_coupled_L30 n K rec (p1 &&& (((1 : Int32) <<< (r2 &&& 31)) ^^^ (-1 : Int32))) r2 p0 n (r2 + (1 : Int32)) (1 : Int32) (0 : Int64) h3
  ) else (
    some ((1 : Int64), h)
  )
def F_X3_coupled (n : Nat) (K : Nat → Nat) : Nat → Nat → Int32 → AH → Option (Int64 × AH)
  | 0, _, _, _ => none
  | dd + 1, p0, p1, h => F_X3_coupled_B n K (F_X3_coupled n K dd) p0 p1 h
def F_X3_isLot_L13 (n : Nat) (K : Nat → Nat) (y7 : Nat) (y8 : Int32) : Nat → Int32 → Int32 → Int32 → Int64 → Int32 → AH → (Int32 → Int32 → Int64 → AH → Option (Int32 × AH)) → Option (Int32 × AH)
  | 0, _, _, _, _, _, _, _ => none
  | f + 1, x2, x3, x4, x5, x6, h, k =>
    if (8 : Int32) ≤ x2 then (
      k x3 x4 x5 h
    ) else (
      chk (h.kind y7 = 5) <|
      ob (h.R y7 41) fun a11 =>
      chk (h.kind a11 = 33) <|
      chk (inb x2 (h.len a11)) <|
      hl (h.setL a11 (ix x2) (0 : Int64)) fun h14 =>
      if ¬ ((y8 >>> (x2 &&& 31)) &&& (1 : Int32)) = 0 then (
        bnd (F_X3_coupled n K 8 y7 (y8 &&& (((1 : Int32) <<< (x2 &&& 31)) ^^^ (-1 : Int32))) h14) fun r17 h18 =>
        ob (h14.R y7 41) fun a19 =>
        chk (h18.kind a19 = 33) <|
        chk (inb x2 (h18.len a19)) <|
        hl (h18.setL a19 (ix x2) (x6.toInt64 * r17)) fun h22 =>
        chk (h22.kind y7 = 5) <|
        ob (h22.R y7 41) fun a25 =>
        chk (h22.kind a25 = 33) <|
        chk (inb x2 (h22.len a25)) <|
        jn (α := Int32 → Option (Int32 × AH)) (fun x28 =>
          ob (h22.R y7 41) fun a30 =>
          chk (h22.kind a30 = 33) <|
          chk (inb x2 (h22.len a30)) <|
          jn (α := Int32 → Option (Int32 × AH)) (fun x33 =>
            ob (h22.R y7 41) fun a35 =>
            chk (h22.kind a35 = 33) <|
            chk (inb x2 (h22.len a35)) <|
            bnd (F_X3_gcd n K x5 (h22.L a35 (ix x2)) h22) fun r38 h39 =>
            F_X3_isLot_L13 n K y7 y8 f (x2 + (1 : Int32)) (x3 + x28) (x4 + x33) r38 (-x6) h39 k
          ) fun j34 =>
          if 0 ≤ (lg_cmp (h22.L a30 (ix x2)) (0 : Int64)) then (
            j34 (0 : Int32)
          ) else (
            j34 (1 : Int32)
          )
        ) fun j29 =>
        if (lg_cmp (h22.L a25 (ix x2)) (0 : Int64)) ≤ 0 then (
          j29 (0 : Int32)
        ) else (
          j29 (1 : Int32)
        )
      ) else (
        F_X3_isLot_L13 n K y7 y8 f (x2 + (1 : Int32)) x3 x4 x5 x6 h14 k
      )
    )
def F_X3_isLot_L152 (n : Nat) (K : Nat → Nat) (y53 : Int32) (y54 : Int64) (y55 : Nat) : Nat → Int32 → AH → (AH → Option (Int32 × AH)) → Option (Int32 × AH)
  | 0, _, _, _ => none
  | f + 1, x52, h, k =>
    if (8 : Int32) ≤ x52 then (
      k h
    ) else (
      chk (h.kind y55 = 5) <|
      jn (α := Int64 → Option (Int32 × AH)) (fun x58 =>
        chk (¬ y54 = 0) <|
        ob (h.R y55 41) fun a61 =>
        chk (h.kind a61 = 33) <|
        chk (inb x52 (h.len a61)) <|
        hl (h.setL a61 (ix x52) (x58 / y54)) fun h64 =>
        F_X3_isLot_L152 n K y53 y54 y55 f (x52 + (1 : Int32)) h64 k
      ) fun j59 =>
      if y53 ≤ 0 then (
        ob (h.R y55 41) fun a68 =>
        chk (h.kind a68 = 33) <|
        chk (inb x52 (h.len a68)) <|
        j59 (h.L a68 (ix x52))
      ) else (
        ob (h.R y55 41) fun a71 =>
        chk (h.kind a71 = 33) <|
        chk (inb x52 (h.len a71)) <|
        j59 (-(h.L a71 (ix x52)))
      )
    )
def F_X3_isLot_L215 (n : Nat) (K : Nat → Nat) (y85 : Int32) (y86 : Nat) : Nat → Int32 → Int64 → AH → (Int64 → AH → Option (Int32 × AH)) → Option (Int32 × AH)
  | 0, _, _, _, _ => none
  | f + 1, x83, x84, h, k =>
    chk (h.kind y86 = 5) <|
    bnd (F_X3_chosen n K y86 h) fun r87 h88 =>
    if r87 ≤ x83 then (
      k x84 h88
    ) else (
      chk (h88.kind y86 = 5) <|
      ob (h88.R y86 40) fun a92 =>
      chk (h88.kind a92 = 36) <|
      chk (inb y85 (h88.len a92)) <|
      ob (h88.R a92 (ix y85)) fun a95 =>
      chk (h88.kind a95 = 33) <|
      chk (inb x83 (h88.len a95)) <|
      ob (h88.R y86 41) fun a98 =>
      chk (h88.kind a98 = 33) <|
      chk (inb x83 (h88.len a98)) <|
      F_X3_isLot_L215 n K y85 y86 f (x83 + (1 : Int32)) (x84 + ((h88.L a95 (ix x83)) * (h88.L a98 (ix x83)))) h88 k
    )
def F_X3_isLot_L200 (n : Nat) (K : Nat → Nat) (y77 : Nat) : Nat → Int32 → AH → Option (Int32 × AH)
  | 0, _, _ => none
  | f + 1, x76, h =>
    chk (h.kind y77 = 5) <|
    bnd (F_X3_chosen n K y77 h) fun r78 h79 =>
    if r78 ≤ x76 then (
      some ((1 : Int32), h79)
    ) else (
      F_X3_isLot_L215 n K x76 y77 n (0 : Int32) (0 : Int64) h79 fun x101 h102 =>
      if (lg_cmp x101 (0 : Int64)) ≤ 0 then (
        F_X3_isLot_L200 n K y77 f (x76 + (1 : Int32)) h102
      ) else (
        some ((0 : Int32), h102)
      )
    )
def F_X3_isLot (n : Nat) (K : Nat → Nat) (p0 : Nat) (p1 : Int32) (h : AH) : Option (Int32 × AH) :=
  F_X3_isLot_L13 n K p0 p1 n (0 : Int32) (0 : Int32) (0 : Int32) (0 : Int64) (1 : Int32) h fun x44 x45 x46 h47 =>
  bnd (F_J15_bitCount n K p1 h47) fun r48 h49 =>
  jn (α := Option (Int32 × AH)) (
    F_X3_isLot_L152 n K x45 x46 p0 n (0 : Int32) h49 fun h74 =>
    F_X3_isLot_L200 n K p0 n (0 : Int32) h74
  ) fun j50 =>
  if x44 = r48 then (
    j50
  ) else (
    if x45 = r48 then (
      j50
    ) else (
      some ((0 : Int32), h49)
    )
  )
def F_X3_findsLots_L12 (n : Nat) (K : Nat → Nat) (y10 : Int32) (y11 : Nat) : Nat → Int32 → AH → (AH → Option (Int32 × AH)) → Option (Int32 × AH)
  | 0, _, _, _ => none
  | f + 1, x9, h, k =>
    chk (h.kind y11 = 5) <|
    bnd (F_X3_chosen n K y11 h) fun r12 h13 =>
    if r12 ≤ x9 then (
      k h13
    ) else (
      chk (h13.kind y11 = 5) <|
      ob (h13.R y11 40) fun a17 =>
      chk (h13.kind a17 = 36) <|
      chk (inb y10 (h13.len a17)) <|
      bnd (F_X3_gain n K y11 y10 x9 h13) fun r20 h21 =>
      ob (h13.R a17 (ix y10)) fun a22 =>
      chk (h21.kind a22 = 33) <|
      chk (inb x9 (h21.len a22)) <|
      hl (h21.setL a22 (ix x9) r20.toInt64) fun h25 =>
      F_X3_findsLots_L12 n K y10 y11 f (x9 + (1 : Int32)) h25 k
    )
def F_X3_findsLots_L2 (n : Nat) (K : Nat → Nat) (y3 : Nat) : Nat → Int32 → AH → (AH → Option (Int32 × AH)) → Option (Int32 × AH)
  | 0, _, _, _ => none
  | f + 1, x2, h, k =>
    chk (h.kind y3 = 5) <|
    bnd (F_X3_chosen n K y3 h) fun r4 h5 =>
    if r4 ≤ x2 then (
      k h5
    ) else (
      F_X3_findsLots_L12 n K x2 y3 n (0 : Int32) h5 fun h27 =>
      F_X3_findsLots_L2 n K y3 f (x2 + (1 : Int32)) h27 k
    )
def F_X3_findsLots_L59 (n : Nat) (K : Nat → Nat) (y38 : Int32) (y39 : Nat) : Nat → Int32 → AH → (AH → Option (Int32 × AH)) → Option (Int32 × AH)
  | 0, _, _, _ => none
  | f + 1, x37, h, k =>
    chk (h.kind y39 = 5) <|
    bnd (F_X3_chosen n K y39 h) fun r40 h41 =>
    if ((1 : Int32) <<< (r40 &&& 31)) ≤ x37 then (
      k h41
    ) else (
      bnd (F_J15_bitCount n K x37 h41) fun r44 h45 =>
      if ¬ r44 = y38 then (
        F_X3_findsLots_L59 n K y38 y39 f (x37 + (1 : Int32)) h45 k
      ) else (
        chk (h45.kind y39 = 5) <|
        bnd (F_X3_isLot n K y39 x37 h45) fun r47 h48 =>
        if r47 = 0 then (
          F_X3_findsLots_L59 n K y38 y39 f (x37 + (1 : Int32)) h48 k
        ) else (
          some ((1 : Int32), h48)
        )
      )
    )
def F_X3_findsLots_L49 (n : Nat) (K : Nat → Nat) (y31 : Nat) : Nat → Int32 → AH → Option (Int32 × AH)
  | 0, _, _ => none
  | f + 1, x30, h =>
    chk (h.kind y31 = 5) <|
    bnd (F_X3_chosen n K y31 h) fun r32 h33 =>
    if r32 < x30 then (
      some ((0 : Int32), h33)
    ) else (
      F_X3_findsLots_L59 n K x30 y31 n (1 : Int32) h33 fun h51 =>
      F_X3_findsLots_L49 n K y31 f (x30 + (2 : Int32)) h51
    )
def F_X3_findsLots (n : Nat) (K : Nat → Nat) (p0 : Nat) (h : AH) : Option (Int32 × AH) :=
  F_X3_findsLots_L2 n K p0 n (0 : Int32) h fun h28 =>
  F_X3_findsLots_L49 n K p0 n (1 : Int32) h28
def F_X3_lot_L32 (n : Nat) (K : Nat → Nat) (y14 : Nat) (y15 : Int32) (h : AH) : Nat → Int32 → Int64 → Option (Int32 × AH)
  | 0, _, _ => none
  | f + 1, x12, x13 =>
    if (8 : Int32) ≤ x12 then (
      if ¬ y15 = (-1 : Int32) then (
        chk (h.kind y14 = 5) <|
        ob (h.R y14 41) fun a19 =>
        chk (h.kind a19 = 33) <|
        chk (inb y15 (h.len a19)) <|
        some ((h.L a19 (ix y15)).toInt32, h)
      ) else (
        some (x13.toInt32, h)
      )
    ) else (
      chk (h.kind y14 = 5) <|
      ob (h.R y14 41) fun a23 =>
      chk (h.kind a23 = 33) <|
      chk (inb x12 (h.len a23)) <|
      F_X3_lot_L32 n K y14 y15 h f (x12 + (1 : Int32)) (x13 + (h.L a23 (ix x12)))
    )
def F_X3_lot (n : Nat) (K : Nat → Nat) (p0 : Nat) (p1 : Int32) (h : AH) : Option (Int32 × AH) :=
  chk (h.kind p0 = 5) <|
  bnd (F_X3_chosen n K p0 h) fun r1 h2 =>
  bnd (F_X3_in n K p1.toInt64 (-1 : Int64) ((r1 - (1 : Int32)).toInt64) h2) fun r4 h5 =>
  if r4 = 0 then (
    some ((-1 : Int32), h5)
  ) else (
    chk (h5.kind p0 = 5) <|
    bnd (F_X3_findsLots n K p0 h5) fun r7 h8 =>
    if ¬ r7 = 0 then (
      F_X3_lot_L32 n K p0 p1 h8 n (0 : Int32) (0 : Int64)
    ) else (
      some ((-1 : Int32), h8)
    )
  )
def F_X3_needOf_L4 (n : Nat) (K : Nat → Nat) (y4 : Nat) (y5 : Int32) : Nat → Int32 → Int32 → AH → Option (Int32 × AH)
  | 0, _, _, _ => none
  | f + 1, x2, x3, h =>
    chk (h.kind y4 = 5) <|
    bnd (F_X3_places n K y4 h) fun r6 h7 =>
    if r6 ≤ x2 then (
      some (x3, h7)
    ) else (
      if x2 = y5 then (
        F_X3_needOf_L4 n K y4 y5 f (x2 + (1 : Int32)) x3 h7
      ) else (
        chk (h7.kind y4 = 5) <|
        bnd (F_X3_votesOf n K y4 x2 y5 h7) fun r11 h12 =>
        F_X3_needOf_L4 n K y4 y5 f (x2 + (1 : Int32)) (if x3 < r11 then r11 else x3) h12
      )
    )
def F_X3_needOf (n : Nat) (K : Nat → Nat) (p0 : Nat) (p1 : Int32) (h : AH) : Option (Int32 × AH) :=
  F_X3_needOf_L4 n K p0 p1 n (0 : Int32) (0 : Int32) h
def F_X3_need_L38 (n : Nat) (K : Nat → Nat) (y11 : Nat) : Nat → Int32 → Int32 → AH → Option (Int32 × AH)
  | 0, _, _, _ => none
  | f + 1, x9, x10, h =>
    chk (h.kind y11 = 5) <|
    bnd (F_X3_places n K y11 h) fun r12 h13 =>
    if r12 ≤ x9 then (
      some (x10, h13)
    ) else (
      chk (h13.kind y11 = 5) <|
      bnd (F_X3_needOf n K y11 x9 h13) fun r16 h17 =>
      chk (h17.kind y11 = 5) <|
      bnd (F_X3_needOf n K y11 x10 h17) fun r19 h20 =>
      if r19 ≤ r16 then (
        F_X3_need_L38 n K y11 f (x9 + (1 : Int32)) x10 h20
      ) else (
        F_X3_need_L38 n K y11 f (x9 + (1 : Int32)) x9 h20
      )
    )
def F_X3_need (n : Nat) (K : Nat → Nat) (p0 : Nat) (p1 : Int32) (h : AH) : Option (Int32 × AH) :=
  chk (h.kind p0 = 5) <|
  bnd (F_X3_places n K p0 h) fun r1 h2 =>
  if r1 < (2 : Int32) then (
    some ((-1 : Int32), h2)
  ) else (
    jn (α := AH → Option (Int32 × AH)) (fun h5 =>
      if p1 = (-1 : Int32) then (
        F_X3_need_L38 n K p0 n (1 : Int32) (0 : Int32) h5
      ) else (
        chk (h5.kind p0 = 5) <|
        bnd (F_X3_needOf n K p0 p1 h5) fun r23 h24 =>
        some (r23, h24)
      )
    ) fun j6 =>
    if p1 = (-1 : Int32) then (
      j6 h2
    ) else (
      chk (h2.kind p0 = 5) <|
      bnd (F_X3_isPlace n K p0 p1 h2) fun r28 h29 =>
      if ¬ r28 = 0 then (
        j6 h29
      ) else (
        some ((-1 : Int32), h29)
      )
    )
  )
def F_X3_most_L22 (n : Nat) (K : Nat → Nat) (y11 : Nat) (y12 : Int32) (y13 : Int32) : Nat → Int32 → Int32 → AH → Option (Int32 × AH)
  | 0, _, _, _ => none
  | f + 1, x9, x10, h =>
    if (10000 : Int32) ≤ x9 then (
      some (x10, h)
    ) else (
      chk (h.kind y11 = 5) <|
      bnd (F_X3_forOf n K y11 (x9 / (100 : Int32)) (x9 - x9 / (100 : Int32) * (100 : Int32)) y12 y13 h) fun r15 h16 =>
      F_X3_most_L22 n K y11 y12 y13 f (x9 + (1 : Int32)) (if x10 < r15 then r15 else x10) h16
    )
def F_X3_most (n : Nat) (K : Nat → Nat) (p0 : Nat) (p1 : Int32) (p2 : Int32) (h : AH) : Option (Int32 × AH) :=
  chk (h.kind p0 = 5) <|
  bnd (F_X3_voters n K p0 h) fun r1 h2 =>
  if r1 = 0 then (
    some ((-1 : Int32), h2)
  ) else (
    bnd (F_X3_isPoint n K p1 p2 h2) fun r5 h6 =>
    if ¬ r5 = 0 then (
      F_X3_most_L22 n K p0 p1 p2 n (0 : Int32) (0 : Int32) h6
    ) else (
      some ((-1 : Int32), h6)
    )
  )
def F_X3_isUnbeaten_L2 (n : Nat) (K : Nat → Nat) (y3 : Nat) (y4 : Int32) : Nat → Int32 → AH → Option (Int32 × AH)
  | 0, _, _ => none
  | f + 1, x2, h =>
    chk (h.kind y3 = 5) <|
    bnd (F_X3_places n K y3 h) fun r5 h6 =>
    if r5 ≤ x2 then (
      some ((1 : Int32), h6)
    ) else (
      if x2 = y4 then (
        F_X3_isUnbeaten_L2 n K y3 y4 f (x2 + (1 : Int32)) h6
      ) else (
        chk (h6.kind y3 = 5) <|
        bnd (F_X3_beatsOf n K y3 x2 y4 h6) fun r10 h11 =>
        if r10 = 0 then (
          F_X3_isUnbeaten_L2 n K y3 y4 f (x2 + (1 : Int32)) h11
        ) else (
          some ((0 : Int32), h11)
        )
      )
    )
def F_X3_isUnbeaten (n : Nat) (K : Nat → Nat) (p0 : Nat) (p1 : Int32) (h : AH) : Option (Int32 × AH) :=
  F_X3_isUnbeaten_L2 n K p0 p1 n (0 : Int32) h
def F_X3_peace_L2 (n : Nat) (K : Nat → Nat) (y3 : Nat) : Nat → Int32 → AH → Option (Int32 × AH)
  | 0, _, _ => none
  | f + 1, x2, h =>
    chk (h.kind y3 = 5) <|
    bnd (F_X3_places n K y3 h) fun r4 h5 =>
    if r4 ≤ x2 then (
      some ((-1 : Int32), h5)
    ) else (
      chk (h5.kind y3 = 5) <|
      bnd (F_X3_isUnbeaten n K y3 x2 h5) fun r8 h9 =>
      if r8 = 0 then (
        F_X3_peace_L2 n K y3 f (x2 + (1 : Int32)) h9
      ) else (
        some (x2, h9)
      )
    )
def F_X3_peace (n : Nat) (K : Nat → Nat) (p0 : Nat) (h : AH) : Option (Int32 × AH) :=
  F_X3_peace_L2 n K p0 n (0 : Int32) h
def F_X3_make_L58 (n : Nat) (K : Nat → Nat) (y33 : Int32) (y34 : Int32) (y35 : Int32) (y39 : Nat) (y40 : Int32) : Nat → Int32 → Int32 → Int32 → Int32 → AH → (Int32 → Int32 → Int32 → AH → Option (Int32 × AH)) → Option (Int32 × AH)
  | 0, _, _, _, _, _, _ => none
  | f + 1, x32, x36, x37, x38, h, k =>
    chk (h.kind y39 = 5) <|
    bnd (F_X3_places n K y39 h) fun r41 h42 =>
    if r41 ≤ x32 then (
      k x36 x37 x38 h42
    ) else (
      chk (h42.kind y39 = 5) <|
      ob (h42.R y39 12) fun a46 =>
      chk (h42.kind a46 = 35) <|
      chk (inb (0 : Int32) (h42.len a46)) <|
      ob (h42.R a46 (ix (0 : Int32))) fun a49 =>
      chk (h42.kind a49 = 32) <|
      chk (inb x32 (h42.len a49)) <|
      ob (h42.R y39 13) fun a52 =>
      chk (h42.kind a52 = 35) <|
      chk (inb (0 : Int32) (h42.len a52)) <|
      ob (h42.R a52 (ix (0 : Int32))) fun a55 =>
      chk (h42.kind a55 = 32) <|
      chk (inb x32 (h42.len a55)) <|
      ob (h42.R y39 8) fun a58 =>
      chk (h42.kind a58 = 35) <|
      chk (inb (0 : Int32) (h42.len a58)) <|
      ob (h42.R a58 (ix (0 : Int32))) fun a61 =>
      chk (h42.kind a61 = 32) <|
      chk (inb y35 (h42.len a61)) <|
      jn (α := Option (Int32 × AH)) (
        ob (h42.R y39 6) fun a65 =>
        chk (h42.kind a65 = 35) <|
        chk (inb (0 : Int32) (h42.len a65)) <|
        ob (h42.R y39 12) fun a68 =>
        chk (h42.kind a68 = 35) <|
        chk (inb (0 : Int32) (h42.len a68)) <|
        ob (h42.R a68 (ix (0 : Int32))) fun a71 =>
        chk (h42.kind a71 = 32) <|
        chk (inb x32 (h42.len a71)) <|
        ob (h42.R a65 (ix (0 : Int32))) fun a74 =>
        chk (h42.kind a74 = 32) <|
        chk (inb y35 (h42.len a74)) <|
        hl (h42.setI a74 (ix y35) (h42.I a71 (ix x32))) fun h77 =>
        ob (h77.R y39 7) fun a79 =>
        chk (h77.kind a79 = 35) <|
        chk (inb (0 : Int32) (h77.len a79)) <|
        ob (h77.R y39 13) fun a82 =>
        chk (h77.kind a82 = 35) <|
        chk (inb (0 : Int32) (h77.len a82)) <|
        ob (h77.R a82 (ix (0 : Int32))) fun a85 =>
        chk (h77.kind a85 = 32) <|
        chk (inb x32 (h77.len a85)) <|
        ob (h77.R a79 (ix (0 : Int32))) fun a88 =>
        chk (h77.kind a88 = 32) <|
        chk (inb y35 (h77.len a88)) <|
        hl (h77.setI a88 (ix y35) (h77.I a85 (ix x32))) fun h91 =>
        bnd (F_X3_peace n K y39 h91) fun r93 h94 =>
        jn (α := Int32 → Int32 → Int32 → Option (Int32 × AH)) (fun x95 x96 x97 =>
          chk (h94.kind y39 = 5) <|
          ob (h94.R y39 6) fun a100 =>
          chk (h94.kind a100 = 35) <|
          chk (inb (0 : Int32) (h94.len a100)) <|
          ob (h94.R a100 (ix (0 : Int32))) fun a103 =>
          chk (h94.kind a103 = 32) <|
          chk (inb y35 (h94.len a103)) <|
          hl (h94.setI a103 (ix y35) y34) fun h106 =>
          ob (h106.R y39 7) fun a108 =>
          chk (h106.kind a108 = 35) <|
          chk (inb (0 : Int32) (h106.len a108)) <|
          ob (h106.R a108 (ix (0 : Int32))) fun a111 =>
          chk (h106.kind a111 = 32) <|
          chk (inb y35 (h106.len a111)) <|
          hl (h106.setI a111 (ix y35) y33) fun h114 =>
          F_X3_make_L58 n K y33 y34 y35 y39 y40 f (x32 + (1 : Int32)) x97 x96 x95 h114 k
        ) fun j98 =>
        if r93 = (-1 : Int32) then (
          j98 x38 x37 x36
        ) else (
          j98 y35 x32 (((((h42.I a49 (ix x32)) - y34) * ((h42.I a49 (ix x32)) - y34)) + (((h42.I a55 (ix x32)) - y33) * ((h42.I a55 (ix x32)) - y33))) * (h42.I a61 (ix y35)))
        )
      ) fun j64 =>
      if x38 = (-1 : Int32) then (
        j64
      ) else (
        if (((((h42.I a49 (ix x32)) - y34) * ((h42.I a49 (ix x32)) - y34)) + (((h42.I a55 (ix x32)) - y33) * ((h42.I a55 (ix x32)) - y33))) * (h42.I a61 (ix y35))) < x36 then (
          j64
        ) else (
          F_X3_make_L58 n K y33 y34 y35 y39 y40 f (x32 + (1 : Int32)) x36 x37 x38 h42 k
        )
      )
    )
def F_X3_make_L24 (n : Nat) (K : Nat → Nat) (y9 : Nat) (y10 : Int32) : Nat → Int32 → Int32 → Int32 → Int32 → AH → Option (Int32 × AH)
  | 0, _, _, _, _, _ => none
  | f + 1, x5, x6, x7, x8, h =>
    chk (h.kind y9 = 5) <|
    bnd (F_X3_voters n K y9 h) fun r11 h12 =>
    if r11 ≤ x5 then (
      if ¬ x8 = (-1 : Int32) then (
        if ¬ y10 = 0 then (
          if ¬ y10 = (1 : Int32) then (
            some (x6, h12)
          ) else (
            some (x7, h12)
          )
        ) else (
          some (x8, h12)
        )
      ) else (
        some ((-1 : Int32), h12)
      )
    ) else (
      chk (h12.kind y9 = 5) <|
      ob (h12.R y9 6) fun a19 =>
      chk (h12.kind a19 = 35) <|
      chk (inb (0 : Int32) (h12.len a19)) <|
      ob (h12.R a19 (ix (0 : Int32))) fun a22 =>
      chk (h12.kind a22 = 32) <|
      chk (inb x5 (h12.len a22)) <|
      ob (h12.R y9 7) fun a25 =>
      chk (h12.kind a25 = 35) <|
      chk (inb (0 : Int32) (h12.len a25)) <|
      ob (h12.R a25 (ix (0 : Int32))) fun a28 =>
      chk (h12.kind a28 = 32) <|
      chk (inb x5 (h12.len a28)) <|
      F_X3_make_L58 n K (h12.I a28 (ix x5)) (h12.I a22 (ix x5)) x5 y9 y10 n (0 : Int32) x6 x7 x8 h12 fun x121 x122 x123 h124 =>
      F_X3_make_L24 n K y9 y10 f (x5 + (1 : Int32)) x121 x122 x123 h124
    )
def F_X3_make (n : Nat) (K : Nat → Nat) (p0 : Nat) (p1 : Int32) (h : AH) : Option (Int32 × AH) :=
  bnd (F_X3_in n K p1.toInt64 (0 : Int64) (2 : Int64) h) fun r1 h2 =>
  if ¬ r1 = 0 then (
    F_X3_make_L24 n K p0 p1 n (0 : Int32) (0 : Int32) (-1 : Int32) (-1 : Int32) h2
  ) else (
    some ((-1 : Int32), h2)
  )
def F_X3_joins_L2 (n : Nat) (K : Nat → Nat) (y3 : Nat) (y4 : Int32) (y5 : Int32) : Nat → Int32 → AH → (AH → Option (Int32 × AH)) → Option (Int32 × AH)
  | 0, _, _, _ => none
  | f + 1, x2, h, k =>
    chk (h.kind y3 = 5) <|
    bnd (F_X3_voters n K y3 h) fun r6 h7 =>
    if r6 ≤ x2 then (
      k h7
    ) else (
      chk (h7.kind y3 = 5) <|
      ob (h7.R y3 6) fun a11 =>
      chk (h7.kind a11 = 35) <|
      chk (inb (0 : Int32) (h7.len a11)) <|
      ob (h7.R a11 (ix (0 : Int32))) fun a14 =>
      chk (h7.kind a14 = 32) <|
      chk (inb x2 (h7.len a14)) <|
      ob (h7.R y3 42) fun a17 =>
      chk (h7.kind a17 = 32) <|
      chk (inb x2 (h7.len a17)) <|
      hl (h7.setI a17 (ix x2) (h7.I a14 (ix x2))) fun h20 =>
      ob (h20.R y3 7) fun a22 =>
      chk (h20.kind a22 = 35) <|
      chk (inb (0 : Int32) (h20.len a22)) <|
      ob (h20.R a22 (ix (0 : Int32))) fun a25 =>
      chk (h20.kind a25 = 32) <|
      chk (inb x2 (h20.len a25)) <|
      ob (h20.R y3 43) fun a28 =>
      chk (h20.kind a28 = 32) <|
      chk (inb x2 (h20.len a28)) <|
      hl (h20.setI a28 (ix x2) (h20.I a25 (ix x2))) fun h31 =>
      if (9 : Int32) ≤ x2 then (
        F_X3_joins_L2 n K y3 y4 y5 f (x2 + (1 : Int32)) h31 k
      ) else (
        if ¬ ((y4 >>> (x2 &&& 31)) &&& (1 : Int32)) = 0 then (
          ob (h31.R y3 6) fun a35 =>
          chk (h31.kind a35 = 35) <|
          chk (inb (0 : Int32) (h31.len a35)) <|
          ob (h31.R y3 12) fun a38 =>
          chk (h31.kind a38 = 35) <|
          chk (inb (0 : Int32) (h31.len a38)) <|
          ob (h31.R a38 (ix (0 : Int32))) fun a41 =>
          chk (h31.kind a41 = 32) <|
          chk (inb y5 (h31.len a41)) <|
          ob (h31.R a35 (ix (0 : Int32))) fun a44 =>
          chk (h31.kind a44 = 32) <|
          chk (inb x2 (h31.len a44)) <|
          hl (h31.setI a44 (ix x2) (h31.I a41 (ix y5))) fun h47 =>
          ob (h47.R y3 7) fun a49 =>
          chk (h47.kind a49 = 35) <|
          chk (inb (0 : Int32) (h47.len a49)) <|
          ob (h47.R y3 13) fun a52 =>
          chk (h47.kind a52 = 35) <|
          chk (inb (0 : Int32) (h47.len a52)) <|
          ob (h47.R a52 (ix (0 : Int32))) fun a55 =>
          chk (h47.kind a55 = 32) <|
          chk (inb y5 (h47.len a55)) <|
          ob (h47.R a49 (ix (0 : Int32))) fun a58 =>
          chk (h47.kind a58 = 32) <|
          chk (inb x2 (h47.len a58)) <|
          hl (h47.setI a58 (ix x2) (h47.I a55 (ix y5))) fun h61 =>
          F_X3_joins_L2 n K y3 y4 y5 f (x2 + (1 : Int32)) h61 k
        ) else (
          F_X3_joins_L2 n K y3 y4 y5 f (x2 + (1 : Int32)) h31 k
        )
      )
    )
def F_X3_joins_L102 (n : Nat) (K : Nat → Nat) (y69 : Int32) (y70 : Nat) : Nat → Int32 → AH → Option (Int32 × AH)
  | 0, _, _ => none
  | f + 1, x68, h =>
    chk (h.kind y70 = 5) <|
    bnd (F_X3_voters n K y70 h) fun r71 h72 =>
    if r71 ≤ x68 then (
      chk (y69 = 0 ∨ y69 = 1) <|
      some (y69, h72)
    ) else (
      chk (h72.kind y70 = 5) <|
      ob (h72.R y70 6) fun a77 =>
      chk (h72.kind a77 = 35) <|
      chk (inb (0 : Int32) (h72.len a77)) <|
      ob (h72.R y70 42) fun a80 =>
      chk (h72.kind a80 = 32) <|
      chk (inb x68 (h72.len a80)) <|
      ob (h72.R a77 (ix (0 : Int32))) fun a83 =>
      chk (h72.kind a83 = 32) <|
      chk (inb x68 (h72.len a83)) <|
      hl (h72.setI a83 (ix x68) (h72.I a80 (ix x68))) fun h86 =>
      ob (h86.R y70 7) fun a88 =>
      chk (h86.kind a88 = 35) <|
      chk (inb (0 : Int32) (h86.len a88)) <|
      ob (h86.R y70 43) fun a91 =>
      chk (h86.kind a91 = 32) <|
      chk (inb x68 (h86.len a91)) <|
      ob (h86.R a88 (ix (0 : Int32))) fun a94 =>
      chk (h86.kind a94 = 32) <|
      chk (inb x68 (h86.len a94)) <|
      hl (h86.setI a94 (ix x68) (h86.I a91 (ix x68))) fun h97 =>
      F_X3_joins_L102 n K y69 y70 f (x68 + (1 : Int32)) h97
    )
def F_X3_joins (n : Nat) (K : Nat → Nat) (p0 : Nat) (p1 : Int32) (p2 : Int32) (h : AH) : Option (Int32 × AH) :=
  F_X3_joins_L2 n K p0 p1 p2 n (0 : Int32) h fun h63 =>
  chk (h63.kind p0 = 5) <|
  bnd (F_X3_isUnbeaten n K p0 p2 h63) fun r64 h65 =>
  F_X3_joins_L102 n K r64 p0 n (0 : Int32) h65
def F_X3_join_L30 (n : Nat) (K : Nat → Nat) (y16 : Int32) (y17 : Int32) (y18 : Nat) (y19 : Int32) : Nat → Int32 → AH → (AH → Option (Int32 × AH)) → Option (Int32 × AH)
  | 0, _, _, _ => none
  | f + 1, x15, h, k =>
    if ((1 : Int32) <<< (y17 &&& 31)) ≤ x15 then (
      k h
    ) else (
      bnd (F_J15_bitCount n K x15 h) fun r21 h22 =>
      if ¬ r21 = y16 then (
        F_X3_join_L30 n K y16 y17 y18 y19 f (x15 + (1 : Int32)) h22 k
      ) else (
        chk (h22.kind y18 = 5) <|
        bnd (F_X3_joins n K y18 x15 y19 h22) fun r24 h25 =>
        if r24 = 0 then (
          F_X3_join_L30 n K y16 y17 y18 y19 f (x15 + (1 : Int32)) h25 k
        ) else (
          some (x15, h25)
        )
      )
    )
def F_X3_join_L22 (n : Nat) (K : Nat → Nat) (y10 : Int32) (y11 : Nat) (y12 : Int32) : Nat → Int32 → AH → Option (Int32 × AH)
  | 0, _, _ => none
  | f + 1, x9, h =>
    if y10 < x9 then (
      some ((-1 : Int32), h)
    ) else (
      F_X3_join_L30 n K x9 y10 y11 y12 n (0 : Int32) h fun h28 =>
      F_X3_join_L22 n K y10 y11 y12 f (x9 + (1 : Int32)) h28
    )
def F_X3_join (n : Nat) (K : Nat → Nat) (p0 : Nat) (p1 : Int32) (h : AH) : Option (Int32 × AH) :=
  chk (h.kind p0 = 5) <|
  bnd (F_X3_isPlace n K p0 p1 h) fun r1 h2 =>
  if ¬ r1 = 0 then (
    chk (h2.kind p0 = 5) <|
    bnd (F_X3_voters n K p0 h2) fun r5 h6 =>
    F_X3_join_L22 n K (if r5 < (9 : Int32) then r5 else (9 : Int32)) p0 p1 n (0 : Int32) h6
  ) else (
    some ((-1 : Int32), h2)
  )
def F_X3_sure_L64 (n : Nat) (K : Nat → Nat) (y37 : Int32) (y41 : Nat) (y42 : Int32) (y43 : Int32) (y44 : Int32) (y45 : Int32) : Nat → Int32 → Int32 → Int32 → Int32 → AH → (Int32 → Int32 → Int32 → AH → Option (Int32 × AH)) → Option (Int32 × AH)
  | 0, _, _, _, _, _, _ => none
  | f + 1, x36, x38, x39, x40, h, k =>
    chk (h.kind y41 = 5) <|
    ob (h.R y41 7) fun a47 =>
    chk (h.kind a47 = 35) <|
    chk (inb (0 : Int32) (h.len a47)) <|
    ob (h.R a47 (ix (0 : Int32))) fun a50 =>
    chk (h.kind a50 = 32) <|
    chk (inb y42 (h.len a50)) <|
    if (if ((h.I a50 (ix y42)) + y45) < (99 : Int32) then ((h.I a50 (ix y42)) + y45) else (99 : Int32)) < x36 then (
      k x38 x39 x40 h
    ) else (
      ob (h.R y41 12) fun a54 =>
      chk (h.kind a54 = 35) <|
      chk (inb (0 : Int32) (h.len a54)) <|
      ob (h.R a54 (ix (0 : Int32))) fun a57 =>
      chk (h.kind a57 = 32) <|
      chk (inb y43 (h.len a57)) <|
      ob (h.R y41 13) fun a60 =>
      chk (h.kind a60 = 35) <|
      chk (inb (0 : Int32) (h.len a60)) <|
      ob (h.R a60 (ix (0 : Int32))) fun a63 =>
      chk (h.kind a63 = 32) <|
      chk (inb y43 (h.len a63)) <|
      bnd (F_X3_wayFrom n K y41 y42 y37 x36 (h.I a57 (ix y43)) (h.I a63 (ix y43)) h) fun r66 h67 =>
      chk (h67.kind y41 = 5) <|
      ob (h67.R y41 12) fun a69 =>
      chk (h67.kind a69 = 35) <|
      chk (inb (0 : Int32) (h67.len a69)) <|
      ob (h67.R a69 (ix (0 : Int32))) fun a72 =>
      chk (h67.kind a72 = 32) <|
      chk (inb y44 (h67.len a72)) <|
      ob (h67.R y41 13) fun a75 =>
      chk (h67.kind a75 = 35) <|
      chk (inb (0 : Int32) (h67.len a75)) <|
      ob (h67.R a75 (ix (0 : Int32))) fun a78 =>
      chk (h67.kind a78 = 32) <|
      chk (inb y44 (h67.len a78)) <|
      bnd (F_X3_wayFrom n K y41 y42 y37 x36 (h67.I a72 (ix y44)) (h67.I a78 (ix y44)) h67) fun r81 h82 =>
      jn (α := Int32 → Option (Int32 × AH)) (fun x83 =>
        jn (α := Int32 → Option (Int32 × AH)) (fun x85 =>
          if x38 = 0 then (
            F_X3_sure_L64 n K y37 y41 y42 y43 y44 y45 f (x36 + (1 : Int32)) (0 : Int32) x85 x83 h82 k
          ) else (
            if ¬ (r66 - r81) = 0 then (
              F_X3_sure_L64 n K y37 y41 y42 y43 y44 y45 f (x36 + (1 : Int32)) (0 : Int32) x85 x83 h82 k
            ) else (
              F_X3_sure_L64 n K y37 y41 y42 y43 y44 y45 f (x36 + (1 : Int32)) (1 : Int32) x85 x83 h82 k
            )
          )
        ) fun j86 =>
        if x39 = 0 then (
          j86 (0 : Int32)
        ) else (
          if (r66 - r81) ≤ 0 then (
            j86 (0 : Int32)
          ) else (
            j86 (1 : Int32)
          )
        )
      ) fun j84 =>
      if x40 = 0 then (
        j84 (0 : Int32)
      ) else (
        if 0 ≤ (r66 - r81) then (
          j84 (0 : Int32)
        ) else (
          j84 (1 : Int32)
        )
      )
    )
def F_X3_sure_L26 (n : Nat) (K : Nat → Nat) (y13 : Nat) (y14 : Int32) (y15 : Int32) (y16 : Int32) (y17 : Int32) : Nat → Int32 → Int32 → Int32 → Int32 → AH → Option (Int32 × AH)
  | 0, _, _, _, _, _ => none
  | f + 1, x9, x10, x11, x12, h =>
    chk (h.kind y13 = 5) <|
    ob (h.R y13 6) fun a19 =>
    chk (h.kind a19 = 35) <|
    chk (inb (0 : Int32) (h.len a19)) <|
    ob (h.R a19 (ix (0 : Int32))) fun a22 =>
    chk (h.kind a22 = 32) <|
    chk (inb y14 (h.len a22)) <|
    if (if ((h.I a22 (ix y14)) + y17) < (99 : Int32) then ((h.I a22 (ix y14)) + y17) else (99 : Int32)) < x9 then (
      if x12 = 0 then (
        if x11 = 0 then (
          if x10 = 0 then (
            some ((0 : Int32), h)
          ) else (
            some ((2 : Int32), h)
          )
        ) else (
          some ((-1 : Int32), h)
        )
      ) else (
        some ((1 : Int32), h)
      )
    ) else (
      ob (h.R y13 7) fun a29 =>
      chk (h.kind a29 = 35) <|
      chk (inb (0 : Int32) (h.len a29)) <|
      ob (h.R a29 (ix (0 : Int32))) fun a32 =>
      chk (h.kind a32 = 32) <|
      chk (inb y14 (h.len a32)) <|
      F_X3_sure_L64 n K x9 y13 y14 y15 y16 y17 n (if (0 : Int32) < ((h.I a32 (ix y14)) - y17) then ((h.I a32 (ix y14)) - y17) else (0 : Int32)) x10 x11 x12 h fun x95 x96 x97 h98 =>
      F_X3_sure_L26 n K y13 y14 y15 y16 y17 f (x9 + (1 : Int32)) x95 x96 x97 h98
    )
def F_X3_sure (n : Nat) (K : Nat → Nat) (p0 : Nat) (p1 : Int32) (p2 : Int32) (p3 : Int32) (p4 : Int32) (h : AH) : Option (Int32 × AH) :=
  chk (h.kind p0 = 5) <|
  ob (h.R p0 6) fun a2 =>
  chk (h.kind a2 = 35) <|
  chk (inb (0 : Int32) (h.len a2)) <|
  ob (h.R a2 (ix (0 : Int32))) fun a5 =>
  chk (h.kind a5 = 32) <|
  chk (inb p1 (h.len a5)) <|
  F_X3_sure_L26 n K p0 p1 p2 p3 p4 n (if (0 : Int32) < ((h.I a5 (ix p1)) - p4) then ((h.I a5 (ix p1)) - p4) else (0 : Int32)) (1 : Int32) (1 : Int32) (1 : Int32) h
def F_X3_asks_L18 (n : Nat) (K : Nat → Nat) (y10 : Nat) (y11 : Int32) (y12 : Int32) (y13 : Int32) : Nat → Int32 → AH → Option (Unit × AH)
  | 0, _, _ => none
  | f + 1, x9, h =>
    chk (h.kind y10 = 5) <|
    bnd (F_X3_voters n K y10 h) fun r14 h15 =>
    if r14 ≤ x9 then (
      some ((), h15)
    ) else (
      chk (h15.kind y10 = 5) <|
      bnd (F_X3_sure n K y10 x9 y11 y12 y13 h15) fun r18 h19 =>
      chk (h19.kind y10 = 5) <|
      jn (α := Int32 → Option (Unit × AH)) (fun x22 =>
        hl (h19.setI y10 44 ((h19.I y10 44) + x22)) fun h24 =>
        jn (α := Int32 → Option (Unit × AH)) (fun x26 =>
          hl (h24.setI y10 45 ((h24.I y10 45) + x26)) fun h28 =>
          jn (α := Int32 → Option (Unit × AH)) (fun x30 =>
            hl (h28.setI y10 46 ((h28.I y10 46) + x30)) fun h32 =>
            F_X3_asks_L18 n K y10 y11 y12 y13 f (x9 + (1 : Int32)) h32
          ) fun j31 =>
          if ¬ r18 = (-1 : Int32) then (
            j31 (0 : Int32)
          ) else (
            ob (h28.R y10 8) fun a36 =>
            chk (h28.kind a36 = 35) <|
            chk (inb (0 : Int32) (h28.len a36)) <|
            ob (h28.R a36 (ix (0 : Int32))) fun a39 =>
            chk (h28.kind a39 = 32) <|
            chk (inb x9 (h28.len a39)) <|
            j31 (h28.I a39 (ix x9))
          )
        ) fun j27 =>
        if ¬ r18 = (1 : Int32) then (
          j27 (0 : Int32)
        ) else (
          ob (h24.R y10 8) fun a44 =>
          chk (h24.kind a44 = 35) <|
          chk (inb (0 : Int32) (h24.len a44)) <|
          ob (h24.R a44 (ix (0 : Int32))) fun a47 =>
          chk (h24.kind a47 = 32) <|
          chk (inb x9 (h24.len a47)) <|
          j27 (h24.I a47 (ix x9))
        )
      ) fun j23 =>
      if ¬ r18 = 0 then (
        j23 (0 : Int32)
      ) else (
        ob (h19.R y10 8) fun a52 =>
        chk (h19.kind a52 = 35) <|
        chk (inb (0 : Int32) (h19.len a52)) <|
        ob (h19.R a52 (ix (0 : Int32))) fun a55 =>
        chk (h19.kind a55 = 32) <|
        chk (inb x9 (h19.len a55)) <|
        j23 (h19.I a55 (ix x9))
      )
    )
def F_X3_asks (n : Nat) (K : Nat → Nat) (p0 : Nat) (p1 : Int32) (p2 : Int32) (p3 : Int32) (h : AH) : Option (Unit × AH) :=
  chk (h.kind p0 = 5) <|
  hl (h.setI p0 44 (0 : Int32)) fun h2 =>
  hl (h2.setI p0 45 (0 : Int32)) fun h4 =>
  hl (h4.setI p0 46 (0 : Int32)) fun h6 =>
  F_X3_asks_L18 n K p0 p1 p2 p3 n (0 : Int32) h6
def F_X3_doubt_L27 (n : Nat) (K : Nat → Nat) (y11 : Nat) (y12 : Int32) (y13 : Int32) : Nat → Int32 → Int32 → AH → Option (Int32 × AH)
  | 0, _, _, _ => none
  | f + 1, x9, x10, h =>
    chk (h.kind y11 = 5) <|
    bnd (F_X3_places n K y11 h) fun r14 h15 =>
    if r14 ≤ x9 then (
      if x10 = 0 then (
        some ((2 : Int32), h15)
      ) else (
        some ((1 : Int32), h15)
      )
    ) else (
      if ¬ x9 = y12 then (
        chk (h15.kind y11 = 5) <|
        bnd (F_X3_asks n K y11 y12 x9 y13 h15) fun _ h21 =>
        chk (h21.kind y11 = 5) <|
        bnd (F_X3_isWon n K y11 (h21.I y11 46) ((h21.I y11 45) + (h21.I y11 44)) h21) fun r24 h25 =>
        if r24 = 0 then (
          if ¬ x10 = 0 then (
            F_X3_doubt_L27 n K y11 y12 y13 f (x9 + (1 : Int32)) (1 : Int32) h25
          ) else (
            chk (h25.kind y11 = 5) <|
            bnd (F_X3_isWon n K y11 ((h25.I y11 46) + (h25.I y11 44)) (h25.I y11 45) h25) fun r29 h30 =>
            if r29 = 0 then (
              F_X3_doubt_L27 n K y11 y12 y13 f (x9 + (1 : Int32)) (0 : Int32) h30
            ) else (
              F_X3_doubt_L27 n K y11 y12 y13 f (x9 + (1 : Int32)) (1 : Int32) h30
            )
          )
        ) else (
          some ((0 : Int32), h25)
        )
      ) else (
        F_X3_doubt_L27 n K y11 y12 y13 f (x9 + (1 : Int32)) x10 h15
      )
    )
def F_X3_doubt (n : Nat) (K : Nat → Nat) (p0 : Nat) (p1 : Int32) (p2 : Int32) (h : AH) : Option (Int32 × AH) :=
  chk (h.kind p0 = 5) <|
  bnd (F_X3_isPlace n K p0 p1 h) fun r1 h2 =>
  if r1 = 0 then (
    some ((-1 : Int32), h2)
  ) else (
    bnd (F_X3_in n K p2.toInt64 (0 : Int64) (5 : Int64) h2) fun r5 h6 =>
    if ¬ r5 = 0 then (
      F_X3_doubt_L27 n K p0 p1 p2 n (0 : Int32) (0 : Int32) h6
    ) else (
      some ((-1 : Int32), h6)
    )
  )
def F_X3_pairs_L14 (n : Nat) (K : Nat → Nat) (y11 : Int32) (y13 : Nat) : Nat → Int32 → Int32 → AH → (Int32 → AH → Option (Int32 × AH)) → Option (Int32 × AH)
  | 0, _, _, _, _ => none
  | f + 1, x10, x12, h, k =>
    chk (h.kind y13 = 5) <|
    bnd (F_X3_places n K y13 h) fun r14 h15 =>
    if r14 ≤ x10 then (
      k x12 h15
    ) else (
      chk (h15.kind y13 = 5) <|
      bnd (F_X3_beatsOf n K y13 y11 x10 h15) fun r18 h19 =>
      if r18 = 0 then (
        F_X3_pairs_L14 n K y11 y13 f (x10 + (1 : Int32)) (x12 + (0 : Int32)) h19 k
      ) else (
        F_X3_pairs_L14 n K y11 y13 f (x10 + (1 : Int32)) (x12 + (1 : Int32)) h19 k
      )
    )
def F_X3_pairs_L4 (n : Nat) (K : Nat → Nat) (y4 : Nat) : Nat → Int32 → Int32 → AH → Option (Int32 × AH)
  | 0, _, _, _ => none
  | f + 1, x2, x3, h =>
    chk (h.kind y4 = 5) <|
    bnd (F_X3_places n K y4 h) fun r5 h6 =>
    if r5 ≤ x2 then (
      some (x3, h6)
    ) else (
      F_X3_pairs_L14 n K x2 y4 n (0 : Int32) x3 h6 fun x22 h23 =>
      F_X3_pairs_L4 n K y4 f (x2 + (1 : Int32)) x22 h23
    )
def F_X3_pairs (n : Nat) (K : Nat → Nat) (p0 : Nat) (h : AH) : Option (Int32 × AH) :=
  F_X3_pairs_L4 n K p0 n (0 : Int32) (0 : Int32) h
def F_X3_move (n : Nat) (K : Nat → Nat) (p0 : Nat) (p1 : Int32) (p2 : Int32) (p3 : Int32) (h : AH) : Option (Int32 × AH) :=
  chk (h.kind p0 = 5) <|
  bnd (F_X3_isVoter n K p0 p1 h) fun r1 h2 =>
  if r1 = 0 then (
    some ((-1 : Int32), h2)
  ) else (
    bnd (F_X3_isPoint n K p2 p3 h2) fun r5 h6 =>
    if r5 = 0 then (
      some ((-1 : Int32), h6)
    ) else (
      chk (h6.kind p0 = 5) <|
      ob (h6.R p0 6) fun a9 =>
      chk (h6.kind a9 = 35) <|
      chk (inb (0 : Int32) (h6.len a9)) <|
      ob (h6.R a9 (ix (0 : Int32))) fun a12 =>
      chk (h6.kind a12 = 32) <|
      chk (inb p1 (h6.len a12)) <|
      jn (α := Option (Int32 × AH)) (
        if ¬ (h6.I p0 48) = (40 : Int32) then (
          ob (h6.R p0 47) fun a17 =>
          chk (h6.kind a17 = 35) <|
          chk (inb (h6.I p0 48) (h6.len a17)) <|
          ob (h6.R a17 (ix (h6.I p0 48))) fun a20 =>
          chk (h6.kind a20 = 32) <|
          chk (inb (0 : Int32) (h6.len a20)) <|
          hl (h6.setI a20 (ix (0 : Int32)) p1) fun h23 =>
          ob (h23.R p0 6) fun a25 =>
          chk (h23.kind a25 = 35) <|
          chk (inb (0 : Int32) (h23.len a25)) <|
          ob (h23.R a25 (ix (0 : Int32))) fun a28 =>
          chk (h23.kind a28 = 32) <|
          chk (inb p1 (h23.len a28)) <|
          chk (inb (1 : Int32) (h23.len a20)) <|
          hl (h23.setI a20 (ix (1 : Int32)) (h23.I a28 (ix p1))) fun h32 =>
          ob (h32.R p0 7) fun a34 =>
          chk (h32.kind a34 = 35) <|
          chk (inb (0 : Int32) (h32.len a34)) <|
          ob (h32.R a34 (ix (0 : Int32))) fun a37 =>
          chk (h32.kind a37 = 32) <|
          chk (inb p1 (h32.len a37)) <|
          chk (inb (2 : Int32) (h32.len a20)) <|
          hl (h32.setI a20 (ix (2 : Int32)) (h32.I a37 (ix p1))) fun h41 =>
          chk (inb (3 : Int32) (h41.len a20)) <|
          hl (h41.setI a20 (ix (3 : Int32)) p2) fun h44 =>
          chk (inb (4 : Int32) (h44.len a20)) <|
          hl (h44.setI a20 (ix (4 : Int32)) p3) fun h47 =>
          bnd (F_X3_pairs n K p0 h47) fun r49 h50 =>
          chk (h50.kind a20 = 32) <|
          chk (inb (5 : Int32) (h50.len a20)) <|
          hl (h50.setI a20 (ix (5 : Int32)) r49) fun h53 =>
          chk (h53.kind p0 = 5) <|
          bnd (F_X3_peace n K p0 h53) fun r55 h56 =>
          chk (h56.kind a20 = 32) <|
          chk (inb (7 : Int32) (h56.len a20)) <|
          hl (h56.setI a20 (ix (7 : Int32)) r55) fun h60 =>
          chk (h60.kind p0 = 5) <|
          ob (h60.R p0 6) fun a63 =>
          chk (h60.kind a63 = 35) <|
          chk (inb (0 : Int32) (h60.len a63)) <|
          ob (h60.R a63 (ix (0 : Int32))) fun a66 =>
          chk (h60.kind a66 = 32) <|
          chk (inb p1 (h60.len a66)) <|
          hl (h60.setI a66 (ix p1) p2) fun h69 =>
          ob (h69.R p0 7) fun a71 =>
          chk (h69.kind a71 = 35) <|
          chk (inb (0 : Int32) (h69.len a71)) <|
          ob (h69.R a71 (ix (0 : Int32))) fun a74 =>
          chk (h69.kind a74 = 32) <|
          chk (inb p1 (h69.len a74)) <|
          hl (h69.setI a74 (ix p1) p3) fun h77 =>
          bnd (F_X3_pairs n K p0 h77) fun r79 h80 =>
          chk (h80.kind a20 = 32) <|
          chk (inb (6 : Int32) (h80.len a20)) <|
          hl (h80.setI a20 (ix (6 : Int32)) r79) fun h83 =>
          chk (h83.kind p0 = 5) <|
          bnd (F_X3_peace n K p0 h83) fun r85 h86 =>
          chk (h86.kind a20 = 32) <|
          chk (inb (8 : Int32) (h86.len a20)) <|
          hl (h86.setI a20 (ix (8 : Int32)) r85) fun h90 =>
          chk (h90.kind p0 = 5) <|
          hl (h90.setI p0 48 ((h90.I p0 48) + (1 : Int32))) fun h93 =>
          hl (h93.setI p0 29 (0 : Int32)) fun h95 =>
          some (h95.I p0 48, h95)
        ) else (
          some ((-1 : Int32), h6)
        )
      ) fun j15 =>
      if ¬ (h6.I a12 (ix p1)) = p2 then (
        j15
      ) else (
        ob (h6.R p0 7) fun a99 =>
        chk (h6.kind a99 = 35) <|
        chk (inb (0 : Int32) (h6.len a99)) <|
        ob (h6.R a99 (ix (0 : Int32))) fun a102 =>
        chk (h6.kind a102 = 32) <|
        chk (inb p1 (h6.len a102)) <|
        if (h6.I a102 (ix p1)) = p3 then (
          some ((-1 : Int32), h6)
        ) else (
          j15
        )
      )
    )
  )
def F_X3_undo (n : Nat) (K : Nat → Nat) (p0 : Nat) (h : AH) : Option (Int32 × AH) :=
  chk (h.kind p0 = 5) <|
  if ¬ (h.I p0 48) = 0 then (
    hl (h.setI p0 48 ((h.I p0 48) - (1 : Int32))) fun h3 =>
    ob (h3.R p0 47) fun a5 =>
    chk (h3.kind a5 = 35) <|
    chk (inb (h3.I p0 48) (h3.len a5)) <|
    ob (h3.R a5 (ix (h3.I p0 48))) fun a8 =>
    chk (h3.kind a8 = 32) <|
    chk (inb (0 : Int32) (h3.len a8)) <|
    ob (h3.R p0 6) fun a11 =>
    chk (h3.kind a11 = 35) <|
    chk (inb (0 : Int32) (h3.len a11)) <|
    ob (h3.R p0 47) fun a14 =>
    chk (h3.kind a14 = 35) <|
    chk (inb (h3.I p0 48) (h3.len a14)) <|
    ob (h3.R a14 (ix (h3.I p0 48))) fun a17 =>
    chk (h3.kind a17 = 32) <|
    chk (inb (1 : Int32) (h3.len a17)) <|
    ob (h3.R a11 (ix (0 : Int32))) fun a20 =>
    chk (h3.kind a20 = 32) <|
    chk (inb (h3.I a8 (ix (0 : Int32))) (h3.len a20)) <|
    hl (h3.setI a20 (ix (h3.I a8 (ix (0 : Int32)))) (h3.I a17 (ix (1 : Int32)))) fun h23 =>
    ob (h23.R p0 7) fun a25 =>
    chk (h23.kind a25 = 35) <|
    chk (inb (0 : Int32) (h23.len a25)) <|
    ob (h23.R p0 47) fun a28 =>
    chk (h23.kind a28 = 35) <|
    chk (inb (h23.I p0 48) (h23.len a28)) <|
    ob (h23.R a28 (ix (h23.I p0 48))) fun a31 =>
    chk (h23.kind a31 = 32) <|
    chk (inb (2 : Int32) (h23.len a31)) <|
    ob (h23.R a25 (ix (0 : Int32))) fun a34 =>
    chk (h23.kind a34 = 32) <|
    chk (inb (h3.I a8 (ix (0 : Int32))) (h23.len a34)) <|
    hl (h23.setI a34 (ix (h3.I a8 (ix (0 : Int32)))) (h23.I a31 (ix (2 : Int32)))) fun h37 =>
    hl (h37.setI p0 29 (0 : Int32)) fun h39 =>
    some (h3.I a8 (ix (0 : Int32)), h39)
  ) else (
    some ((-1 : Int32), h)
  )
def F_X3_moved (n : Nat) (K : Nat → Nat) (p0 : Nat) (p1 : Int32) (p2 : Int32) (h : AH) : Option (Int32 × AH) :=
  chk (h.kind p0 = 5) <|
  bnd (F_X3_in n K p1.toInt64 (0 : Int64) (((h.I p0 48) - (1 : Int32)).toInt64) h) fun r2 h3 =>
  if r2 = 0 then (
    some ((-1 : Int32), h3)
  ) else (
    bnd (F_X3_in n K p2.toInt64 (0 : Int64) (8 : Int64) h3) fun r5 h6 =>
    if r5 = 0 then (
      some ((-1 : Int32), h6)
    ) else (
      chk (h6.kind p0 = 5) <|
      ob (h6.R p0 47) fun a9 =>
      chk (h6.kind a9 = 35) <|
      chk (inb p1 (h6.len a9)) <|
      ob (h6.R a9 (ix p1)) fun a12 =>
      chk (h6.kind a12 = 32) <|
      chk (inb p2 (h6.len a12)) <|
      some (h6.I a12 (ix p2), h6)
    )
  )
def F_X3_count (n : Nat) (K : Nat → Nat) (p0 : Nat) (p1 : Int32) (h : AH) : Option (Int32 × AH) :=
  if p1 = (0 : Int32) then (
    chk (h.kind p0 = 5) <|
    bnd (F_X3_voters n K p0 h) fun r2 h3 =>
    some (r2, h3)
  ) else
  if p1 = (1 : Int32) then (
    chk (h.kind p0 = 5) <|
    bnd (F_X3_places n K p0 h) fun r6 h7 =>
    some (r6, h7)
  ) else
  if p1 = (2 : Int32) then (
    chk (h.kind p0 = 5) <|
    bnd (F_X3_total n K p0 h) fun r10 h11 =>
    some (r10, h11)
  ) else
  if p1 = (3 : Int32) then (
    chk (h.kind p0 = 5) <|
    some (h.I p0 48, h)
  ) else
  if p1 = (4 : Int32) then (
    chk (h.kind p0 = 5) <|
    some (h.I p0 1, h)
  ) else
  if p1 = (5 : Int32) then (
    chk (h.kind p0 = 5) <|
    bnd (F_X3_pairs n K p0 h) fun r18 h19 =>
    some (r18, h19)
  ) else
  (
    some ((-1 : Int32), h)
  )
