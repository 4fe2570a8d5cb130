/-! THE METHODS as functions on the abstract heap (printed by wip gen/all.py) -/
set_option maxRecDepth 100000
def fX4_init (a0 : Nat) (h0 : AH) : Option (AH) :=
  lt (nC h0 101 (ix 5)) fun h1 =>
  if gS h1 a0 = 4 then
    lt (uR h1 a0 0 (some (gZ h0))) fun h3 =>
    lt (nC h3 101 (ix 5)) fun h4 =>
    if gS h4 a0 = 4 then
      lt (uR h4 a0 1 (some (gZ h3))) fun h6 =>
      lt (nC h6 101 (ix 6)) fun h7 =>
      if gS h7 a0 = 4 then
        lt (uR h7 a0 2 (some (gZ h6))) fun h9 =>
        some h9
      else none
    else none
  else none
def fX6_init (a0 : Nat) (h0 : AH) : Option (AH) :=
  lt (nC h0 101 (ix 6)) fun h1 =>
  if gS h1 a0 = 6 then
    lt (uR h1 a0 0 (some (gZ h0))) fun h3 =>
    lt (nC h3 101 (ix 6)) fun h4 =>
    if gS h4 a0 = 6 then
      lt (uR h4 a0 1 (some (gZ h3))) fun h6 =>
      some h6
    else none
  else none
def fX5_init (a0 : Nat) (h0 : AH) : Option (AH) :=
  lt (nC h0 101 (ix 5)) fun h1 =>
  if gS h1 a0 = 5 then
    lt (uR h1 a0 0 (some (gZ h0))) fun h3 =>
    lt (nC h3 101 (ix 5)) fun h4 =>
    if gS h4 a0 = 5 then
      lt (uR h4 a0 1 (some (gZ h3))) fun h6 =>
      some h6
    else none
  else none
def fJ0_init_2 (a0 : Nat) (a3 : Int32) (a4 : Int32) (h0 : AH) : Option (AH) :=
  if gS h0 a0 = 3 then
    lt (uR h0 a0 0 (some a0)) fun h2 =>
    lt (uR h2 a0 1 (gK h2 100)) fun h3 =>
    lt (uR h3 a0 2 (gK h3 101)) fun h4 =>
    if a4 = 0 then
      lt (uR h4 a0 1 none) fun h6 =>
      lt (uR h6 a0 3 none) fun h7 =>
      lt (uR h7 a0 0 none) fun h8 =>
      if ¬ a3 = 0 then
        some h8
      else
        lt (uR h8 a0 2 none) fun h10 =>
        some h10
    else
      none
  else none
def fJ1_init (a0 : Nat) (a3 : Int32) (a4 : Int32) (h0 : AH) : Option (AH) :=
  bnd (fJ0_init_2 a0 a3 a4 h0) fun p1 =>
  some p1
def fJ2_init (a0 : Nat) (a3 : Int32) (a4 : Int32) (h0 : AH) : Option (AH) :=
  bnd (fJ1_init a0 a3 a4 h0) fun p1 =>
  some p1
def fX3_init (a0 : Nat) (h0 : AH) : Option (AH) :=
  bnd (fJ2_init a0 0 0 h0) fun p1 =>
  if gS p1 a0 = 3 then
    lt (uI p1 a0 7 (-1)) fun h3 =>
    some h3
  else none
def fX2_init (a0 : Nat) (a1 : Nat) (h0 : AH) : Option (AH) :=
  lt (nC h0 3 8) fun h1 =>
  bnd (fX3_init (gZ h0) h1) fun p2 =>
  if gS p2 a0 = 2 then
    lt (uR p2 a0 0 (some (gZ h0))) fun h4 =>
    lt (nC h4 103 (ix 8)) fun h5 =>
    if gS h5 a0 = 2 then
      lt (uR h5 a0 2 (some (gZ h4))) fun h7 =>
      lt (uR h7 a0 1 (some a1)) fun h8 =>
      some h8
    else none
  else none
def X1_init_L114 (a0 : Nat) (s40v : Int32 × AH) : Option ((Int32 × AH) ⊕ (AH)) :=
  if 16 ≤ s40v.1 then
    some (Sum.inr s40v.2)
  else
    if gS s40v.2 a0 = 1 then
      bnd (gR s40v.2 a0 14) fun x43 =>
      lt (nC s40v.2 4 10) fun h44 =>
      bnd (fX4_init (gZ s40v.2) h44) fun p45 =>
      if gS p45 (gZ s40v.2) = 4 then
        if gS p45 x43 = 105 then
          if inb s40v.1 (gN p45 x43) then
            lt (uR p45 x43 (ix s40v.1) (some (gZ s40v.2))) fun h49 =>
            some (Sum.inl (s40v.1 + 1, h49))
          else none
        else none
      else none
    else none
def X1_init_L141 (a0 : Nat) (s50v : Int32 × AH) : Option ((Int32 × AH) ⊕ (AH)) :=
  if 3 ≤ s50v.1 then
    some (Sum.inr s50v.2)
  else
    if gS s50v.2 a0 = 1 then
      bnd (gR s50v.2 a0 15) fun x53 =>
      lt (nC s50v.2 4 10) fun h54 =>
      bnd (fX4_init (gZ s50v.2) h54) fun p55 =>
      if gS p55 (gZ s50v.2) = 4 then
        if gS p55 x53 = 105 then
          if inb s50v.1 (gN p55 x53) then
            lt (uR p55 x53 (ix s50v.1) (some (gZ s50v.2))) fun h59 =>
            some (Sum.inl (s50v.1 + 1, h59))
          else none
        else none
      else none
    else none
def fX1_init (a0 : Nat) (h0 : AH) : Option (AH) :=
  lt (nC h0 102 (ix 900)) fun h1 =>
  if gS h1 a0 = 1 then
    lt (uR h1 a0 0 (some (gZ h0))) fun h3 =>
    lt (nC h3 2 10) fun h4 =>
    if gS h4 a0 = 1 then
      bnd (gR h4 a0 0) fun x6 =>
      bnd (fX2_init (gZ h3) x6 h4) fun p7 =>
      if gS p7 a0 = 1 then
        lt (uR p7 a0 2 (some (gZ h3))) fun h9 =>
        lt (uI h9 a0 6 (-1)) fun h10 =>
        lt (nC h10 4 10) fun h11 =>
        bnd (fX4_init (gZ h10) h11) fun p12 =>
        if gS p12 a0 = 1 then
          lt (uR p12 a0 9 (some (gZ h10))) fun h14 =>
          lt (nC h14 4 10) fun h15 =>
          bnd (fX4_init (gZ h14) h15) fun p16 =>
          if gS p16 a0 = 1 then
            lt (uR p16 a0 10 (some (gZ h14))) fun h18 =>
            lt (nC h18 4 10) fun h19 =>
            bnd (fX4_init (gZ h18) h19) fun p20 =>
            if gS p20 a0 = 1 then
              lt (uR p20 a0 11 (some (gZ h18))) fun h22 =>
              lt (nC h22 5 6) fun h23 =>
              bnd (fX5_init (gZ h22) h23) fun p24 =>
              if gS p24 a0 = 1 then
                lt (uR p24 a0 12 (some (gZ h22))) fun h26 =>
                lt (nC h26 6 6) fun h27 =>
                bnd (fX6_init (gZ h26) h27) fun p28 =>
                if gS p28 a0 = 1 then
                  lt (uR p28 a0 13 (some (gZ h26))) fun h30 =>
                  lt (nC h30 105 (ix 16)) fun h31 =>
                  if gS h31 a0 = 1 then
                    lt (uR h31 a0 14 (some (gZ h30))) fun h33 =>
                    lt (nC h33 105 (ix 3)) fun h34 =>
                    if gS h34 a0 = 1 then
                      lt (uR h34 a0 15 (some (gZ h33))) fun h36 =>
                      lt (nC h36 101 (ix 5)) fun h37 =>
                      if gS h37 a0 = 1 then
                        lt (uR h37 a0 23 (some (gZ h36))) fun h39 =>
                        bnd (iter (X1_init_L114 a0) FU (0, h39)) fun r40v =>
                        bnd (iter (X1_init_L141 a0) FU (0, r40v)) fun r50v =>
                        some r50v
                      else none
                    else none
                  else none
                else none
              else none
            else none
          else none
        else none
      else none
    else none
  else none
def fX1_anew (a0 : Nat) (h0 : AH) : Option (AH) :=
  if gS h0 a0 = 1 then
    lt (uI h0 a0 4 0) fun h2 =>
    lt (uI h2 a0 6 (-1)) fun h3 =>
    some h3
  else none
def fX1_in (a0 : Int32) (a1 : Int32) (a2 : Int32) (h0 : AH) : Option (Int32) :=
  if a0 < a1 then
    some 0
  else
    if a2 < a0 then
      some 0
    else
      some 1
def fX1_isBeast (a0 : Nat) (a1 : Int32) (h0 : AH) : Option (Int32) :=
  if gS h0 a0 = 1 then
    ons (gR h0 a0 3) (
      some 0
    ) fun x2 =>
    bnd (gR h0 a0 3) fun x3 =>
    if gS h0 x3 = 8 then
      bnd (fX1_in a1 0 ((gI h0 x3 8) - 1) h0) fun p5 =>
      if p5 = 0 then
        some 0
      else
        some 1
    else none
  else none
def fX1_dividing : Nat → Int64 → Int64 → AH → Option (Int64)
  | 0 => fun _ _ _ => none
  | n + 1 => fun a0 a1 h0 =>
    if ¬ a1 = 0 then
      if ¬ a1 = 0 then
        bnd (fX1_dividing n a1 (a0 - a0 / a1 * a1) h0) fun p3 =>
        some p3
      else none
    else
      some a0
def X1_lowest_j10 (a0 : Int64) (a1 : Int64) (h0 : AH) (j1 : Int64) : Option (Int64) :=
  bnd (fX1_dividing 128 a1 (labs a0) h0) fun p2 =>
  if ¬ p2 = 0 then
    some (j1 / p2)
  else none
def fX1_lowest (a0 : Int64) (a1 : Int64) (a2 : Int32) (h0 : AH) : Option (Int64) :=
  if a2 = 0 then
    X1_lowest_j10 a0 a1 h0 a0
  else
    X1_lowest_j10 a0 a1 h0 a1
def fX1_no (a0 : Nat) (a1 : Int32) (h0 : AH) : Option (Int32 × AH) :=
  if gS h0 a0 = 1 then
    lt (uI h0 a0 4 a1) fun h2 =>
    some ((-1), h2)
  else none
def fX14_hold (a0 : Nat) (a1 : Int32) (h0 : AH) : Option (Int32) :=
  if gS h0 a0 = 14 ∨ gS h0 a0 = 15 ∨ gS h0 a0 = 16 ∨ gS h0 a0 = 17 then
    some (gI h0 a0 1)
  else none
def fX16_hold (a0 : Nat) (a1 : Int32) (h0 : AH) : Option (Int32) :=
  if gS h0 a0 = 15 then
    bnd (fX14_hold a0 a1 h0) fun p1 =>
    some (imax 0 (p1 - 20))
  else none
def fX17_hold (a0 : Nat) (a1 : Int32) (h0 : AH) : Option (Int32) :=
  if gS h0 a0 = 16 then
    bnd (fX14_hold a0 a1 h0) fun p1 =>
    some (imin 100 (p1 + 20))
  else none
def fX18_hold (a0 : Nat) (a1 : Int32) (h0 : AH) : Option (Int32) :=
  if a1 = 0 then
    if gS h0 a0 = 17 then
      bnd (fX14_hold a0 a1 h0) fun p2 =>
      some p2
    else none
  else
    if gS h0 a0 = 17 then
      bnd (fX14_hold a0 a1 h0) fun p4 =>
      some (p4 / 2)
    else none
def fV_X14_hold (a0 : Nat) (a1 : Int32) (h0 : AH) : Option Int32 :=
  if gS h0 a0 = 14 then fX14_hold a0 a1 h0 else if gS h0 a0 = 15 then fX16_hold a0 a1 h0 else if gS h0 a0 = 16 then fX17_hold a0 a1 h0 else if gS h0 a0 = 17 then fX18_hold a0 a1 h0 else none
def fX4_hold (a0 : Nat) (a1 : Int32) (h0 : AH) : Option (Int32) :=
  if gS h0 a0 = 4 then
    bnd (gR h0 a0 3) fun x2 =>
    if gS h0 x2 = 8 then
      bnd (gR h0 x2 3) fun x4 =>
      if gS h0 x4 = 106 then
        if inb a1 (gN h0 x4) then
          bnd (gR h0 x4 (ix a1)) fun x7 =>
          bnd (fV_X14_hold x7 (gI h0 a0 6) h0) fun p8 =>
          some p8
        else none
      else none
    else none
  else none
def fX1_has (a0 : Int32) (a1 : Int32) (h0 : AH) : Option (Int32) :=
  if ¬ ((a0 >>> (a1 &&& 31)) &&& 1) = 1 then
    some 0
  else
    some 1
def fX4_isDead (a0 : Nat) (a1 : Int32) (h0 : AH) : Option (Int32) :=
  if gS h0 a0 = 4 then
    bnd (fX1_has (gI h0 a0 4) a1 h0) fun p2 =>
    if p2 = 0 ∨ p2 = 1 then
      some p2
    else none
  else none
def X4_steps_L5 (a0 : Nat) (a1 : Int64) (h0 : AH) (s1v : Int64 × Int32) : Option ((Int64 × Int32) ⊕ (Int64)) :=
  if gS h0 a0 = 4 then
    bnd (gR h0 a0 3) fun x3 =>
    if gS h0 x3 = 8 then
      if (gI h0 x3 6) ≤ s1v.2 then
        some (Sum.inr s1v.1)
      else
        some (Sum.inl (s1v.1 * a1, s1v.2 + 1))
    else none
  else none
def fX4_steps (a0 : Nat) (a1 : Int64) (h0 : AH) : Option (Int64) :=
  bnd (iter (X4_steps_L5 a0 a1 h0) FU (1, 0)) fun r1v =>
  some r1v
def fX4_across (a0 : Nat) (a1 : Int32) (h0 : AH) : Option (Int64) :=
  if gS h0 a0 = 4 then
    bnd (fX4_isDead a0 a1 h0) fun p1 =>
    if p1 = 0 then
      bnd (fX4_hold a0 a1 h0) fun p4 =>
      bnd (fX4_steps a0 p4.toInt64 h0) fun p5 =>
      some p5
    else
      some 0
  else none
def fX4_of (a0 : Nat) (h0 : AH) : Option (Int64) :=
  if gS h0 a0 = 4 then
    bnd (fX4_steps a0 100 h0) fun p1 =>
    some p1
  else none
def fX1_across (a0 : Nat) (a1 : Int32) (a2 : Int32) (h0 : AH) : Option (Int64 × AH) :=
  if gS h0 a0 = 1 then
    bnd (fX1_anew a0 h0) fun p1 =>
    if gS p1 a0 = 1 then
      bnd (fX1_isBeast a0 a1 p1) fun p3 =>
      if p3 = 0 then
        bnd (fX1_no a0 1 p1) fun p6 =>
        some (p6.1.toInt64, p6.2)
      else
        bnd (gR p1 a0 9) fun x7 =>
        if gS p1 x7 = 4 then
          bnd (fX4_across x7 a1 p1) fun p8 =>
          bnd (gR p1 a0 9) fun x10 =>
          if gS p1 x10 = 4 then
            bnd (fX4_of x10 p1) fun p11 =>
            bnd (fX1_lowest p8 p11 a2 p1) fun p13 =>
            some (p13, p1)
          else none
        else none
    else none
  else none
def fX4_become (a0 : Nat) (a1 : Nat) (h0 : AH) : Option (AH) :=
  if gS h0 a1 = 4 then
    bnd (gR h0 a1 3) fun x2 =>
    if gS h0 a0 = 4 then
      lt (uR h0 a0 3 (some x2)) fun h4 =>
      lt (uI h4 a0 4 (gI h4 a1 4)) fun h5 =>
      lt (uI h5 a0 5 (gI h5 a1 5)) fun h6 =>
      if (gI h6 a1 6) = 0 ∨ (gI h6 a1 6) = 1 then
        lt (uI h6 a0 6 (gI h6 a1 6)) fun h8 =>
        bnd (gR h8 a1 0) fun x9 =>
        bnd (gR h8 a0 0) fun x10 =>
        if gS h8 x9 = 101 then
          if gS h8 x10 = 101 then
            if ix 0 + ix 5 ≤ gN h8 x9 then
              if ix 0 + ix 5 ≤ gN h8 x10 then
                lt (cI h8 x9 x10 (ix 0) (ix 0) (ix 5)) fun h14 =>
                bnd (gR h14 a1 1) fun x15 =>
                bnd (gR h14 a0 1) fun x16 =>
                if gS h14 x15 = 101 then
                  if gS h14 x16 = 101 then
                    if ix 0 + ix 5 ≤ gN h14 x15 then
                      if ix 0 + ix 5 ≤ gN h14 x16 then
                        lt (cI h14 x15 x16 (ix 0) (ix 0) (ix 5)) fun h20 =>
                        bnd (gR h20 a1 2) fun x21 =>
                        bnd (gR h20 a0 2) fun x22 =>
                        if gS h20 x21 = 101 then
                          if gS h20 x22 = 101 then
                            if ix 0 + ix 6 ≤ gN h20 x21 then
                              if ix 0 + ix 6 ≤ gN h20 x22 then
                                lt (cI h20 x21 x22 (ix 0) (ix 0) (ix 6)) fun h26 =>
                                some h26
                              else none
                            else none
                          else none
                        else none
                      else none
                    else none
                  else none
                else none
              else none
            else none
          else none
        else none
      else none
    else none
  else none
def fX9_left (a0 : Nat) (a1 : Int32) (a2 : Int32) (h0 : AH) : Option (Int32) :=
  some a1
def fX11_left (a0 : Nat) (a1 : Int32) (a2 : Int32) (h0 : AH) : Option (Int32) :=
  if gS h0 a0 = 12 then
    bnd (fX9_left a0 a1 a2 h0) fun p1 =>
    some (p1 - a2)
  else none
def fX11_foes (a0 : Nat) (a1 : Nat) (a2 : Int32) (a3 : Int32) (h0 : AH) : Option (Int32) :=
  if a2 ≤ a3 then
    some (a2 / 2)
  else
    some a3
def fX14_force (a0 : Nat) (h0 : AH) : Option (Int32) :=
  some 20
def fX16_force (a0 : Nat) (h0 : AH) : Option (Int32) :=
  some 5
def fX17_force (a0 : Nat) (h0 : AH) : Option (Int32) :=
  if gS h0 a0 = 16 then
    bnd (fX14_force a0 h0) fun p1 =>
    some (p1 + 10)
  else none
def fX18_force (a0 : Nat) (h0 : AH) : Option (Int32) :=
  if gS h0 a0 = 17 then
    bnd (fX14_force a0 h0) fun p1 =>
    some (p1 + 5)
  else none
def fV_X14_force (a0 : Nat) (h0 : AH) : Option Int32 :=
  if gS h0 a0 = 14 then fX14_force a0 h0 else if gS h0 a0 = 15 then fX16_force a0 h0 else if gS h0 a0 = 16 then fX17_force a0 h0 else if gS h0 a0 = 17 then fX18_force a0 h0 else none
def fX4_force (a0 : Nat) (a1 : Int32) (h0 : AH) : Option (Int32) :=
  if gS h0 a0 = 4 then
    bnd (fX4_isDead a0 a1 h0) fun p1 =>
    if p1 = 0 then
      bnd (gR h0 a0 3) fun x4 =>
      if gS h0 x4 = 8 then
        bnd (gR h0 x4 3) fun x6 =>
        if gS h0 x6 = 106 then
          if inb a1 (gN h0 x6) then
            bnd (gR h0 x6 (ix a1)) fun x9 =>
            bnd (fV_X14_force x9 h0) fun p10 =>
            bnd (gR h0 a0 1) fun x11 =>
            if gS h0 x11 = 101 then
              if inb a1 (gN h0 x11) then
                some (imax 0 (p10 - (gI h0 x11 (ix a1))))
              else none
            else none
          else none
        else none
      else none
    else
      some 0
  else none
def fX12_foes (a0 : Nat) (a1 : Nat) (a2 : Int32) (a3 : Int32) (h0 : AH) : Option (Int32) :=
  if 8 ≤ a3 then
    some (imax 0 (a2 - a3))
  else
    some 15
def fX14_isFearless (a0 : Nat) (h0 : AH) : Option (Int32) :=
  some 0
def fX17_isFearless (a0 : Nat) (h0 : AH) : Option (Int32) :=
  some 1
def fV_X14_isFearless (a0 : Nat) (h0 : AH) : Option Int32 :=
  if gS h0 a0 = 14 then fX14_isFearless a0 h0 else if gS h0 a0 = 15 then fX14_isFearless a0 h0 else if gS h0 a0 = 16 then fX17_isFearless a0 h0 else if gS h0 a0 = 17 then fX14_isFearless a0 h0 else none
def fX10_foes (a0 : Nat) (a1 : Nat) (a2 : Int32) (a3 : Int32) (h0 : AH) : Option (Int32) :=
  bnd (fV_X14_isFearless a1 h0) fun p1 =>
  if p1 = 0 then
    some 0
  else
    some 10
def fX9_foes (a0 : Nat) (a1 : Nat) (a2 : Int32) (a3 : Int32) (h0 : AH) : Option (Int32) :=
  some 0
def fV_X9_foes (a0 : Nat) (a1 : Nat) (a2 : Int32) (a3 : Int32) (h0 : AH) : Option Int32 :=
  if gS h0 a0 = 10 then fX9_foes a0 a1 a2 a3 h0 else if gS h0 a0 = 11 then fX10_foes a0 a1 a2 a3 h0 else if gS h0 a0 = 12 then fX11_foes a0 a1 a2 a3 h0 else if gS h0 a0 = 13 then fX12_foes a0 a1 a2 a3 h0 else none
def fX4_foes (a0 : Nat) (a1 : Int32) (a2 : Int32) (h0 : AH) : Option (Int32) :=
  if gS h0 a0 = 4 then
    bnd (fX4_isDead a0 a1 h0) fun p1 =>
    if p1 = 0 then
      bnd (gR h0 a0 3) fun x4 =>
      if gS h0 x4 = 8 then
        bnd (gR h0 x4 0) fun x6 =>
        if gS h0 x6 = 107 then
          if inb a2 (gN h0 x6) then
            bnd (gR h0 x6 (ix a2)) fun x9 =>
            bnd (gR h0 a0 3) fun x10 =>
            if gS h0 x10 = 8 then
              bnd (gR h0 x10 3) fun x12 =>
              if gS h0 x12 = 106 then
                if inb a1 (gN h0 x12) then
                  bnd (gR h0 x12 (ix a1)) fun x15 =>
                  bnd (fX4_force a0 a1 h0) fun p16 =>
                  bnd (gR h0 a0 2) fun x17 =>
                  if gS h0 x17 = 101 then
                    if inb a2 (gN h0 x17) then
                      bnd (fV_X9_foes x9 x15 p16 (gI h0 x17 (ix a2)) h0) fun p20 =>
                      some p20
                    else none
                  else none
                else none
              else none
            else none
          else none
        else none
      else none
    else
      some 0
  else none
def X4_holds_L8 (a0 : Nat) (p1 : Int32) (s3v : Int32 × AH) : Option ((Int32 × AH) ⊕ (Int32 × AH)) :=
  if gS s3v.2 a0 = 4 then
    bnd (gR s3v.2 a0 3) fun x5 =>
    if gS s3v.2 x5 = 8 then
      if (gI s3v.2 x5 6) ≤ s3v.1 then
        some (Sum.inr (1, s3v.2))
      else
        lt (uI s3v.2 a0 5 (((75 * (gI s3v.2 a0 5)) + 74) - ((75 * (gI s3v.2 a0 5)) + 74) / 65537 * 65537)) fun h8 =>
        if ((gI h8 a0 5) - (gI h8 a0 5) / 100 * 100) < p1 then
          some (Sum.inl (s3v.1 + 1, h8))
        else
          some (Sum.inr (0, h8))
    else none
  else none
def fX4_holds (a0 : Nat) (a1 : Int32) (h0 : AH) : Option (Int32 × AH) :=
  if gS h0 a0 = 4 then
    bnd (fX4_hold a0 a1 h0) fun p1 =>
    iter (X4_holds_L8 a0 p1) FU (0, h0)
  else none
def fX11_own (a0 : Nat) (a1 : Nat) (a2 : Int32) (a3 : Int32) (h0 : AH) : Option (Int32) :=
  if a2 ≤ a3 then
    some a2
  else
    some 0
def fX10_own (a0 : Nat) (a1 : Nat) (a2 : Int32) (a3 : Int32) (h0 : AH) : Option (Int32) :=
  bnd (fV_X14_isFearless a1 h0) fun p1 =>
  if p1 = 0 then
    some a2
  else
    some 0
def fX9_own (a0 : Nat) (a1 : Nat) (a2 : Int32) (a3 : Int32) (h0 : AH) : Option (Int32) :=
  some 0
def fV_X9_own (a0 : Nat) (a1 : Nat) (a2 : Int32) (a3 : Int32) (h0 : AH) : Option Int32 :=
  if gS h0 a0 = 10 then fX9_own a0 a1 a2 a3 h0 else if gS h0 a0 = 11 then fX10_own a0 a1 a2 a3 h0 else if gS h0 a0 = 12 then fX11_own a0 a1 a2 a3 h0 else if gS h0 a0 = 13 then fX9_own a0 a1 a2 a3 h0 else none
def fX4_own (a0 : Nat) (a1 : Int32) (a2 : Int32) (h0 : AH) : Option (Int32) :=
  if gS h0 a0 = 4 then
    bnd (fX4_isDead a0 a1 h0) fun p1 =>
    if p1 = 0 then
      bnd (gR h0 a0 3) fun x4 =>
      if gS h0 x4 = 8 then
        bnd (gR h0 x4 0) fun x6 =>
        if gS h0 x6 = 107 then
          if inb a2 (gN h0 x6) then
            bnd (gR h0 x6 (ix a2)) fun x9 =>
            bnd (gR h0 a0 3) fun x10 =>
            if gS h0 x10 = 8 then
              bnd (gR h0 x10 3) fun x12 =>
              if gS h0 x12 = 106 then
                if inb a1 (gN h0 x12) then
                  bnd (gR h0 x12 (ix a1)) fun x15 =>
                  bnd (fX4_force a0 a1 h0) fun p16 =>
                  bnd (gR h0 a0 2) fun x17 =>
                  if gS h0 x17 = 101 then
                    if inb a2 (gN h0 x17) then
                      bnd (fV_X9_own x9 x15 p16 (gI h0 x17 (ix a2)) h0) fun p20 =>
                      some p20
                    else none
                  else none
                else none
              else none
            else none
          else none
        else none
      else none
    else
      some 0
  else none
def fV_X9_left (a0 : Nat) (a1 : Int32) (a2 : Int32) (h0 : AH) : Option Int32 :=
  if gS h0 a0 = 10 then fX9_left a0 a1 a2 h0 else if gS h0 a0 = 11 then fX9_left a0 a1 a2 h0 else if gS h0 a0 = 12 then fX11_left a0 a1 a2 h0 else if gS h0 a0 = 13 then fX9_left a0 a1 a2 h0 else none
def X4_fights_j142 (s5v : Int32 × AH) (h11 : AH) : Option ((Int32 × AH) ⊕ (AH)) :=
  some (Sum.inl (s5v.1 + 1, h11))
def X4_fights_L17 (a0 : Nat) (s5v : Int32 × AH) : Option ((Int32 × AH) ⊕ (AH)) :=
  if gS s5v.2 a0 = 4 then
    bnd (gR s5v.2 a0 3) fun x7 =>
    if gS s5v.2 x7 = 8 then
      if (gI s5v.2 x7 8) ≤ s5v.1 then
        some (Sum.inr s5v.2)
      else
        bnd (fX4_isDead a0 s5v.1 s5v.2) fun p10 =>
        if p10 = 0 then
          bnd (fX4_holds a0 s5v.1 s5v.2) fun p13 =>
          if ¬ p13.1 = 0 then
            if gS p13.2 a0 = 4 then
              lt (uI p13.2 a0 9 ((gI p13.2 a0 9) ||| (1 <<< (s5v.1 &&& 31)))) fun h16 =>
              bnd (gR h16 a0 0) fun x17 =>
              if gS h16 x17 = 101 then
                if inb s5v.1 (gN h16 x17) then
                  bnd (fX4_foes a0 s5v.1 (gI h16 x17 (ix s5v.1)) h16) fun p20 =>
                  lt (uI h16 a0 7 ((gI h16 a0 7) + p20)) fun h21 =>
                  bnd (fX4_own a0 s5v.1 (gI h16 x17 (ix s5v.1)) h21) fun p22 =>
                  lt (uI h21 a0 8 ((gI h21 a0 8) + p22)) fun h23 =>
                  bnd (gR h23 a0 2) fun x24 =>
                  bnd (gR h23 a0 3) fun x25 =>
                  if gS h23 x25 = 8 then
                    bnd (gR h23 x25 0) fun x27 =>
                    if gS h23 x27 = 107 then
                      if inb (gI h16 x17 (ix s5v.1)) (gN h23 x27) then
                        bnd (gR h23 x27 (ix (gI h16 x17 (ix s5v.1)))) fun x30 =>
                        bnd (gR h23 a0 2) fun x31 =>
                        if gS h23 x31 = 101 then
                          if inb (gI h16 x17 (ix s5v.1)) (gN h23 x31) then
                            bnd (fV_X9_left x30 (gI h23 x31 (ix (gI h16 x17 (ix s5v.1)))) p20 h23) fun p34 =>
                            if gS h23 x24 = 101 then
                              if inb (gI h16 x17 (ix s5v.1)) (gN h23 x24) then
                                lt (uI h23 x24 (ix (gI h16 x17 (ix s5v.1))) p34) fun h37 =>
                                X4_fights_j142 s5v h37
                              else none
                            else none
                          else none
                        else none
                      else none
                    else none
                  else none
                else none
              else none
            else none
          else
            if gS p13.2 a0 = 4 then
              bnd (fX4_force a0 s5v.1 p13.2) fun p39 =>
              lt (uI p13.2 a0 8 ((gI p13.2 a0 8) + (p39 / 2))) fun h40 =>
              X4_fights_j142 s5v h40
            else none
        else
          X4_fights_j142 s5v s5v.2
    else none
  else none
def fX4_fights (a0 : Nat) (h0 : AH) : Option (AH) :=
  if gS h0 a0 = 4 then
    lt (uI h0 a0 7 0) fun h2 =>
    lt (uI h2 a0 8 0) fun h3 =>
    lt (uI h3 a0 9 0) fun h4 =>
    bnd (iter (X4_fights_L17 a0) FU (0, h4)) fun r5v =>
    some r5v
  else none
def X1_battleWhy_L47 (a0 : Nat) (s10v : Int32 × AH) : Option ((Int32 × AH) ⊕ (AH)) :=
  if 5 ≤ s10v.1 then
    some (Sum.inr s10v.2)
  else
    if gS s10v.2 a0 = 1 then
      bnd (gR s10v.2 a0 23) fun x13 =>
      if gS s10v.2 x13 = 101 then
        if inb s10v.1 (gN s10v.2 x13) then
          lt (uI s10v.2 x13 (ix s10v.1) 0) fun h16 =>
          some (Sum.inl (s10v.1 + 1, h16))
        else none
      else none
    else none
def X1_battleWhy_j215 (s46v : Int32 × AH) (x49 : Nat) (j55 : Int32) : Option ((Int32 × AH) ⊕ (AH)) :=
  if inb s46v.1 (gN s46v.2 x49) then
    lt (uI s46v.2 x49 (ix s46v.1) ((gI s46v.2 x49 (ix s46v.1)) + j55)) fun h57 =>
    some (Sum.inl (s46v.1 + 1, h57))
  else none
def X1_battleWhy_L181 (a0 : Nat) (s46v : Int32 × AH) : Option ((Int32 × AH) ⊕ (AH)) :=
  if 5 ≤ s46v.1 then
    some (Sum.inr s46v.2)
  else
    if gS s46v.2 a0 = 1 then
      bnd (gR s46v.2 a0 23) fun x49 =>
      if gS s46v.2 x49 = 101 then
        if inb s46v.1 (gN s46v.2 x49) then
          bnd (gR s46v.2 a0 11) fun x52 =>
          if gS s46v.2 x52 = 4 then
            bnd (fX1_has (gI s46v.2 x52 9) s46v.1 s46v.2) fun p54 =>
            if p54 = 0 then
              X1_battleWhy_j215 s46v x49 0
            else
              X1_battleWhy_j215 s46v x49 1
          else none
        else none
      else none
    else none
def X1_battleWhy_j174 (a0 : Nat) (s17v : Int32 × Int32 × AH) (p29 : AH) (x32 : Nat) (h39 : AH) (j44 : Int32) : Option ((Int32 × Int32 × AH) ⊕ (AH)) :=
  lt (uI h39 a0 22 ((gI h39 a0 22) + j44)) fun h45 =>
  bnd (iter (X1_battleWhy_L181 a0) FU (0, h45)) fun r46v =>
  some (Sum.inl (gI p29 x32 5, s17v.2.1 + 1, r46v))
def X1_battleWhy_L73 (a0 : Nat) (a3 : Int32) (s17v : Int32 × Int32 × AH) : Option ((Int32 × Int32 × AH) ⊕ (AH)) :=
  if a3 ≤ s17v.2.1 then
    some (Sum.inr s17v.2.2)
  else
    if gS s17v.2.2 a0 = 1 then
      bnd (gR s17v.2.2 a0 11) fun x20 =>
      bnd (gR s17v.2.2 a0 9) fun x21 =>
      if gS s17v.2.2 x20 = 4 then
        bnd (fX4_become x20 x21 s17v.2.2) fun p22 =>
        if gS p22 a0 = 1 then
          bnd (gR p22 a0 11) fun x25 =>
          if gS p22 x25 = 4 then
            lt (uI p22 x25 5 s17v.1) fun h27 =>
            bnd (gR h27 a0 11) fun x28 =>
            if gS h27 x28 = 4 then
              bnd (fX4_fights x28 h27) fun p29 =>
              if gS p29 a0 = 1 then
                bnd (gR p29 a0 11) fun x32 =>
                if gS p29 x32 = 4 then
                  bnd (gR p29 a0 11) fun x34 =>
                  if gS p29 x34 = 4 then
                    lt (uI p29 a0 20 ((gI p29 a0 20) + (gI p29 x34 7))) fun h36 =>
                    bnd (gR h36 a0 11) fun x37 =>
                    if gS h36 x37 = 4 then
                      lt (uI h36 a0 21 ((gI h36 a0 21) + (gI h36 x37 8))) fun h39 =>
                      bnd (gR h39 a0 11) fun x40 =>
                      if gS h39 x40 = 4 then
                        bnd (gR h39 a0 11) fun x42 =>
                        if gS h39 x42 = 4 then
                          if (gI h39 x40 7) ≤ (gI h39 x42 8) then
                            X1_battleWhy_j174 a0 s17v p29 x32 h39 0
                          else
                            X1_battleWhy_j174 a0 s17v p29 x32 h39 1
                        else none
                      else none
                    else none
                  else none
                else none
              else none
            else none
          else none
        else none
      else none
    else none
def fX1_battleWhy (a0 : Nat) (a1 : Int32) (a2 : Int32) (a3 : Int32) (h0 : AH) : Option (Int32 × AH) :=
  if ¬ a1 = 0 then
    bnd (fX1_in a2 0 65536 h0) fun p2 =>
    if p2 = 0 then
      some (2, h0)
    else
      bnd (fX1_in a3 1 90 h0) fun p4 =>
      if ¬ p4 = 0 then
        if gS h0 a0 = 1 then
          lt (uI h0 a0 20 0) fun h7 =>
          lt (uI h7 a0 21 0) fun h8 =>
          lt (uI h8 a0 22 0) fun h9 =>
          bnd (iter (X1_battleWhy_L47 a0) FU (0, h9)) fun r10v =>
          bnd (iter (X1_battleWhy_L73 a0 a3) FU (a2, 0, r10v)) fun r17v =>
          some (0, r17v)
        else none
      else
        some (2, h0)
  else
    some (1, h0)
def fX1_acrossIn (a0 : Nat) (a1 : Int32) (a2 : Int32) (a3 : Int32) (h0 : AH) : Option (Int32 × AH) :=
  if gS h0 a0 = 1 then
    bnd (fX1_anew a0 h0) fun p1 =>
    if gS p1 a0 = 1 then
      bnd (fX1_isBeast a0 a1 p1) fun p3 =>
      bnd (fX1_battleWhy a0 p3 a2 a3 p1) fun p5 =>
      if p5.1 = 0 then
        if gS p5.2 a0 = 1 then
          bnd (gR p5.2 a0 23) fun x8 =>
          if gS p5.2 x8 = 101 then
            if inb a1 (gN p5.2 x8) then
              some (gI p5.2 x8 (ix a1), p5.2)
            else none
          else none
        else none
      else
        if gS p5.2 a0 = 1 then
          bnd (fX1_no a0 p5.1 p5.2) fun p11 =>
          some (p11.1, p11.2)
        else none
    else none
  else none
def fX4_meanFoes (a0 : Nat) (a1 : Int32) (a2 : Int32) (h0 : AH) : Option (Int64) :=
  if gS h0 a0 = 4 then
    bnd (fX4_across a0 a1 h0) fun p1 =>
    bnd (fX4_foes a0 a1 a2 h0) fun p3 =>
    some (p1 * p3.toInt64)
  else none
def fX4_meanOwn (a0 : Nat) (a1 : Int32) (a2 : Int32) (h0 : AH) : Option (Int64) :=
  if gS h0 a0 = 4 then
    bnd (fX4_across a0 a1 h0) fun p1 =>
    bnd (fX4_own a0 a1 a2 h0) fun p3 =>
    bnd (fX4_of a0 h0) fun p4 =>
    bnd (fX4_across a0 a1 h0) fun p5 =>
    bnd (fX4_force a0 a1 h0) fun p6 =>
    some ((p1 * p3.toInt64) + ((p4 - p5) * ((p6 / 2).toInt64)))
  else none
def X1_all_j81 (s5v : Int64 × Int32) (j9 : Int64) : Option ((Int64 × Int32) ⊕ (Int64)) :=
  some (Sum.inl (s5v.1 + j9, s5v.2 + 1))
def X1_all_L23 (a0 : Nat) (a1 : Int32) (p1 : AH) (s5v : Int64 × Int32) : Option ((Int64 × Int32) ⊕ (Int64)) :=
  bnd (gR p1 a0 3) fun x6 =>
  if gS p1 x6 = 8 then
    if (gI p1 x6 8) ≤ s5v.2 then
      some (Sum.inr s5v.1)
    else
      if a1 = 0 then
        bnd (gR p1 a0 9) fun x11 =>
        bnd (gR p1 a0 9) fun x12 =>
        if gS p1 x12 = 4 then
          bnd (gR p1 x12 0) fun x14 =>
          if gS p1 x14 = 101 then
            if inb s5v.2 (gN p1 x14) then
              if gS p1 x11 = 4 then
                bnd (fX4_meanFoes x11 s5v.2 (gI p1 x14 (ix s5v.2)) p1) fun p17 =>
                X1_all_j81 s5v p17
              else none
            else none
          else none
        else none
      else
        bnd (gR p1 a0 9) fun x19 =>
        bnd (gR p1 a0 9) fun x20 =>
        if gS p1 x20 = 4 then
          bnd (gR p1 x20 0) fun x22 =>
          if gS p1 x22 = 101 then
            if inb s5v.2 (gN p1 x22) then
              if gS p1 x19 = 4 then
                bnd (fX4_meanOwn x19 s5v.2 (gI p1 x22 (ix s5v.2)) p1) fun p25 =>
                X1_all_j81 s5v p25
              else none
            else none
          else none
        else none
  else none
def fX1_all (a0 : Nat) (a1 : Int32) (a2 : Int32) (h0 : AH) : Option (Int64 × AH) :=
  if gS h0 a0 = 1 then
    bnd (fX1_anew a0 h0) fun p1 =>
    if gS p1 a0 = 1 then
      ons (gR p1 a0 3) (
        bnd (fX1_no a0 1 p1) fun p31 =>
        some (p31.1.toInt64, p31.2)
      ) fun x4 =>
      bnd (iter (X1_all_L23 a0 a1 p1) FU (0, 0)) fun r5v =>
      bnd (gR p1 a0 9) fun x27 =>
      if gS p1 x27 = 4 then
        bnd (fX4_of x27 p1) fun p28 =>
        bnd (fX1_lowest r5v p28 a2 p1) fun p30 =>
        some (p30, p1)
      else none
    else none
  else none
def X4_turnedBy_j93 (s6v : Int32 × Int32) (j11 : Int32) : Option ((Int32 × Int32) ⊕ (Int32)) :=
  some (Sum.inl (j11, s6v.2 + 1))
def X4_turnedBy_L18 (a0 : Nat) (a1 : Int32) (h0 : AH) (s1v : Int32 × Int32) (s6v : Int32 × Int32) : Option ((Int32 × Int32) ⊕ (Int32)) :=
  bnd (gR h0 a0 3) fun x7 =>
  if gS h0 x7 = 8 then
    if (gI h0 x7 8) ≤ s6v.2 then
      some (Sum.inr s6v.1)
    else
      bnd (fX1_has a1 s6v.2 h0) fun p10 =>
      if p10 = 0 then
        X4_turnedBy_j93 s6v s6v.1
      else
        bnd (fX4_isDead a0 s6v.2 h0) fun p13 =>
        if ¬ p13 = 0 then
          X4_turnedBy_j93 s6v s6v.1
        else
          bnd (fX4_isDead a0 s1v.2 h0) fun p15 =>
          if ¬ p15 = 0 then
            X4_turnedBy_j93 s6v s6v.1
          else
            bnd (fX4_hold a0 s1v.2 h0) fun p17 =>
            if 50 ≤ p17 then
              X4_turnedBy_j93 s6v s6v.1
            else
              bnd (gR h0 a0 0) fun x19 =>
              if gS h0 x19 = 101 then
                if inb s1v.2 (gN h0 x19) then
                  bnd (gR h0 a0 0) fun x22 =>
                  if gS h0 x22 = 101 then
                    if inb s6v.2 (gN h0 x22) then
                      if 1 < (iabs ((gI h0 x19 (ix s1v.2)) - (gI h0 x22 (ix s6v.2)))) then
                        X4_turnedBy_j93 s6v s6v.1
                      else
                        X4_turnedBy_j93 s6v (s6v.1 ||| (1 <<< (s1v.2 &&& 31)))
                    else none
                  else none
                else none
              else none
  else none
def X4_turnedBy_L4 (a0 : Nat) (a1 : Int32) (h0 : AH) (s1v : Int32 × Int32) : Option ((Int32 × Int32) ⊕ (Int32)) :=
  if gS h0 a0 = 4 then
    bnd (gR h0 a0 3) fun x3 =>
    if gS h0 x3 = 8 then
      if (gI h0 x3 8) ≤ s1v.2 then
        some (Sum.inr s1v.1)
      else
        bnd (iter (X4_turnedBy_L18 a0 a1 h0 s1v) FU (s1v.1, 0)) fun r6v =>
        some (Sum.inl (r6v, s1v.2 + 1))
    else none
  else none
def fX4_turnedBy (a0 : Nat) (a1 : Int32) (h0 : AH) : Option (Int32) :=
  bnd (iter (X4_turnedBy_L4 a0 a1 h0) FU (0, 0)) fun r1v =>
  some r1v
def X8_turned_j32 (s1v : Int32 × Int32) (j9 : Int32) : Option ((Int32 × Int32) ⊕ (Int32)) :=
  some (Sum.inl (s1v.1 ||| j9, s1v.2 + 1))
def X8_turned_L4 (a0 : Nat) (h0 : AH) (s1v : Int32 × Int32) : Option ((Int32 × Int32) ⊕ (Int32)) :=
  if gS h0 a0 = 8 then
    if (gI h0 a0 8) ≤ s1v.2 then
      some (Sum.inr s1v.1)
    else
      bnd (gR h0 a0 3) fun x4 =>
      if gS h0 x4 = 106 then
        if inb s1v.2 (gN h0 x4) then
          bnd (gR h0 x4 (ix s1v.2)) fun x7 =>
          if gS h0 x7 = 14 ∨ gS h0 x7 = 15 ∨ gS h0 x7 = 16 ∨ gS h0 x7 = 17 then
            if (gI h0 x7 3) = 0 then
              X8_turned_j32 s1v 0
            else
              X8_turned_j32 s1v (1 <<< (s1v.2 &&& 31))
          else none
        else none
      else none
  else none
def fX8_turned (a0 : Nat) (h0 : AH) : Option (Int32) :=
  bnd (iter (X8_turned_L4 a0 h0) FU (0, 0)) fun r1v =>
  some r1v
def X1_seekFits_j116 (s7v : Int32 × AH) (h14 : AH) : Option ((Int32 × AH) ⊕ (AH)) :=
  some (Sum.inl (s7v.1 + 1, h14))
def X1_seekFits_j86 (a0 : Nat) (s7v : Int32 × AH) : Option ((Int32 × AH) ⊕ (AH)) :=
  lt (uI s7v.2 a0 17 ((gI s7v.2 a0 17) + 1)) fun h23 =>
  lt (uI h23 a0 18 ((gI h23 a0 18) ||| s7v.1)) fun h24 =>
  lt (uI h24 a0 19 ((gI h24 a0 19) &&& s7v.1)) fun h25 =>
  X1_seekFits_j116 s7v h25
def X1_seekFits_L27 (a0 : Nat) (a1 : Int32) (a2 : Int32) (s7v : Int32 × AH) : Option ((Int32 × AH) ⊕ (AH)) :=
  if gS s7v.2 a0 = 1 then
    bnd (gR s7v.2 a0 3) fun x9 =>
    if gS s7v.2 x9 = 8 then
      if (1 <<< ((gI s7v.2 x9 8) &&& 31)) ≤ s7v.1 then
        some (Sum.inr s7v.2)
      else
        bnd (gR s7v.2 a0 9) fun x12 =>
        if gS s7v.2 x12 = 4 then
          if ¬ (s7v.1 &&& (gI s7v.2 x12 4)) = 0 then
            X1_seekFits_j116 s7v s7v.2
          else
            bnd (gR s7v.2 a0 9) fun x16 =>
            if gS s7v.2 x16 = 4 then
              bnd (fX4_turnedBy x16 s7v.1 s7v.2) fun p17 =>
              bnd (gR s7v.2 a0 3) fun x19 =>
              if gS s7v.2 x19 = 8 then
                bnd (fX8_turned x19 s7v.2) fun p20 =>
                if ¬ p17 = p20 then
                  X1_seekFits_j116 s7v s7v.2
                else
                  if a1 < 0 then
                    X1_seekFits_j86 a0 s7v 
                  else
                    bnd (fX1_has s7v.1 a1 s7v.2) fun p27 =>
                    if p27 = a2 then
                      X1_seekFits_j86 a0 s7v 
                    else
                      X1_seekFits_j116 s7v s7v.2
              else none
            else none
        else none
    else none
  else none
def fX1_seekFits (a0 : Nat) (a1 : Int32) (a2 : Int32) (h0 : AH) : Option (AH) :=
  if gS h0 a0 = 1 then
    lt (uI h0 a0 17 0) fun h2 =>
    lt (uI h2 a0 18 0) fun h3 =>
    bnd (gR h3 a0 3) fun x4 =>
    if gS h3 x4 = 8 then
      lt (uI h3 a0 19 ((1 <<< ((gI h3 x4 8) &&& 31)) - 1)) fun h6 =>
      bnd (iter (X1_seekFits_L27 a0 a1 a2) FU (1, h6)) fun r7v =>
      if gS r7v a0 = 1 then
        if ¬ (gI r7v a0 17) = 0 then
          some r7v
        else
          lt (uI r7v a0 19 0) fun h31 =>
          some h31
      else none
    else none
  else none
def fX1_leavesBy (a0 : Nat) (a1 : Int32) (h0 : AH) : Option (Int32 × AH) :=
  if gS h0 a0 = 1 then
    bnd (fX1_seekFits a0 a1 1 h0) fun p1 =>
    if gS p1 a0 = 1 then
      bnd (fX1_seekFits a0 a1 0 p1) fun p4 =>
      if gS p4 a0 = 1 then
        some (imax (gI p1 a0 17) (gI p4 a0 17), p4)
      else none
    else none
  else none
def X1_ask_j47 (s5v : Int32 × Int32 × AH) (p11 : Int32 × AH) (j13 : Int32) : Option ((Int32 × Int32 × AH) ⊕ (Int32 × AH)) :=
  some (Sum.inl (j13, s5v.2.1 + 1, p11.2))
def X1_ask_L21 (a0 : Nat) (s5v : Int32 × Int32 × AH) : Option ((Int32 × Int32 × AH) ⊕ (Int32 × AH)) :=
  if gS s5v.2.2 a0 = 1 then
    bnd (gR s5v.2.2 a0 3) fun x7 =>
    if gS s5v.2.2 x7 = 8 then
      if (gI s5v.2.2 x7 8) ≤ s5v.2.1 then
        some (Sum.inr (s5v.1, s5v.2.2))
      else
        bnd (fX1_leavesBy a0 s5v.2.1 s5v.2.2) fun p10 =>
        if gS p10.2 a0 = 1 then
          bnd (fX1_leavesBy a0 s5v.1 p10.2) fun p11 =>
          if p11.1 ≤ p10.1 then
            X1_ask_j47 s5v p11 s5v.1
          else
            X1_ask_j47 s5v p11 s5v.2.1
        else none
    else none
  else none
def fX1_ask (a0 : Nat) (h0 : AH) : Option (Int32 × AH) :=
  if gS h0 a0 = 1 then
    bnd (fX1_anew a0 h0) fun p1 =>
    if gS p1 a0 = 1 then
      ons (gR p1 a0 3) (
        bnd (fX1_no a0 1 p1) fun p18 =>
        some (p18.1, p18.2)
      ) fun x4 =>
      bnd (iter (X1_ask_L21 a0) FU (0, 1, p1)) fun r5v =>
      if gS r5v.2 a0 = 1 then
        bnd (fX1_leavesBy a0 r5v.1 r5v.2) fun p15 =>
        if ¬ p15.1 = 0 then
          some (r5v.1, p15.2)
        else
          some ((-2), p15.2)
      else none
    else none
  else none
def fX1_yes (a0 : Nat) (a1 : Int32) (h0 : AH) : Option (Int32 × AH) :=
  if gS h0 a0 = 1 then
    bnd (fX1_anew a0 h0) fun p1 =>
    if gS p1 a0 = 1 then
      lt (uI p1 a0 4 a1) fun h4 =>
      if ¬ a1 = 0 then
        some (0, h4)
      else
        some (1, h4)
    else none
  else none
def X1_back_j20 (a0 : Nat) (a1 : Int32) (h0 : AH) (j3 : Int32) : Option (Int32 × AH) :=
  bnd (fX1_yes a0 j3 h0) fun p4 =>
  if ¬ p4.1 = 0 then
    if gS p4.2 a0 = 1 then
      bnd (gR p4.2 a0 9) fun x7 =>
      bnd (gR p4.2 a0 15) fun x8 =>
      if gS p4.2 x8 = 105 then
        if inb a1 (gN p4.2 x8) then
          bnd (gR p4.2 x8 (ix a1)) fun x11 =>
          if gS p4.2 x7 = 4 then
            bnd (fX4_become x7 x11 p4.2) fun p12 =>
            if gS p12 a0 = 1 then
              lt (uI p12 a0 8 0) fun h15 =>
              some (1, h15)
            else none
          else none
        else none
      else none
    else none
  else
    some (0, p4.2)
def fX1_back (a0 : Nat) (a1 : Int32) (h0 : AH) : Option (Int32 × AH) :=
  if gS h0 a0 = 1 then
    bnd (fX1_in a1 0 ((gI h0 a0 7) - 1) h0) fun p2 =>
    if p2 = 0 then
      X1_back_j20 a0 a1 h0 1
    else
      X1_back_j20 a0 a1 h0 0
  else none
def X1_done_j62 (a0 : Nat) (h2 : AH) : Option (Int32 × AH) :=
  if gS h2 a0 = 1 then
    bnd (gR h2 a0 14) fun x4 =>
    if gS h2 x4 = 105 then
      if inb (gI h2 a0 8) (gN h2 x4) then
        bnd (gR h2 x4 (ix (gI h2 a0 8))) fun x7 =>
        bnd (gR h2 a0 10) fun x8 =>
        if gS h2 x7 = 4 then
          bnd (fX4_become x7 x8 h2) fun p9 =>
          if gS p9 a0 = 1 then
            lt (uI p9 a0 8 ((gI p9 a0 8) + 1)) fun h12 =>
            some (1, h12)
          else none
        else none
      else none
    else none
  else none
def X1_done_L18 (a0 : Nat) (s18v : Int32 × AH) : Option ((Int32 × AH) ⊕ (AH)) :=
  if 16 ≤ s18v.1 then
    some (Sum.inr s18v.2)
  else
    if gS s18v.2 a0 = 1 then
      bnd (gR s18v.2 a0 14) fun x21 =>
      bnd (gR s18v.2 a0 14) fun x22 =>
      if gS s18v.2 x22 = 105 then
        if inb s18v.1 (gN s18v.2 x22) then
          bnd (gR s18v.2 x22 (ix s18v.1)) fun x25 =>
          if gS s18v.2 x25 = 4 then
            if gS s18v.2 x21 = 105 then
              if inb (s18v.1 - 1) (gN s18v.2 x21) then
                lt (uR s18v.2 x21 (ix (s18v.1 - 1)) (some x25)) fun h29 =>
                some (Sum.inl (s18v.1 + 1, h29))
              else none
            else none
          else none
        else none
      else none
    else none
def fX1_done (a0 : Nat) (h0 : AH) : Option (Int32 × AH) :=
  if gS h0 a0 = 1 then
    if ¬ (gI h0 a0 8) = 16 then
      X1_done_j62 a0 h0
    else
      bnd (gR h0 a0 14) fun x14 =>
      if gS h0 x14 = 105 then
        if inb 0 (gN h0 x14) then
          bnd (gR h0 x14 (ix 0)) fun x17 =>
          bnd (iter (X1_done_L18 a0) FU (1, h0)) fun r18v =>
          if gS r18v a0 = 1 then
            bnd (gR r18v a0 14) fun x31 =>
            if gS r18v x17 = 4 then
              if gS r18v x31 = 105 then
                if inb 15 (gN r18v x31) then
                  lt (uR r18v x31 (ix 15) (some x17)) fun h35 =>
                  lt (uI h35 a0 8 ((gI h35 a0 8) - 1)) fun h36 =>
                  X1_done_j62 a0 h36
                else none
              else none
            else none
          else none
        else none
      else none
  else none
def fX1_note (a0 : Nat) (h0 : AH) : Option (AH) :=
  if gS h0 a0 = 1 then
    bnd (gR h0 a0 10) fun x2 =>
    bnd (gR h0 a0 9) fun x3 =>
    if gS h0 x2 = 4 then
      bnd (fX4_become x2 x3 h0) fun p4 =>
      some p4
    else none
  else none
def fX1_battle (a0 : Nat) (h0 : AH) : Option (Int32 × AH) :=
  if gS h0 a0 = 1 then
    bnd (fX1_anew a0 h0) fun p1 =>
    if gS p1 a0 = 1 then
      ons (gR p1 a0 3) (
        bnd (fX1_no a0 1 p1) fun p15 =>
        some (p15.1, p15.2)
      ) fun x4 =>
      bnd (fX1_note a0 p1) fun p5 =>
      if gS p5 a0 = 1 then
        bnd (gR p5 a0 9) fun x7 =>
        if gS p5 x7 = 4 then
          bnd (fX4_fights x7 p5) fun p8 =>
          if gS p8 a0 = 1 then
            bnd (fX1_done a0 p8) fun p10 =>
            if gS p10.2 a0 = 1 then
              bnd (gR p10.2 a0 9) fun x13 =>
              if gS p10.2 x13 = 4 then
                some (gI p10.2 x13 7, p10.2)
              else none
            else none
          else none
        else none
      else none
    else none
  else none
def fX1_battles (a0 : Nat) (a1 : Int32) (a2 : Int32) (a3 : Int32) (h0 : AH) : Option (Int32 × AH) :=
  if gS h0 a0 = 1 then
    bnd (fX1_anew a0 h0) fun p1 =>
    if gS p1 a0 = 1 then
      ons (gR p1 a0 3) (
        bnd (fX1_battleWhy a0 0 a1 a2 p1) fun p12 =>
        if p12.1 = 0 then
          if a3 = 0 then
            if gS p12.2 a0 = 1 then
              some (gI p12.2 a0 20, p12.2)
            else none
          else
            if gS p12.2 a0 = 1 then
              some (gI p12.2 a0 21, p12.2)
            else none
        else
          if gS p12.2 a0 = 1 then
            bnd (fX1_no a0 p12.1 p12.2) fun p17 =>
            some (p17.1, p17.2)
          else none
      ) fun x4 =>
      bnd (fX1_battleWhy a0 1 a1 a2 p1) fun p5 =>
      if p5.1 = 0 then
        if a3 = 0 then
          if gS p5.2 a0 = 1 then
            some (gI p5.2 a0 20, p5.2)
          else none
        else
          if gS p5.2 a0 = 1 then
            some (gI p5.2 a0 21, p5.2)
          else none
      else
        if gS p5.2 a0 = 1 then
          bnd (fX1_no a0 p5.1 p5.2) fun p10 =>
          some (p10.1, p10.2)
        else none
    else none
  else none
def fX16_kind (a0 : Nat) (h0 : AH) : Option (Int32) :=
  some 1
def fX17_kind (a0 : Nat) (h0 : AH) : Option (Int32) :=
  some 2
def fX18_kind (a0 : Nat) (h0 : AH) : Option (Int32) :=
  some 3
def fX15_kind (a0 : Nat) (h0 : AH) : Option (Int32) :=
  some 0
def fV_X14_kind (a0 : Nat) (h0 : AH) : Option Int32 :=
  if gS h0 a0 = 14 then fX15_kind a0 h0 else if gS h0 a0 = 15 then fX16_kind a0 h0 else if gS h0 a0 = 16 then fX17_kind a0 h0 else if gS h0 a0 = 17 then fX18_kind a0 h0 else none
def fX1_beast (a0 : Nat) (a1 : Int32) (a2 : Int32) (h0 : AH) : Option (Int32 × AH) :=
  if gS h0 a0 = 1 then
    bnd (fX1_anew a0 h0) fun p1 =>
    if gS p1 a0 = 1 then
      bnd (fX1_isBeast a0 a1 p1) fun p3 =>
      if ¬ p3 = 0 then
        bnd (gR p1 a0 3) fun x6 =>
        if gS p1 x6 = 8 then
          bnd (gR p1 x6 3) fun x8 =>
          if gS p1 x8 = 106 then
            if inb a1 (gN p1 x8) then
              bnd (gR p1 x8 (ix a1)) fun x11 =>
              if a2 < 0 ∨ 7 < a2 then
                bnd (fX1_no a0 1 p1) fun p13 =>
                some (p13.1, p13.2)
              else if a2 = 0 then
                bnd (fV_X14_kind x11 p1) fun p15 =>
                some (p15, p1)
              else if a2 = 1 then
                bnd (gR p1 a0 9) fun x17 =>
                if gS p1 x17 = 4 then
                  bnd (gR p1 x17 0) fun x19 =>
                  if gS p1 x19 = 101 then
                    if inb a1 (gN p1 x19) then
                      some (gI p1 x19 (ix a1), p1)
                    else none
                  else none
                else none
              else if a2 = 2 then
                if gS p1 x11 = 14 ∨ gS p1 x11 = 15 ∨ gS p1 x11 = 16 ∨ gS p1 x11 = 17 then
                  some (gI p1 x11 1, p1)
                else none
              else if a2 = 3 then
                if gS p1 x11 = 14 ∨ gS p1 x11 = 15 ∨ gS p1 x11 = 16 ∨ gS p1 x11 = 17 then
                  some (gI p1 x11 2, p1)
                else none
              else if a2 = 4 then
                bnd (gR p1 a0 9) fun x27 =>
                if gS p1 x27 = 4 then
                  bnd (fX4_force x27 a1 p1) fun p28 =>
                  some (p28, p1)
                else none
              else if a2 = 5 then
                bnd (gR p1 a0 9) fun x31 =>
                if gS p1 x31 = 4 then
                  bnd (fX4_hold x31 a1 p1) fun p32 =>
                  some (p32, p1)
                else none
              else if a2 = 6 then
                bnd (gR p1 a0 9) fun x35 =>
                if gS p1 x35 = 4 then
                  bnd (gR p1 x35 1) fun x37 =>
                  if gS p1 x37 = 101 then
                    if inb a1 (gN p1 x37) then
                      some (gI p1 x37 (ix a1), p1)
                    else none
                  else none
                else none
              else if a2 = 7 then
                bnd (gR p1 a0 9) fun x41 =>
                if gS p1 x41 = 4 then
                  bnd (fX4_isDead x41 a1 p1) fun p42 =>
                  if p42 = 0 then
                    some (0, p1)
                  else
                    some (1, p1)
                else none
              else none
            else none
          else none
        else none
      else
        bnd (fX1_no a0 1 p1) fun p45 =>
        some (p45.1, p45.2)
    else none
  else none
def X1_beastsIn_j47 (s1v : Int32 × Int32) (j9 : Int32) : Option ((Int32 × Int32) ⊕ (Int32)) :=
  some (Sum.inl (s1v.1 ||| j9, s1v.2 + 1))
def X1_beastsIn_j46 (s1v : Int32 × Int32) : Option ((Int32 × Int32) ⊕ (Int32)) :=
  X1_beastsIn_j47 s1v 0
def X1_beastsIn_L4 (a0 : Nat) (a1 : Int32) (h0 : AH) (s1v : Int32 × Int32) : Option ((Int32 × Int32) ⊕ (Int32)) :=
  if gS h0 a0 = 1 then
    bnd (gR h0 a0 3) fun x3 =>
    if gS h0 x3 = 8 then
      if (gI h0 x3 8) ≤ s1v.2 then
        some (Sum.inr s1v.1)
      else
        bnd (gR h0 a0 9) fun x6 =>
        if gS h0 x6 = 4 then
          bnd (fX4_isDead x6 s1v.2 h0) fun p7 =>
          if ¬ p7 = 0 then
            X1_beastsIn_j46 s1v 
          else
            bnd (gR h0 a0 9) fun x11 =>
            if gS h0 x11 = 4 then
              bnd (gR h0 x11 0) fun x13 =>
              if gS h0 x13 = 101 then
                if inb s1v.2 (gN h0 x13) then
                  if ¬ (gI h0 x13 (ix s1v.2)) = a1 then
                    X1_beastsIn_j46 s1v 
                  else
                    X1_beastsIn_j47 s1v (1 <<< (s1v.2 &&& 31))
                else none
              else none
            else none
        else none
    else none
  else none
def fX1_beastsIn (a0 : Nat) (a1 : Int32) (h0 : AH) : Option (Int32) :=
  bnd (iter (X1_beastsIn_L4 a0 a1 h0) FU (0, 0)) fun r1v =>
  some r1v
def fX4_worth (a0 : Nat) (a1 : Int32) (a2 : Int32) (h0 : AH) : Option (Int64) :=
  if gS h0 a0 = 4 then
    bnd (fX4_meanFoes a0 a1 a2 h0) fun p1 =>
    bnd (fX4_meanOwn a0 a1 a2 h0) fun p3 =>
    some (p1 - p3)
  else none
def X1_bestLane_j57 (s6v : Int32 × Int32) (j16 : Int32) : Option ((Int32 × Int32) ⊕ (Int32)) :=
  some (Sum.inl (j16, s6v.2 + 1))
def X1_bestLane_L22 (a0 : Nat) (a1 : Int32) (p1 : AH) (s6v : Int32 × Int32) : Option ((Int32 × Int32) ⊕ (Int32)) :=
  bnd (gR p1 a0 3) fun x7 =>
  if gS p1 x7 = 8 then
    if (gI p1 x7 5) ≤ s6v.2 then
      some (Sum.inr s6v.1)
    else
      bnd (gR p1 a0 9) fun x10 =>
      if gS p1 x10 = 4 then
        bnd (fX4_worth x10 a1 s6v.2 p1) fun p11 =>
        bnd (gR p1 a0 9) fun x13 =>
        if gS p1 x13 = 4 then
          bnd (fX4_worth x13 a1 s6v.1 p1) fun p14 =>
          if p11 ≤ p14 then
            X1_bestLane_j57 s6v s6v.1
          else
            X1_bestLane_j57 s6v s6v.2
        else none
      else none
  else none
def fX1_bestLane (a0 : Nat) (a1 : Int32) (h0 : AH) : Option (Int32 × AH) :=
  if gS h0 a0 = 1 then
    bnd (fX1_anew a0 h0) fun p1 =>
    if gS p1 a0 = 1 then
      bnd (fX1_isBeast a0 a1 p1) fun p3 =>
      if ¬ p3 = 0 then
        bnd (iter (X1_bestLane_L22 a0 a1 p1) FU (0, 1)) fun r6v =>
        some (r6v, p1)
      else
        bnd (fX1_no a0 1 p1) fun p18 =>
        some (p18.1, p18.2)
    else none
  else none
def X1_bytes_L3 (a0 : Nat) (a1 : Int32) (s1v : Int32 × AH) : Option ((Int32 × AH) ⊕ (AH)) :=
  if s1v.1 < 0 then
    some (Sum.inr s1v.2)
  else
    if gS s1v.2 a0 = 1 then
      bnd (gR s1v.2 a0 0) fun x4 =>
      if gS s1v.2 x4 = 102 then
        if inb (gI s1v.2 a0 1) (gN s1v.2 x4) then
          lt (uI s1v.2 x4 (ix (gI s1v.2 a0 1)) (((a1 >>> (s1v.1 &&& 31)).toInt8.toInt32).toInt8.toInt32)) fun h7 =>
          lt (uI h7 a0 1 ((gI h7 a0 1) + 1)) fun h8 =>
          some (Sum.inl (s1v.1 + (-8), h8))
        else none
      else none
    else none
def fX1_bytes (a0 : Nat) (a1 : Int32) (h0 : AH) : Option (AH) :=
  bnd (iter (X1_bytes_L3 a0 a1) FU (24, h0)) fun r1v =>
  some r1v
def fX1_could (a0 : Nat) (h0 : AH) : Option (Int32 × AH) :=
  if gS h0 a0 = 1 then
    bnd (fX1_anew a0 h0) fun p1 =>
    if gS p1 a0 = 1 then
      ons (gR p1 a0 3) (
        bnd (fX1_no a0 1 p1) fun p7 =>
        some (p7.1, p7.2)
      ) fun x4 =>
      bnd (fX1_seekFits a0 (-1) 0 p1) fun p5 =>
      if gS p5 a0 = 1 then
        some (gI p5 a0 18, p5)
      else none
    else none
  else none
def fX1_fault (a0 : Nat) (h0 : AH) : Option (Int32) :=
  if gS h0 a0 = 1 then
    some (gI h0 a0 5)
  else none
def fX1_feed (a0 : Nat) (a1 : Int32) (a2 : Int32) (a3 : Int32) (a4 : Int32) (a5 : Int32) (h0 : AH) : Option (Int32 × AH) :=
  if gS h0 a0 = 1 then
    if ((gI h0 a0 1) + 20) ≤ 900 then
      bnd (fX1_bytes a0 a1 h0) fun p3 =>
      if gS p3 a0 = 1 then
        bnd (fX1_bytes a0 a2 p3) fun p4 =>
        if gS p4 a0 = 1 then
          bnd (fX1_bytes a0 a3 p4) fun p6 =>
          if gS p6 a0 = 1 then
            bnd (fX1_bytes a0 a4 p6) fun p8 =>
            if gS p8 a0 = 1 then
              bnd (fX1_bytes a0 a5 p8) fun p10 =>
              if gS p10 a0 = 1 then
                some (gI p10 a0 1, p10)
              else none
            else none
          else none
        else none
      else none
    else
      some ((-1), h0)
  else none
def fX1_fits (a0 : Nat) (h0 : AH) : Option (Int32 × AH) :=
  if gS h0 a0 = 1 then
    bnd (fX1_anew a0 h0) fun p1 =>
    if gS p1 a0 = 1 then
      ons (gR p1 a0 3) (
        bnd (fX1_no a0 1 p1) fun p7 =>
        some (p7.1, p7.2)
      ) fun x4 =>
      bnd (fX1_seekFits a0 (-1) 0 p1) fun p5 =>
      if gS p5 a0 = 1 then
        some (gI p5 a0 17, p5)
      else none
    else none
  else none
def X1_hammer_j29 (a0 : Nat) (a1 : Int32) (h0 : AH) (j3 : Int32) : Option (Int32 × AH) :=
  bnd (fX1_yes a0 j3 h0) fun p4 =>
  if ¬ p4.1 = 0 then
    if gS p4.2 a0 = 1 then
      bnd (fX1_note a0 p4.2) fun p6 =>
      if gS p6 a0 = 1 then
        bnd (gR p6 a0 9) fun x9 =>
        if gS p6 x9 = 4 then
          lt (uI p6 x9 4 ((gI p6 x9 4) ||| (1 <<< (a1 &&& 31)))) fun h11 =>
          bnd (fX1_done a0 h11) fun p12 =>
          if p12.1 = 0 ∨ p12.1 = 1 then
            some (p12.1, p12.2)
          else none
        else none
      else none
    else none
  else
    some (0, p4.2)
def fX1_hammer (a0 : Nat) (a1 : Int32) (h0 : AH) : Option (Int32 × AH) :=
  if gS h0 a0 = 1 then
    bnd (fX1_isBeast a0 a1 h0) fun p1 =>
    if ¬ p1 = 0 then
      bnd (gR h0 a0 9) fun x15 =>
      if gS h0 x15 = 4 then
        bnd (fX4_isDead x15 a1 h0) fun p16 =>
        if p16 = 0 then
          X1_hammer_j29 a0 a1 h0 0
        else
          X1_hammer_j29 a0 a1 h0 5
      else none
    else
      X1_hammer_j29 a0 a1 h0 1
  else none
def fX1_isCity (a0 : Nat) (a1 : Int32) (h0 : AH) : Option (Int32) :=
  if gS h0 a0 = 1 then
    ons (gR h0 a0 3) (
      some 0
    ) fun x2 =>
    bnd (gR h0 a0 3) fun x3 =>
    if gS h0 x3 = 8 then
      bnd (fX1_in a1 0 ((gI h0 x3 9) - 1) h0) fun p5 =>
      if p5 = 0 then
        some 0
      else
        some 1
    else none
  else none
def X1_isHeld_j74 (s13v : Int32 × Int32) (j17 : Int32) : Option ((Int32 × Int32) ⊕ (Int32)) :=
  some (Sum.inl (j17, s13v.2 + 1))
def X1_isHeld_j73 (s13v : Int32 × Int32) : Option ((Int32 × Int32) ⊕ (Int32)) :=
  X1_isHeld_j74 s13v 0
def X1_isHeld_j69 (s13v : Int32 × Int32) : Option ((Int32 × Int32) ⊕ (Int32)) :=
  X1_isHeld_j74 s13v 1
def X1_isHeld_L26 (a0 : Nat) (a1 : Int32) (h12 : AH) (s13v : Int32 × Int32) : Option ((Int32 × Int32) ⊕ (Int32)) :=
  bnd (gR h12 a0 3) fun x14 =>
  if gS h12 x14 = 8 then
    if (gI h12 x14 8) ≤ s13v.2 then
      some (Sum.inr s13v.1)
    else
      if s13v.1 = 0 then
        X1_isHeld_j73 s13v 
      else
        bnd (gR h12 a0 9) fun x19 =>
        if gS h12 x19 = 4 then
          bnd (fX4_isDead x19 s13v.2 h12) fun p20 =>
          if ¬ p20 = 0 then
            X1_isHeld_j69 s13v 
          else
            bnd (gR h12 a0 11) fun x23 =>
            if gS h12 x23 = 4 then
              bnd (fX4_worth x23 s13v.2 a1 h12) fun p24 =>
              if 0 < p24 then
                X1_isHeld_j73 s13v 
              else
                X1_isHeld_j69 s13v 
            else none
        else none
  else none
def fX1_isHeld (a0 : Nat) (a1 : Int32) (a2 : Int32) (h0 : AH) : Option (Int32 × AH) :=
  if gS h0 a0 = 1 then
    bnd (gR h0 a0 11) fun x2 =>
    bnd (gR h0 a0 9) fun x3 =>
    if gS h0 x2 = 4 then
      bnd (fX4_become x2 x3 h0) fun p4 =>
      if gS p4 a0 = 1 then
        bnd (gR p4 a0 11) fun x7 =>
        if gS p4 x7 = 4 then
          bnd (gR p4 x7 2) fun x9 =>
          if gS p4 x9 = 101 then
            if inb a1 (gN p4 x9) then
              lt (uI p4 x9 (ix a1) a2) fun h12 =>
              bnd (iter (X1_isHeld_L26 a0 a1 h12) FU (1, 0)) fun r13v =>
              if r13v = 0 ∨ r13v = 1 then
                some (r13v, h12)
              else none
            else none
          else none
        else none
      else none
    else none
  else none
def fX1_isHorse (a0 : Nat) (a1 : Int32) (h0 : AH) : Option (Int32) :=
  if gS h0 a0 = 1 then
    bnd (gR h0 a0 3) fun x2 =>
    if gS h0 x2 = 8 then
      bnd (gR h0 x2 0) fun x4 =>
      if gS h0 x4 = 107 then
        if inb a1 (gN h0 x4) then
          bnd (gR h0 x4 (ix a1)) fun x7 =>
          if gS h0 x7 = 13 then
            some 1
          else if gS h0 x7 = 10 ∨ gS h0 x7 = 11 ∨ gS h0 x7 = 12 then
            some 0
          else none
        else none
      else none
    else none
  else none
def fX1_isLane (a0 : Nat) (a1 : Int32) (h0 : AH) : Option (Int32) :=
  if gS h0 a0 = 1 then
    ons (gR h0 a0 3) (
      some 0
    ) fun x2 =>
    bnd (gR h0 a0 3) fun x3 =>
    if gS h0 x3 = 8 then
      bnd (fX1_in a1 0 ((gI h0 x3 5) - 1) h0) fun p5 =>
      if p5 = 0 then
        some 0
      else
        some 1
    else none
  else none
def fX4_worthBy (a0 : Nat) (a1 : Int32) (a2 : Int32) (a3 : Int32) (h0 : AH) : Option (Int64) :=
  if ¬ a2 = a3 then
    if gS h0 a0 = 4 then
      bnd (fX4_worth a0 a1 a2 h0) fun p2 =>
      some p2
    else none
  else
    if gS h0 a0 = 4 then
      bnd (fX4_of a0 h0) fun p4 =>
      bnd (fX4_across a0 a1 h0) fun p6 =>
      bnd (fX4_force a0 a1 h0) fun p7 =>
      some ((-(p4 - p6)) * ((p7 / 2).toInt64))
    else none
def X1_isRest_j78 (s1v : Int32 × Int32) (j6 : Int32) : Option ((Int32 × Int32) ⊕ (Int32)) :=
  some (Sum.inl (j6, s1v.2 + 1))
def X1_isRest_j77 (s1v : Int32 × Int32) : Option ((Int32 × Int32) ⊕ (Int32)) :=
  X1_isRest_j78 s1v 0
def X1_isRest_L6 (a0 : Nat) (a1 : Int32) (a2 : Int32) (a3 : Int32) (h0 : AH) (s1v : Int32 × Int32) : Option ((Int32 × Int32) ⊕ (Int32)) :=
  if gS h0 a0 = 1 then
    bnd (gR h0 a0 3) fun x3 =>
    if gS h0 x3 = 8 then
      if (gI h0 x3 5) ≤ s1v.2 then
        some (Sum.inr s1v.1)
      else
        if s1v.1 = 0 then
          X1_isRest_j77 s1v 
        else
          bnd (gR h0 a0 9) fun x8 =>
          if gS h0 x8 = 4 then
            bnd (fX4_worthBy x8 a1 s1v.2 a3 h0) fun p9 =>
            bnd (gR h0 a0 9) fun x11 =>
            if gS h0 x11 = 4 then
              bnd (fX4_worthBy x11 a1 a2 a3 h0) fun p12 =>
              if p12 < p9 then
                X1_isRest_j77 s1v 
              else
                bnd (gR h0 a0 9) fun x15 =>
                if gS h0 x15 = 4 then
                  bnd (fX4_worthBy x15 a1 a2 s1v.2 h0) fun p16 =>
                  bnd (gR h0 a0 9) fun x18 =>
                  if gS h0 x18 = 4 then
                    bnd (fX4_worthBy x18 a1 a2 a3 h0) fun p19 =>
                    if p16 < p19 then
                      X1_isRest_j77 s1v 
                    else
                      X1_isRest_j78 s1v 1
                  else none
                else none
            else none
          else none
    else none
  else none
def fX1_isRest (a0 : Nat) (a1 : Int32) (a2 : Int32) (a3 : Int32) (h0 : AH) : Option (Int32) :=
  bnd (iter (X1_isRest_L6 a0 a1 a2 a3 h0) FU (1, 0)) fun r1v =>
  if r1v = 0 ∨ r1v = 1 then
    some r1v
  else none
def fX11_kind (a0 : Nat) (h0 : AH) : Option (Int32) :=
  some 2
def fX12_kind (a0 : Nat) (h0 : AH) : Option (Int32) :=
  some 3
def fX10_kind (a0 : Nat) (h0 : AH) : Option (Int32) :=
  some 1
def fX9_kind (a0 : Nat) (h0 : AH) : Option (Int32) :=
  some 0
def fV_X9_kind (a0 : Nat) (h0 : AH) : Option Int32 :=
  if gS h0 a0 = 10 then fX9_kind a0 h0 else if gS h0 a0 = 11 then fX10_kind a0 h0 else if gS h0 a0 = 12 then fX11_kind a0 h0 else if gS h0 a0 = 13 then fX12_kind a0 h0 else none
def fX1_lane (a0 : Nat) (a1 : Int32) (a2 : Int32) (h0 : AH) : Option (Int32 × AH) :=
  if gS h0 a0 = 1 then
    bnd (fX1_anew a0 h0) fun p1 =>
    if gS p1 a0 = 1 then
      bnd (fX1_isLane a0 a1 p1) fun p3 =>
      if ¬ p3 = 0 then
        if a2 < 0 ∨ 2 < a2 then
          bnd (fX1_no a0 1 p1) fun p7 =>
          some (p7.1, p7.2)
        else if a2 = 0 then
          bnd (gR p1 a0 3) fun x9 =>
          if gS p1 x9 = 8 then
            bnd (gR p1 x9 0) fun x11 =>
            if gS p1 x11 = 107 then
              if inb a1 (gN p1 x11) then
                bnd (gR p1 x11 (ix a1)) fun x14 =>
                bnd (fV_X9_kind x14 p1) fun p15 =>
                some (p15, p1)
              else none
            else none
          else none
        else if a2 = 1 then
          bnd (gR p1 a0 9) fun x17 =>
          if gS p1 x17 = 4 then
            bnd (gR p1 x17 2) fun x19 =>
            if gS p1 x19 = 101 then
              if inb a1 (gN p1 x19) then
                some (gI p1 x19 (ix a1), p1)
              else none
            else none
          else none
        else if a2 = 2 then
          bnd (fX1_beastsIn a0 a1 p1) fun p23 =>
          some (p23, p1)
        else none
      else
        bnd (fX1_no a0 1 p1) fun p24 =>
        some (p24.1, p24.2)
    else none
  else none
def X1_led_j46 (s1v : Int32 × Int32) (j10 : Int32) : Option ((Int32 × Int32) ⊕ ((Int32 × AH) ⊕ (Nat × AH))) :=
  some (Sum.inl (j10, s1v.2 + 1))
def X1_led_L4 (a0 : Nat) (a1 : Int32) (h0 : AH) (s1v : Int32 × Int32) : Option ((Int32 × Int32) ⊕ ((Int32 × AH) ⊕ (Nat × AH))) :=
  if gS h0 a0 = 1 then
    ons (gR h0 a0 3) (
      some (Sum.inr (Sum.inr (gZ h0, nC h0 0 6)))
    ) fun x3 =>
    bnd (gR h0 a0 3) fun x4 =>
    if gS h0 x4 = 8 then
      if (gI h0 x4 8) ≤ s1v.2 then
        some (Sum.inr (Sum.inr (gZ h0, nC h0 0 6)))
      else
        bnd (gR h0 a0 9) fun x7 =>
        if gS h0 x7 = 4 then
          bnd (fX4_isDead x7 s1v.2 h0) fun p8 =>
          if ¬ p8 = 0 then
            if ¬ s1v.1 = a1 then
              X1_led_j46 s1v (s1v.1 + 1)
            else
              some (Sum.inr (Sum.inl (s1v.2, h0)))
          else
            X1_led_j46 s1v s1v.1
        else none
    else none
  else none
def fX1_led (a0 : Nat) (a1 : Int32) (h0 : AH) : Option ((Int32 × AH) ⊕ (Nat × AH)) :=
  iter (X1_led_L4 a0 a1 h0) FU (0, 0)
def fX1_marchWhy (a0 : Nat) (a1 : Int32) (a2 : Int32) (a3 : Int32) (h0 : AH) : Option (Int32) :=
  if gS h0 a0 = 1 then
    bnd (fX1_isCity a0 a1 h0) fun p1 =>
    if p1 = 0 then
      some 1
    else
      bnd (fX1_isCity a0 a2 h0) fun p4 =>
      if ¬ p4 = 0 then
        bnd (fX1_in a3 0 999 h0) fun p6 =>
        if p6 = 0 then
          some 2
        else
          some 0
      else
        some 1
  else none
def fX8_pass (a0 : Nat) (a1 : Int32) (a2 : Int32) (h0 : AH) : Option (Int32) :=
  if gS h0 a0 = 8 then
    bnd (gR h0 a0 2) fun x2 =>
    if gS h0 x2 = 101 then
      if inb ((6 * a1) + a2) (gN h0 x2) then
        some (gI h0 x2 (ix ((6 * a1) + a2)))
      else none
    else none
  else none
def fX8_lost (a0 : Nat) (a1 : Int32) (a2 : Int32) (a3 : Int32) (h0 : AH) : Option (Int32) :=
  if gS h0 a0 = 8 then
    bnd (fX8_pass a0 a1 a2 h0) fun p1 =>
    some (((a3 * (p1 - 1)) + 99) / 100)
  else none
def X6_comes_j124 (rec : Nat → Int32 → Int32 → Int32 → Int32 → AH → Option (AH)) (s7v : Int32 × AH) (h13 : AH) : Option ((Int32 × AH) ⊕ (AH)) :=
  some (Sum.inl (s7v.1 + 1, h13))
def X6_comes_L57 (rec : Nat → Int32 → Int32 → Int32 → Int32 → AH → Option (AH)) (a0 : Nat) (a1 : Int32) (a2 : Int32) (a3 : Int32) (a4 : Int32) (s7v : Int32 × AH) : Option ((Int32 × AH) ⊕ (AH)) :=
  if gS s7v.2 a0 = 6 then
    bnd (gR s7v.2 a0 2) fun x9 =>
    if gS s7v.2 x9 = 8 then
      if (gI s7v.2 x9 9) ≤ s7v.1 then
        some (Sum.inr s7v.2)
      else
        bnd (fX1_has a3 s7v.1 s7v.2) fun p12 =>
        if ¬ p12 = 0 then
          X6_comes_j124 rec s7v s7v.2
        else
          bnd (gR s7v.2 a0 2) fun x15 =>
          if gS s7v.2 x15 = 8 then
            bnd (fX8_pass x15 a2 s7v.1 s7v.2) fun p16 =>
            if ¬ p16 = 0 then
              bnd (gR s7v.2 a0 2) fun x19 =>
              if gS s7v.2 x19 = 8 then
                bnd (fX8_lost x19 a2 s7v.1 a4 s7v.2) fun p20 =>
                bnd (rec a0 (a1 + 1) s7v.1 (a3 ||| (1 <<< (s7v.1 &&& 31))) (a4 - p20) s7v.2) fun p22 =>
                X6_comes_j124 rec s7v p22
              else none
            else
              X6_comes_j124 rec s7v s7v.2
          else none
    else none
  else none
def fX6_comes : Nat → Nat → Int32 → Int32 → Int32 → Int32 → AH → Option (AH)
  | 0 => fun _ _ _ _ _ _ => none
  | n + 1 => fun a0 a1 a2 a3 a4 h0 =>
    if gS h0 a0 = 6 then
      bnd (gR h0 a0 0) fun x2 =>
      if gS h0 x2 = 101 then
        if inb a1 (gN h0 x2) then
          lt (uI h0 x2 (ix a1) a2) fun h5 =>
          if ¬ a2 = (gI h5 a0 3) then
            bnd (iter (X6_comes_L57 (fX6_comes n) a0 a1 a2 a3 a4) FU (0, h5)) fun r7v =>
            some r7v
          else
            if (gI h5 a0 4) < a4 then
              lt (uI h5 a0 4 a4) fun h24 =>
              lt (uI h24 a0 5 (a1 + 1)) fun h25 =>
              bnd (gR h25 a0 0) fun x26 =>
              bnd (gR h25 a0 1) fun x27 =>
              if gS h25 x26 = 101 then
                if gS h25 x27 = 101 then
                  if ix 0 + ix 6 ≤ gN h25 x26 then
                    if ix 0 + ix 6 ≤ gN h25 x27 then
                      lt (cI h25 x26 x27 (ix 0) (ix 0) (ix 6)) fun h31 =>
                      some h31
                    else none
                  else none
                else none
              else none
            else
              some h5
        else none
      else none
    else none
def fX6_seek (a0 : Nat) (a1 : Nat) (a2 : Int32) (a3 : Int32) (a4 : Int32) (h0 : AH) : Option (Int32 × AH) :=
  if gS h0 a0 = 6 then
    lt (uR h0 a0 2 (some a1)) fun h2 =>
    lt (uI h2 a0 3 a3) fun h3 =>
    lt (uI h3 a0 4 (-2)) fun h4 =>
    lt (uI h4 a0 5 0) fun h5 =>
    bnd (fX6_comes 8 a0 0 a2 (1 <<< (a2 &&& 31)) a4 h5) fun p6 =>
    if gS p6 a0 = 6 then
      some (gI p6 a0 4, p6)
    else none
  else none
def fX1_march (a0 : Nat) (a1 : Int32) (a2 : Int32) (a3 : Int32) (h0 : AH) : Option (Int32 × AH) :=
  if gS h0 a0 = 1 then
    bnd (fX1_anew a0 h0) fun p1 =>
    if gS p1 a0 = 1 then
      bnd (fX1_marchWhy a0 a1 a2 a3 p1) fun p3 =>
      if p3 = 0 then
        bnd (gR p1 a0 13) fun x6 =>
        bnd (gR p1 a0 3) fun x7 =>
        if gS p1 x6 = 6 then
          bnd (fX6_seek x6 x7 a1 a2 a3 p1) fun p8 =>
          some (p8.1, p8.2)
        else none
      else
        bnd (fX1_no a0 p3 p1) fun p10 =>
        some (p10.1, p10.2)
    else none
  else none
def fX6_at (a0 : Nat) (a1 : Int32) (h0 : AH) : Option (Int32) :=
  if gS h0 a0 = 6 then
    bnd (gR h0 a0 1) fun x2 =>
    if gS h0 x2 = 101 then
      if inb a1 (gN h0 x2) then
        some (gI h0 x2 (ix a1))
      else none
    else none
  else none
def fX6_size (a0 : Nat) (h0 : AH) : Option (Int32) :=
  if gS h0 a0 = 6 then
    some (gI h0 a0 5)
  else none
def fX1_marchAt (a0 : Nat) (a1 : Int32) (a2 : Int32) (a3 : Int32) (a4 : Int32) (h0 : AH) : Option (Int32 × AH) :=
  if gS h0 a0 = 1 then
    bnd (fX1_anew a0 h0) fun p1 =>
    if gS p1 a0 = 1 then
      bnd (fX1_marchWhy a0 a1 a2 a3 p1) fun p3 =>
      if p3 = 0 then
        bnd (gR p1 a0 13) fun x6 =>
        bnd (gR p1 a0 3) fun x7 =>
        if gS p1 x6 = 6 then
          bnd (fX6_seek x6 x7 a1 a2 a3 p1) fun p8 =>
          if gS p8.2 a0 = 1 then
            bnd (gR p8.2 a0 13) fun x11 =>
            if gS p8.2 x11 = 6 then
              bnd (fX6_size x11 p8.2) fun p12 =>
              bnd (fX1_in a4 0 (p12 - 1) p8.2) fun p14 =>
              if p14 = 0 then
                bnd (fX1_no a0 1 p8.2) fun p16 =>
                some (p16.1, p16.2)
              else
                bnd (gR p8.2 a0 13) fun x17 =>
                if gS p8.2 x17 = 6 then
                  bnd (fX6_at x17 a4 p8.2) fun p18 =>
                  some (p18, p8.2)
                else none
            else none
          else none
        else none
      else
        bnd (fX1_no a0 p3 p1) fun p20 =>
        some (p20.1, p20.2)
    else none
  else none
def fX1_mark (a0 : Nat) (h0 : AH) : Option (Int32 × AH) :=
  if gS h0 a0 = 1 then
    bnd (fX1_anew a0 h0) fun p1 =>
    if gS p1 a0 = 1 then
      ons (gR p1 a0 3) (
        bnd (fX1_no a0 1 p1) fun p16 =>
        some (p16.1, p16.2)
      ) fun x4 =>
      if ¬ (gI p1 a0 7) = 3 then
        bnd (gR p1 a0 15) fun x6 =>
        if gS p1 x6 = 105 then
          if inb (gI p1 a0 7) (gN p1 x6) then
            bnd (gR p1 x6 (ix (gI p1 a0 7))) fun x9 =>
            bnd (gR p1 a0 9) fun x10 =>
            if gS p1 x9 = 4 then
              bnd (fX4_become x9 x10 p1) fun p11 =>
              if gS p11 a0 = 1 then
                lt (uI p11 a0 7 ((gI p11 a0 7) + 1)) fun h14 =>
                some ((gI h14 a0 7) - 1, h14)
              else none
            else none
          else none
        else none
      else
        bnd (fX1_no a0 3 p1) fun p15 =>
        some (p15.1, p15.2)
    else none
  else none
def X1_mean_j20 (a0 : Nat) (p1 : AH) : Option (Int64 × AH) :=
  bnd (fX1_no a0 1 p1) fun p5 =>
  some (p5.1.toInt64, p5.2)
def X1_mean_j52 (a0 : Nat) (a4 : Int32) (p1 : AH) (j9 : Int64) : Option (Int64 × AH) :=
  bnd (gR p1 a0 9) fun x10 =>
  if gS p1 x10 = 4 then
    bnd (fX4_of x10 p1) fun p11 =>
    bnd (fX1_lowest j9 p11 a4 p1) fun p13 =>
    some (p13, p1)
  else none
def fX1_mean (a0 : Nat) (a1 : Int32) (a2 : Int32) (a3 : Int32) (a4 : Int32) (h0 : AH) : Option (Int64 × AH) :=
  if gS h0 a0 = 1 then
    bnd (fX1_anew a0 h0) fun p1 =>
    if gS p1 a0 = 1 then
      bnd (fX1_isBeast a0 a1 p1) fun p3 =>
      if p3 = 0 then
        X1_mean_j20 a0 p1 
      else
        bnd (fX1_isLane a0 a2 p1) fun p7 =>
        if ¬ p7 = 0 then
          if a3 = 0 then
            bnd (gR p1 a0 9) fun x15 =>
            if gS p1 x15 = 4 then
              bnd (fX4_meanFoes x15 a1 a2 p1) fun p16 =>
              X1_mean_j52 a0 a4 p1 p16
            else none
          else
            bnd (gR p1 a0 9) fun x18 =>
            if gS p1 x18 = 4 then
              bnd (fX4_meanOwn x18 a1 a2 p1) fun p19 =>
              X1_mean_j52 a0 a4 p1 p19
            else none
        else
          X1_mean_j20 a0 p1 
    else none
  else none
def X1_meets_j20 (a0 : Nat) (p1 : AH) : Option (Int32 × AH) :=
  bnd (fX1_no a0 1 p1) fun p5 =>
  some (p5.1, p5.2)
def fX1_meets (a0 : Nat) (a1 : Int32) (a2 : Int32) (a3 : Int32) (h0 : AH) : Option (Int32 × AH) :=
  if gS h0 a0 = 1 then
    bnd (fX1_anew a0 h0) fun p1 =>
    if gS p1 a0 = 1 then
      bnd (fX1_isBeast a0 a1 p1) fun p3 =>
      if p3 = 0 then
        X1_meets_j20 a0 p1 
      else
        bnd (fX1_isLane a0 a2 p1) fun p7 =>
        if ¬ p7 = 0 then
          if a3 = 0 then
            bnd (gR p1 a0 9) fun x10 =>
            if gS p1 x10 = 4 then
              bnd (fX4_foes x10 a1 a2 p1) fun p11 =>
              some (p11, p1)
            else none
          else
            bnd (gR p1 a0 9) fun x13 =>
            if gS p1 x13 = 4 then
              bnd (fX4_own x13 a1 a2 p1) fun p14 =>
              some (p14, p1)
            else none
        else
          X1_meets_j20 a0 p1 
    else none
  else none
def X1_moodFor_j20 (a0 : Nat) (p1 : AH) : Option (Int32 × AH) :=
  bnd (fX1_no a0 1 p1) fun p5 =>
  some (p5.1, p5.2)
def X1_moodFor_L51 (a0 : Nat) (a1 : Int32) (a2 : Int32) (x14 : Nat) (s17v : Int32 × AH) : Option ((Int32 × AH) ⊕ (Int32 × AH)) :=
  if 100 < s17v.1 then
    some (Sum.inr (s17v.1, s17v.2))
  else
    if gS s17v.2 a0 = 1 then
      bnd (gR s17v.2 a0 9) fun x20 =>
      if gS s17v.2 x20 = 4 then
        bnd (fX4_worth x20 a1 a2 s17v.2) fun p21 =>
        if 0 < p21 then
          some (Sum.inr (s17v.1, s17v.2))
        else
          if gS s17v.2 x14 = 14 ∨ gS s17v.2 x14 = 15 ∨ gS s17v.2 x14 = 16 ∨ gS s17v.2 x14 = 17 then
            lt (uI s17v.2 x14 1 (s17v.1 + 1)) fun h25 =>
            some (Sum.inl (s17v.1 + 1, h25))
          else none
      else none
    else none
def fX1_moodFor (a0 : Nat) (a1 : Int32) (a2 : Int32) (h0 : AH) : Option (Int32 × AH) :=
  if gS h0 a0 = 1 then
    bnd (fX1_anew a0 h0) fun p1 =>
    if gS p1 a0 = 1 then
      bnd (fX1_isBeast a0 a1 p1) fun p3 =>
      if p3 = 0 then
        X1_moodFor_j20 a0 p1 
      else
        bnd (fX1_isLane a0 a2 p1) fun p7 =>
        if ¬ p7 = 0 then
          bnd (gR p1 a0 3) fun x9 =>
          if gS p1 x9 = 8 then
            bnd (gR p1 x9 3) fun x11 =>
            if gS p1 x11 = 106 then
              if inb a1 (gN p1 x11) then
                bnd (gR p1 x11 (ix a1)) fun x14 =>
                if gS p1 x14 = 14 ∨ gS p1 x14 = 15 ∨ gS p1 x14 = 16 ∨ gS p1 x14 = 17 then
                  lt (uI p1 x14 1 0) fun h16 =>
                  bnd (iter (X1_moodFor_L51 a0 a1 a2 x14) FU (0, h16)) fun r17v =>
                  if gS r17v.2 x14 = 14 ∨ gS r17v.2 x14 = 15 ∨ gS r17v.2 x14 = 16 ∨ gS r17v.2 x14 = 17 then
                    lt (uI r17v.2 x14 1 (gI p1 x14 1)) fun h27 =>
                    if 100 < r17v.1 then
                      some ((-2), h27)
                    else
                      some (r17v.1, h27)
                  else none
                else none
              else none
            else none
          else none
        else
          X1_moodFor_j20 a0 p1 
    else none
  else none
def X1_move_j50 (a0 : Nat) (a1 : Int32) (a2 : Int32) (h0 : AH) (j3 : Int32) : Option (Int32 × AH) :=
  bnd (fX1_yes a0 j3 h0) fun p4 =>
  if ¬ p4.1 = 0 then
    if gS p4.2 a0 = 1 then
      bnd (fX1_note a0 p4.2) fun p6 =>
      if gS p6 a0 = 1 then
        bnd (gR p6 a0 9) fun x9 =>
        if gS p6 x9 = 4 then
          bnd (gR p6 x9 0) fun x11 =>
          if gS p6 x11 = 101 then
            if inb a1 (gN p6 x11) then
              lt (uI p6 x11 (ix a1) a2) fun h14 =>
              bnd (fX1_done a0 h14) fun p15 =>
              if p15.1 = 0 ∨ p15.1 = 1 then
                some (p15.1, p15.2)
              else none
            else none
          else none
        else none
      else none
    else none
  else
    some (0, p4.2)
def X1_move_j17 (a0 : Nat) (a1 : Int32) (a2 : Int32) (h0 : AH) : Option (Int32 × AH) :=
  X1_move_j50 a0 a1 a2 h0 1
def X1_move_j45 (a0 : Nat) (a1 : Int32) (a2 : Int32) (h0 : AH) : Option (Int32 × AH) :=
  X1_move_j50 a0 a1 a2 h0 5
def fX1_move (a0 : Nat) (a1 : Int32) (a2 : Int32) (h0 : AH) : Option (Int32 × AH) :=
  if gS h0 a0 = 1 then
    bnd (fX1_isBeast a0 a1 h0) fun p1 =>
    if p1 = 0 then
      X1_move_j17 a0 a1 a2 h0 
    else
      bnd (fX1_isLane a0 a2 h0) fun p18 =>
      if ¬ p18 = 0 then
        bnd (gR h0 a0 9) fun x20 =>
        if gS h0 x20 = 4 then
          bnd (fX4_isDead x20 a1 h0) fun p21 =>
          if ¬ p21 = 0 then
            X1_move_j45 a0 a1 a2 h0 
          else
            bnd (gR h0 a0 9) fun x24 =>
            if gS h0 x24 = 4 then
              bnd (gR h0 x24 0) fun x26 =>
              if gS h0 x26 = 101 then
                if inb a1 (gN h0 x26) then
                  if ¬ (gI h0 x26 (ix a1)) = a2 then
                    X1_move_j50 a0 a1 a2 h0 0
                  else
                    X1_move_j45 a0 a1 a2 h0 
                else none
              else none
            else none
        else none
      else
        X1_move_j17 a0 a1 a2 h0 
  else none
def fX1_none (a0 : Nat) (a1 : Int32) (h0 : AH) : Option (Int64 × AH) :=
  if gS h0 a0 = 1 then
    lt (uI h0 a0 4 a1) fun h2 =>
    some ((-9223372036854775808), h2)
  else none
def X1_ones_L4 (s1v : Int32 × Int32) : Option ((Int32 × Int32) ⊕ (Int32)) :=
  if s1v.2 = 0 then
    some (Sum.inr s1v.1)
  else
    some (Sum.inl (s1v.1 + 1, s1v.2 &&& (s1v.2 - 1)))
def fX1_ones (a0 : Int32) (h0 : AH) : Option (Int32) :=
  bnd (iter (X1_ones_L4) FU (0, a0)) fun r1v =>
  some r1v
def fX5_at (a0 : Nat) (a1 : Int32) (h0 : AH) : Option (Int32) :=
  if gS h0 a0 = 5 then
    bnd (gR h0 a0 1) fun x2 =>
    if gS h0 x2 = 101 then
      if inb a1 (gN h0 x2) then
        some (gI h0 x2 (ix a1))
      else none
    else none
  else none
def X5_tries_j124 (rec : Nat → Int32 → Int32 → Int64 → AH → Option (AH)) (s5v : Int32 × AH) (h15 : AH) : Option ((Int32 × AH) ⊕ (AH)) :=
  some (Sum.inl (s5v.1 + 1, h15))
def X5_tries_L56 (rec : Nat → Int32 → Int32 → Int64 → AH → Option (AH)) (a0 : Nat) (a1 : Int32) (a2 : Int32) (a3 : Int64) (s5v : Int32 × AH) : Option ((Int32 × AH) ⊕ (AH)) :=
  if gS s5v.2 a0 = 5 then
    bnd (gR s5v.2 a0 2) fun x7 =>
    if gS s5v.2 x7 = 8 then
      if (gI s5v.2 x7 5) ≤ s5v.1 then
        some (Sum.inr s5v.2)
      else
        bnd (gR s5v.2 a0 3) fun x10 =>
        if gS s5v.2 x10 = 4 then
          bnd (fX4_isDead x10 a1 s5v.2) fun p11 =>
          if ¬ p11 = 0 then
            some (Sum.inr s5v.2)
          else
            bnd (fX1_has a2 s5v.1 s5v.2) fun p14 =>
            if p14 = 0 then
              bnd (gR s5v.2 a0 0) fun x17 =>
              if gS s5v.2 x17 = 101 then
                if inb a1 (gN s5v.2 x17) then
                  lt (uI s5v.2 x17 (ix a1) s5v.1) fun h20 =>
                  bnd (gR h20 a0 3) fun x21 =>
                  if gS h20 x21 = 4 then
                    bnd (fX4_worth x21 a1 s5v.1 h20) fun p22 =>
                    bnd (rec a0 (a1 + 1) (a2 ||| (1 <<< (s5v.1 &&& 31))) (a3 + p22) h20) fun p24 =>
                    X5_tries_j124 rec s5v p24
                  else none
                else none
              else none
            else
              X5_tries_j124 rec s5v s5v.2
        else none
    else none
  else none
def X5_tries_j28 (rec : Nat → Int32 → Int32 → Int64 → AH → Option (AH)) (a0 : Nat) (a3 : Int64) (h0 : AH) : Option (AH) :=
  lt (uI h0 a0 4 1) fun h31 =>
  lt (uL h31 a0 5 a3) fun h32 =>
  bnd (gR h32 a0 0) fun x33 =>
  bnd (gR h32 a0 1) fun x34 =>
  if gS h32 x33 = 101 then
    if gS h32 x34 = 101 then
      if ix 0 + ix 5 ≤ gN h32 x33 then
        if ix 0 + ix 5 ≤ gN h32 x34 then
          lt (cI h32 x33 x34 (ix 0) (ix 0) (ix 5)) fun h38 =>
          some h38
        else none
      else none
    else none
  else none
def fX5_tries : Nat → Nat → Int32 → Int32 → Int64 → AH → Option (AH)
  | 0 => fun _ _ _ _ _ => none
  | n + 1 => fun a0 a1 a2 a3 h0 =>
    if gS h0 a0 = 5 then
      bnd (gR h0 a0 2) fun x2 =>
      if gS h0 x2 = 8 then
        if ¬ a1 = (gI h0 x2 8) then
          bnd (iter (X5_tries_L56 (fX5_tries n) a0 a1 a2 a3) FU (0, h0)) fun r5v =>
          if gS r5v a0 = 5 then
            bnd (gR r5v a0 0) fun x26 =>
            if gS r5v x26 = 101 then
              if inb a1 (gN r5v x26) then
                lt (uI r5v x26 (ix a1) (-2)) fun h29 =>
                bnd (fX5_tries n a0 (a1 + 1) a2 a3 h29) fun p30 =>
                some p30
              else none
            else none
          else none
        else
          if (gI h0 a0 4) = 0 then
            X5_tries_j28 (fX5_tries n) a0 a3 h0 
          else
            if (gL h0 a0 5) < a3 then
              X5_tries_j28 (fX5_tries n) a0 a3 h0 
            else
              some h0
      else none
    else none
def fX5_seek (a0 : Nat) (a1 : Nat) (a2 : Nat) (h0 : AH) : Option (AH) :=
  if gS h0 a0 = 5 then
    lt (uR h0 a0 2 (some a1)) fun h2 =>
    lt (uR h2 a0 3 (some a2)) fun h3 =>
    lt (uI h3 a0 4 0) fun h4 =>
    lt (uL h4 a0 5 0) fun h5 =>
    bnd (fX5_tries 8 a0 0 0 0 h5) fun p6 =>
    some p6
  else none
def X1_out_j77 (s10v : Int32 × Int32) (j18 : Int32) : Option ((Int32 × Int32) ⊕ (Int32)) :=
  some (Sum.inl (s10v.1 + j18, s10v.2 + 1))
def X1_out_j76 (s10v : Int32 × Int32) : Option ((Int32 × Int32) ⊕ (Int32)) :=
  X1_out_j77 s10v 0
def X1_out_L36 (a0 : Nat) (p8 : AH) (s10v : Int32 × Int32) : Option ((Int32 × Int32) ⊕ (Int32)) :=
  if gS p8 a0 = 1 then
    bnd (gR p8 a0 3) fun x12 =>
    if gS p8 x12 = 8 then
      if (gI p8 x12 8) ≤ s10v.2 then
        some (Sum.inr s10v.1)
      else
        bnd (gR p8 a0 9) fun x15 =>
        if gS p8 x15 = 4 then
          bnd (fX4_isDead x15 s10v.2 p8) fun p16 =>
          if ¬ p16 = 0 then
            X1_out_j76 s10v 
          else
            bnd (gR p8 a0 12) fun x20 =>
            if gS p8 x20 = 5 then
              bnd (fX5_at x20 s10v.2 p8) fun p21 =>
              if ¬ p21 = (-2) then
                X1_out_j76 s10v 
              else
                X1_out_j77 s10v 1
            else none
        else none
    else none
  else none
def fX1_out (a0 : Nat) (h0 : AH) : Option (Int32 × AH) :=
  if gS h0 a0 = 1 then
    bnd (fX1_anew a0 h0) fun p1 =>
    if gS p1 a0 = 1 then
      ons (gR p1 a0 3) (
        bnd (fX1_no a0 1 p1) fun p24 =>
        some (p24.1, p24.2)
      ) fun x4 =>
      bnd (gR p1 a0 12) fun x5 =>
      bnd (gR p1 a0 3) fun x6 =>
      bnd (gR p1 a0 9) fun x7 =>
      if gS p1 x5 = 5 then
        bnd (fX5_seek x5 x6 x7 p1) fun p8 =>
        bnd (iter (X1_out_L36 a0 p8) FU (0, 0)) fun r10v =>
        some (r10v, p8)
      else none
    else none
  else none
def fX1_place (a0 : Nat) (a1 : Int32) (h0 : AH) : Option (Int32 × AH) :=
  if gS h0 a0 = 1 then
    bnd (fX1_anew a0 h0) fun p1 =>
    if gS p1 a0 = 1 then
      bnd (fX1_isBeast a0 a1 p1) fun p3 =>
      if ¬ p3 = 0 then
        bnd (gR p1 a0 12) fun x6 =>
        bnd (gR p1 a0 3) fun x7 =>
        bnd (gR p1 a0 9) fun x8 =>
        if gS p1 x6 = 5 then
          bnd (fX5_seek x6 x7 x8 p1) fun p9 =>
          if gS p9 a0 = 1 then
            bnd (gR p9 a0 12) fun x12 =>
            if gS p9 x12 = 5 then
              bnd (fX5_at x12 a1 p9) fun p13 =>
              some (p13, p9)
            else none
          else none
        else none
      else
        bnd (fX1_no a0 1 p1) fun p15 =>
        some (p15.1, p15.2)
    else none
  else none
def fX1_placed (a0 : Nat) (a1 : Int32) (h0 : AH) : Option (Int64 × AH) :=
  if gS h0 a0 = 1 then
    bnd (fX1_anew a0 h0) fun p1 =>
    if gS p1 a0 = 1 then
      ons (gR p1 a0 3) (
        bnd (fX1_none a0 1 p1) fun p17 =>
        some (p17.1, p17.2)
      ) fun x4 =>
      bnd (gR p1 a0 12) fun x5 =>
      bnd (gR p1 a0 3) fun x6 =>
      bnd (gR p1 a0 9) fun x7 =>
      if gS p1 x5 = 5 then
        bnd (fX5_seek x5 x6 x7 p1) fun p8 =>
        if gS p8 a0 = 1 then
          bnd (gR p8 a0 12) fun x11 =>
          if gS p8 x11 = 5 then
            bnd (gR p8 a0 9) fun x13 =>
            if gS p8 x13 = 4 then
              bnd (fX4_of x13 p8) fun p14 =>
              bnd (fX1_lowest (gL p8 x11 5) p14 a1 p8) fun p16 =>
              some (p16, p8)
            else none
          else none
        else none
      else none
    else none
  else none
def X1_priceOf_j40 (s1v : Int32 × Int32) (j7 : Int32) : Option ((Int32 × Int32) ⊕ (Int32)) :=
  some (Sum.inl (s1v.1 + j7, s1v.2 + 1))
def X1_priceOf_L4 (a0 : Nat) (a1 : Int32) (h0 : AH) (s1v : Int32 × Int32) : Option ((Int32 × Int32) ⊕ (Int32)) :=
  if gS h0 a0 = 1 then
    bnd (gR h0 a0 3) fun x3 =>
    if gS h0 x3 = 8 then
      if (gI h0 x3 8) ≤ s1v.2 then
        some (Sum.inr s1v.1)
      else
        bnd (fX1_has a1 s1v.2 h0) fun p6 =>
        if p6 = 0 then
          X1_priceOf_j40 s1v 0
        else
          bnd (gR h0 a0 3) fun x9 =>
          if gS h0 x9 = 8 then
            bnd (gR h0 x9 3) fun x11 =>
            if gS h0 x11 = 106 then
              if inb s1v.2 (gN h0 x11) then
                bnd (gR h0 x11 (ix s1v.2)) fun x14 =>
                if gS h0 x14 = 14 ∨ gS h0 x14 = 15 ∨ gS h0 x14 = 16 ∨ gS h0 x14 = 17 then
                  X1_priceOf_j40 s1v (gI h0 x14 2)
                else none
              else none
            else none
          else none
    else none
  else none
def fX1_priceOf (a0 : Nat) (a1 : Int32) (h0 : AH) : Option (Int32) :=
  bnd (iter (X1_priceOf_L4 a0 a1 h0) FU (0, 0)) fun r1v =>
  some r1v
def fX1_rain (a0 : Nat) (a1 : Int32) (h0 : AH) : Option (Int32 × AH) :=
  if gS h0 a0 = 1 then
    ons (gR h0 a0 3) (
      bnd (fX1_yes a0 1 h0) fun p28 =>
      if ¬ p28.1 = 0 then
        if gS p28.2 a0 = 1 then
          bnd (fX1_note a0 p28.2) fun p30 =>
          if gS p30 a0 = 1 then
            bnd (gR p30 a0 9) fun x33 =>
            if a1 = 0 ∨ a1 = 1 then
              if gS p30 x33 = 4 then
                lt (uI p30 x33 6 a1) fun h36 =>
                bnd (fX1_done a0 h36) fun p37 =>
                if p37.1 = 0 ∨ p37.1 = 1 then
                  some (p37.1, p37.2)
                else none
              else none
            else none
          else none
        else none
      else
        some (0, p28.2)
    ) fun x2 =>
    bnd (gR h0 a0 9) fun x3 =>
    if gS h0 x3 = 4 then
      if ¬ (gI h0 x3 6) = a1 then
        bnd (fX1_yes a0 0 h0) fun p6 =>
        if ¬ p6.1 = 0 then
          if gS p6.2 a0 = 1 then
            bnd (fX1_note a0 p6.2) fun p8 =>
            if gS p8 a0 = 1 then
              bnd (gR p8 a0 9) fun x11 =>
              if a1 = 0 ∨ a1 = 1 then
                if gS p8 x11 = 4 then
                  lt (uI p8 x11 6 a1) fun h14 =>
                  bnd (fX1_done a0 h14) fun p15 =>
                  if p15.1 = 0 ∨ p15.1 = 1 then
                    some (p15.1, p15.2)
                  else none
                else none
              else none
            else none
          else none
        else
          some (0, p6.2)
      else
        bnd (fX1_yes a0 5 h0) fun p17 =>
        if ¬ p17.1 = 0 then
          if gS p17.2 a0 = 1 then
            bnd (fX1_note a0 p17.2) fun p19 =>
            if gS p19 a0 = 1 then
              bnd (gR p19 a0 9) fun x22 =>
              if a1 = 0 ∨ a1 = 1 then
                if gS p19 x22 = 4 then
                  lt (uI p19 x22 6 a1) fun h25 =>
                  bnd (fX1_done a0 h25) fun p26 =>
                  if p26.1 = 0 ∨ p26.1 = 1 then
                    some (p26.1, p26.2)
                  else none
                else none
              else none
            else none
          else none
        else
          some (0, p17.2)
    else none
  else none
def X1_reach_j60 (s6v : Int32 × Int32 × AH) (p13 : Int32 × AH) (j15 : Int32) : Option ((Int32 × Int32 × AH) ⊕ (Int32 × AH)) :=
  some (Sum.inl (s6v.1 ||| j15, s6v.2.1 + 1, p13.2))
def X1_reach_L22 (a0 : Nat) (a1 : Int32) (s6v : Int32 × Int32 × AH) : Option ((Int32 × Int32 × AH) ⊕ (Int32 × AH)) :=
  if gS s6v.2.2 a0 = 1 then
    bnd (gR s6v.2.2 a0 3) fun x8 =>
    if gS s6v.2.2 x8 = 8 then
      if (gI s6v.2.2 x8 9) ≤ s6v.2.1 then
        some (Sum.inr (s6v.1, s6v.2.2))
      else
        bnd (gR s6v.2.2 a0 13) fun x11 =>
        bnd (gR s6v.2.2 a0 3) fun x12 =>
        if gS s6v.2.2 x11 = 6 then
          bnd (fX6_seek x11 x12 a1 s6v.2.1 1 s6v.2.2) fun p13 =>
          if ¬ p13.1 = (-2) then
            X1_reach_j60 s6v p13 (1 <<< (s6v.2.1 &&& 31))
          else
            X1_reach_j60 s6v p13 0
        else none
    else none
  else none
def fX1_reach (a0 : Nat) (a1 : Int32) (h0 : AH) : Option (Int32 × AH) :=
  if gS h0 a0 = 1 then
    bnd (fX1_anew a0 h0) fun p1 =>
    if gS p1 a0 = 1 then
      bnd (fX1_isCity a0 a1 p1) fun p3 =>
      if ¬ p3 = 0 then
        bnd (iter (X1_reach_L22 a0 a1) FU (0, 0, p1)) fun r6v =>
        some (r6v.1, r6v.2)
      else
        bnd (fX1_no a0 1 p1) fun p17 =>
        some (p17.1, p17.2)
    else none
  else none
def X1_seekRests_j68 (s8v : Int32 × Int32 × AH) (j14 : Int32) (h15 : AH) : Option ((Int32 × Int32 × AH) ⊕ (Int32 × AH)) :=
  some (Sum.inl (j14, s8v.2.1 + 1, h15))
def X1_seekRests_j65 (s8v : Int32 × Int32 × AH) (h17 : AH) : Option ((Int32 × Int32 × AH) ⊕ (Int32 × AH)) :=
  X1_seekRests_j68 s8v (s8v.1 + 1) h17
def X1_seekRests_L24 (a0 : Nat) (a1 : Int32) (s3v : Int32 × Int32 × AH) (s8v : Int32 × Int32 × AH) : Option ((Int32 × Int32 × AH) ⊕ (Int32 × AH)) :=
  if gS s8v.2.2 a0 = 1 then
    bnd (gR s8v.2.2 a0 3) fun x10 =>
    if gS s8v.2.2 x10 = 8 then
      if (gI s8v.2.2 x10 5) ≤ s8v.2.1 then
        some (Sum.inr (s8v.1, s8v.2.2))
      else
        bnd (fX1_isRest a0 a1 s3v.2.1 s8v.2.1 s8v.2.2) fun p13 =>
        if ¬ p13 = 0 then
          if ¬ s8v.1 = 0 then
            X1_seekRests_j65 s8v s8v.2.2
          else
            lt (uI s8v.2.2 a0 16 ((10 * s3v.2.1) + s8v.2.1)) fun h19 =>
            X1_seekRests_j65 s8v h19
        else
          X1_seekRests_j68 s8v s8v.1 s8v.2.2
    else none
  else none
def X1_seekRests_L10 (a0 : Nat) (a1 : Int32) (s3v : Int32 × Int32 × AH) : Option ((Int32 × Int32 × AH) ⊕ (Int32 × AH)) :=
  if gS s3v.2.2 a0 = 1 then
    bnd (gR s3v.2.2 a0 3) fun x5 =>
    if gS s3v.2.2 x5 = 8 then
      if (gI s3v.2.2 x5 5) ≤ s3v.2.1 then
        some (Sum.inr (s3v.1, s3v.2.2))
      else
        bnd (iter (X1_seekRests_L24 a0 a1 s3v) FU (s3v.1, 0, s3v.2.2)) fun r8v =>
        some (Sum.inl (r8v.1, s3v.2.1 + 1, r8v.2))
    else none
  else none
def fX1_seekRests (a0 : Nat) (a1 : Int32) (h0 : AH) : Option (Int32 × AH) :=
  if gS h0 a0 = 1 then
    lt (uI h0 a0 16 (-2)) fun h2 =>
    bnd (iter (X1_seekRests_L10 a0 a1) FU (0, 0, h2)) fun r3v =>
    some (r3v.1, r3v.2)
  else none
def fX1_rest (a0 : Nat) (a1 : Int32) (h0 : AH) : Option (Int32 × AH) :=
  if gS h0 a0 = 1 then
    bnd (fX1_anew a0 h0) fun p1 =>
    if gS p1 a0 = 1 then
      bnd (fX1_isBeast a0 a1 p1) fun p3 =>
      if ¬ p3 = 0 then
        bnd (fX1_seekRests a0 a1 p1) fun p6 =>
        if gS p6.2 a0 = 1 then
          some (gI p6.2 a0 16, p6.2)
        else none
      else
        bnd (fX1_no a0 1 p1) fun p8 =>
        some (p8.1, p8.2)
    else none
  else none
def fX1_rests (a0 : Nat) (a1 : Int32) (h0 : AH) : Option (Int32 × AH) :=
  if gS h0 a0 = 1 then
    bnd (fX1_anew a0 h0) fun p1 =>
    if gS p1 a0 = 1 then
      bnd (fX1_isBeast a0 a1 p1) fun p3 =>
      if p3 = 0 then
        bnd (fX1_no a0 1 p1) fun p6 =>
        some (p6.1, p6.2)
      else
        bnd (fX1_seekRests a0 a1 p1) fun p7 =>
        some (p7.1, p7.2)
    else none
  else none
def X1_saleOf_j58 (s1v : Int32 × Int32) (j8 : Int32) : Option ((Int32 × Int32) ⊕ (Int32)) :=
  some (Sum.inl (j8, s1v.2 + 1))
def X1_saleOf_j56 (s1v : Int32 × Int32) : Option ((Int32 × Int32) ⊕ (Int32)) :=
  X1_saleOf_j58 s1v s1v.2
def X1_saleOf_L5 (a0 : Nat) (a1 : Int32) (h0 : AH) (s1v : Int32 × Int32) : Option ((Int32 × Int32) ⊕ (Int32)) :=
  if gS h0 a0 = 1 then
    bnd (gR h0 a0 3) fun x3 =>
    if gS h0 x3 = 8 then
      if (1 <<< ((gI h0 x3 8) &&& 31)) ≤ s1v.2 then
        some (Sum.inr s1v.1)
      else
        bnd (gR h0 a0 9) fun x6 =>
        if gS h0 x6 = 4 then
          if ¬ (s1v.2 &&& (gI h0 x6 4)) = 0 then
            X1_saleOf_j58 s1v s1v.1
          else
            bnd (fX1_priceOf a0 s1v.2 h0) fun p10 =>
            if p10 < a1 then
              X1_saleOf_j58 s1v s1v.1
            else
              if s1v.1 = (-2) then
                X1_saleOf_j56 s1v 
              else
                bnd (fX1_ones s1v.2 h0) fun p13 =>
                bnd (fX1_ones s1v.1 h0) fun p14 =>
                if p14 ≤ p13 then
                  X1_saleOf_j58 s1v s1v.1
                else
                  X1_saleOf_j56 s1v 
        else none
    else none
  else none
def fX1_saleOf (a0 : Nat) (a1 : Int32) (h0 : AH) : Option (Int32) :=
  bnd (iter (X1_saleOf_L5 a0 a1 h0) FU ((-2), 0)) fun r1v =>
  some r1v
def fX1_saleWhy (a0 : Nat) (a1 : Int32) (h0 : AH) : Option (Int32) :=
  if gS h0 a0 = 1 then
    ons (gR h0 a0 3) (
      some 1
    ) fun x2 =>
    bnd (fX1_in a1 0 500 h0) fun p3 =>
    if p3 = 0 then
      some 2
    else
      some 0
  else none
def fX1_sale (a0 : Nat) (a1 : Int32) (h0 : AH) : Option (Int32 × AH) :=
  if gS h0 a0 = 1 then
    bnd (fX1_anew a0 h0) fun p1 =>
    if gS p1 a0 = 1 then
      bnd (fX1_saleWhy a0 a1 p1) fun p3 =>
      if p3 = 0 then
        bnd (fX1_saleOf a0 a1 p1) fun p6 =>
        some (p6, p1)
      else
        bnd (fX1_no a0 p3 p1) fun p7 =>
        some (p7.1, p7.2)
    else none
  else none
def fX1_saleOver (a0 : Nat) (a1 : Int32) (h0 : AH) : Option (Int32 × AH) :=
  if gS h0 a0 = 1 then
    bnd (fX1_anew a0 h0) fun p1 =>
    if gS p1 a0 = 1 then
      bnd (fX1_saleWhy a0 a1 p1) fun p3 =>
      if p3 = 0 then
        bnd (fX1_saleOf a0 a1 p1) fun p6 =>
        if ¬ p6 = (-2) then
          bnd (fX1_priceOf a0 p6 p1) fun p8 =>
          some (p8 - a1, p1)
        else
          bnd (fX1_no a0 6 p1) fun p9 =>
          some (p9.1, p9.2)
      else
        bnd (fX1_no a0 p3 p1) fun p10 =>
        some (p10.1, p10.2)
    else none
  else none
def fX1_seed (a0 : Nat) (a1 : Int32) (h0 : AH) : Option (Int32 × AH) :=
  if gS h0 a0 = 1 then
    ons (gR h0 a0 3) (
      bnd (fX1_yes a0 1 h0) fun p17 =>
      if ¬ p17.1 = 0 then
        if gS p17.2 a0 = 1 then
          bnd (gR p17.2 a0 9) fun x20 =>
          if gS p17.2 x20 = 4 then
            lt (uI p17.2 x20 5 a1) fun h22 =>
            some (1, h22)
          else none
        else none
      else
        some (0, p17.2)
    ) fun x2 =>
    bnd (fX1_in a1 0 65536 h0) fun p3 =>
    if p3 = 0 then
      bnd (fX1_yes a0 2 h0) fun p5 =>
      if ¬ p5.1 = 0 then
        if gS p5.2 a0 = 1 then
          bnd (gR p5.2 a0 9) fun x8 =>
          if gS p5.2 x8 = 4 then
            lt (uI p5.2 x8 5 a1) fun h10 =>
            some (1, h10)
          else none
        else none
      else
        some (0, p5.2)
    else
      bnd (fX1_yes a0 0 h0) fun p11 =>
      if ¬ p11.1 = 0 then
        if gS p11.2 a0 = 1 then
          bnd (gR p11.2 a0 9) fun x14 =>
          if gS p11.2 x14 = 4 then
            lt (uI p11.2 x14 5 a1) fun h16 =>
            some (1, h16)
          else none
        else none
      else
        some (0, p11.2)
  else none
def X1_setOut_L28 (a0 : Nat) (a1 : Int32) (a2 : Int32) (a3 : Int32) (s6v : Int32 × AH) : Option ((Int32 × AH) ⊕ (Int32 × AH)) :=
  if 999 < s6v.1 then
    some (Sum.inr ((-2), s6v.2))
  else
    if gS s6v.2 a0 = 1 then
      bnd (gR s6v.2 a0 13) fun x9 =>
      bnd (gR s6v.2 a0 3) fun x10 =>
      if gS s6v.2 x9 = 6 then
        bnd (fX6_seek x9 x10 a1 a2 s6v.1 s6v.2) fun p11 =>
        if p11.1 < a3 then
          some (Sum.inl (s6v.1 + 1, p11.2))
        else
          some (Sum.inr (s6v.1, p11.2))
      else none
    else none
def fX1_setOut (a0 : Nat) (a1 : Int32) (a2 : Int32) (a3 : Int32) (h0 : AH) : Option (Int32 × AH) :=
  if gS h0 a0 = 1 then
    bnd (fX1_anew a0 h0) fun p1 =>
    if gS p1 a0 = 1 then
      bnd (fX1_marchWhy a0 a1 a2 a3 p1) fun p3 =>
      if p3 = 0 then
        iter (X1_setOut_L28 a0 a1 a2 a3) FU (a3, p1)
      else
        bnd (fX1_no a0 p3 p1) fun p14 =>
        some (p14.1, p14.2)
    else none
  else none
def fX1_size (a0 : Nat) (a1 : Int32) (h0 : AH) : Option (Int32) :=
  if ¬ a1 = 11 then
    if gS h0 a0 = 1 then
      ons (gR h0 a0 3) (
        bnd (fX1_in a1 0 10 h0) fun p35 =>
        if p35 = 0 then
          some (-1)
        else
          some 0
      ) fun x3 =>
      if a1 < 0 ∨ 10 < a1 then
        some (-1)
      else if a1 = 0 then
        bnd (gR h0 a0 3) fun x6 =>
        if gS h0 x6 = 8 then
          some (gI h0 x6 5)
        else none
      else if a1 = 1 then
        bnd (gR h0 a0 3) fun x9 =>
        if gS h0 x9 = 8 then
          some (gI h0 x9 6)
        else none
      else if a1 = 2 then
        bnd (gR h0 a0 3) fun x12 =>
        if gS h0 x12 = 8 then
          some (gI h0 x12 7)
        else none
      else if a1 = 3 then
        bnd (gR h0 a0 3) fun x15 =>
        if gS h0 x15 = 8 then
          some (gI h0 x15 8)
        else none
      else if a1 = 4 then
        bnd (gR h0 a0 3) fun x18 =>
        if gS h0 x18 = 8 then
          some (gI h0 x18 9)
        else none
      else if a1 = 5 then
        bnd (gR h0 a0 3) fun x21 =>
        if gS h0 x21 = 8 then
          some (gI h0 x21 10)
        else none
      else if a1 = 6 then
        bnd (gR h0 a0 3) fun x24 =>
        if gS h0 x24 = 8 then
          some (gI h0 x24 11)
        else none
      else if a1 = 7 then
        bnd (gR h0 a0 9) fun x27 =>
        if gS h0 x27 = 4 then
          if (gI h0 x27 6) = 0 then
            some 0
          else
            some 1
        else none
      else if a1 = 8 then
        bnd (gR h0 a0 9) fun x31 =>
        if gS h0 x31 = 4 then
          some (gI h0 x31 5)
        else none
      else if a1 = 9 then
        some (gI h0 a0 8)
      else if a1 = 10 then
        some (gI h0 a0 7)
      else none
    else none
  else
    if gS h0 a0 = 1 then
      some (gI h0 a0 1)
    else none
def X1_sumBy_L5 (a0 : Nat) (a1 : Int32) (h0 : AH) (s1v : Int64 × Int32) : Option ((Int64 × Int32) ⊕ (Int64)) :=
  if gS h0 a0 = 1 then
    bnd (gR h0 a0 3) fun x3 =>
    if gS h0 x3 = 8 then
      if (gI h0 x3 8) ≤ s1v.2 then
        some (Sum.inr s1v.1)
      else
        bnd (gR h0 a0 9) fun x6 =>
        bnd (gR h0 a0 9) fun x7 =>
        if gS h0 x7 = 4 then
          bnd (gR h0 x7 0) fun x9 =>
          if gS h0 x9 = 101 then
            if inb s1v.2 (gN h0 x9) then
              if gS h0 x6 = 4 then
                bnd (fX4_worthBy x6 s1v.2 (gI h0 x9 (ix s1v.2)) a1 h0) fun p12 =>
                some (Sum.inl (s1v.1 + p12, s1v.2 + 1))
              else none
            else none
          else none
        else none
    else none
  else none
def fX1_sumBy (a0 : Nat) (a1 : Int32) (h0 : AH) : Option (Int64) :=
  bnd (iter (X1_sumBy_L5 a0 a1 h0) FU (0, 0)) fun r1v =>
  some r1v
def fX1_sumWithout (a0 : Nat) (a1 : Int32) (h0 : AH) : Option (Int64) :=
  if gS h0 a0 = 1 then
    bnd (fX1_sumBy a0 (-2) h0) fun p1 =>
    bnd (gR h0 a0 9) fun x3 =>
    bnd (gR h0 a0 9) fun x4 =>
    if gS h0 x4 = 4 then
      bnd (gR h0 x4 0) fun x6 =>
      if gS h0 x6 = 101 then
        if inb a1 (gN h0 x6) then
          if gS h0 x3 = 4 then
            bnd (fX4_worth x3 a1 (gI h0 x6 (ix a1)) h0) fun p9 =>
            some (p1 - p9)
          else none
        else none
      else none
    else none
  else none
def fX1_surely (a0 : Nat) (h0 : AH) : Option (Int32 × AH) :=
  if gS h0 a0 = 1 then
    bnd (fX1_anew a0 h0) fun p1 =>
    if gS p1 a0 = 1 then
      ons (gR p1 a0 3) (
        bnd (fX1_no a0 1 p1) fun p7 =>
        some (p7.1, p7.2)
      ) fun x4 =>
      bnd (fX1_seekFits a0 (-1) 0 p1) fun p5 =>
      if gS p5 a0 = 1 then
        some (gI p5 a0 19, p5)
      else none
    else none
  else none
def fX1_teach (a0 : Nat) (a1 : Int32) (a2 : Int32) (h0 : AH) : Option (Int32 × AH) :=
  if gS h0 a0 = 1 then
    bnd (fX1_anew a0 h0) fun p1 =>
    if gS p1 a0 = 1 then
      bnd (fX1_isLane a0 a1 p1) fun p3 =>
      if ¬ p3 = 0 then
        bnd (fX1_in a2 1 30 p1) fun p6 =>
        if ¬ p6 = 0 then
          bnd (fX1_isHorse a0 a1 p1) fun p8 =>
          if ¬ p8 = 0 then
            bnd (fX1_note a0 p1) fun p10 =>
            if gS p10 a0 = 1 then
              bnd (gR p10 a0 9) fun x12 =>
              if gS p10 x12 = 4 then
                bnd (gR p10 x12 2) fun x14 =>
                bnd (gR p10 a0 9) fun x15 =>
                if gS p10 x15 = 4 then
                  bnd (gR p10 x15 2) fun x17 =>
                  if gS p10 x17 = 101 then
                    if inb a1 (gN p10 x17) then
                      if gS p10 x14 = 101 then
                        if inb a1 (gN p10 x14) then
                          lt (uI p10 x14 (ix a1) (imin 30 ((gI p10 x17 (ix a1)) + a2))) fun h22 =>
                          bnd (fX1_done a0 h22) fun p23 =>
                          if gS p23.2 a0 = 1 then
                            bnd (gR p23.2 a0 9) fun x25 =>
                            if gS p23.2 x25 = 4 then
                              bnd (gR p23.2 x25 2) fun x27 =>
                              if gS p23.2 x27 = 101 then
                                if inb a1 (gN p23.2 x27) then
                                  some (gI p23.2 x27 (ix a1), p23.2)
                                else none
                              else none
                            else none
                          else none
                        else none
                      else none
                    else none
                  else none
                else none
              else none
            else none
          else
            bnd (fX1_no a0 5 p1) fun p30 =>
            some (p30.1, p30.2)
        else
          bnd (fX1_no a0 2 p1) fun p31 =>
          some (p31.1, p31.2)
      else
        bnd (fX1_no a0 1 p1) fun p32 =>
        some (p32.1, p32.2)
    else none
  else none
def X1_toHammer_j66 (s6v : Int32 × Int64 × Int32) (j11 : Int32) (j12 : Int64) : Option ((Int32 × Int64 × Int32) ⊕ (Int32)) :=
  some (Sum.inl (j11, j12, s6v.2.2 + 1))
def X1_toHammer_L30 (a0 : Nat) (p1 : AH) (s6v : Int32 × Int64 × Int32) : Option ((Int32 × Int64 × Int32) ⊕ (Int32)) :=
  bnd (gR p1 a0 3) fun x7 =>
  if gS p1 x7 = 8 then
    if (gI p1 x7 8) ≤ s6v.2.2 then
      some (Sum.inr s6v.1)
    else
      bnd (fX1_sumWithout a0 s6v.2.2 p1) fun p10 =>
      if s6v.2.1 < p10 then
        bnd (fX1_sumWithout a0 s6v.2.2 p1) fun p14 =>
        X1_toHammer_j66 s6v s6v.2.2 p14
      else
        X1_toHammer_j66 s6v s6v.1 s6v.2.1
  else none
def fX1_toHammer (a0 : Nat) (h0 : AH) : Option (Int32 × AH) :=
  if gS h0 a0 = 1 then
    bnd (fX1_anew a0 h0) fun p1 =>
    if gS p1 a0 = 1 then
      ons (gR p1 a0 3) (
        bnd (fX1_no a0 1 p1) fun p15 =>
        some (p15.1, p15.2)
      ) fun x4 =>
      bnd (fX1_sumBy a0 (-2) p1) fun p5 =>
      bnd (iter (X1_toHammer_L30 a0 p1) FU ((-2), p5, 0)) fun r6v =>
      some (r6v, p1)
    else none
  else none
def X1_toOpen_j66 (s6v : Int32 × Int64 × Int32) (j11 : Int32) (j12 : Int64) : Option ((Int32 × Int64 × Int32) ⊕ (Int32)) :=
  some (Sum.inl (j11, j12, s6v.2.2 + 1))
def X1_toOpen_L30 (a0 : Nat) (p1 : AH) (s6v : Int32 × Int64 × Int32) : Option ((Int32 × Int64 × Int32) ⊕ (Int32)) :=
  bnd (gR p1 a0 3) fun x7 =>
  if gS p1 x7 = 8 then
    if (gI p1 x7 5) ≤ s6v.2.2 then
      some (Sum.inr s6v.1)
    else
      bnd (fX1_sumBy a0 s6v.2.2 p1) fun p10 =>
      if p10 < s6v.2.1 then
        bnd (fX1_sumBy a0 s6v.2.2 p1) fun p14 =>
        X1_toOpen_j66 s6v s6v.2.2 p14
      else
        X1_toOpen_j66 s6v s6v.1 s6v.2.1
  else none
def fX1_toOpen (a0 : Nat) (h0 : AH) : Option (Int32 × AH) :=
  if gS h0 a0 = 1 then
    bnd (fX1_anew a0 h0) fun p1 =>
    if gS p1 a0 = 1 then
      ons (gR p1 a0 3) (
        bnd (fX1_no a0 1 p1) fun p15 =>
        some (p15.1, p15.2)
      ) fun x4 =>
      bnd (fX1_sumBy a0 (-2) p1) fun p5 =>
      bnd (iter (X1_toOpen_L30 a0 p1) FU ((-2), p5, 0)) fun r6v =>
      some (r6v, p1)
    else none
  else none
def fX1_trouble (a0 : Nat) (h0 : AH) : Option (Int32) :=
  if gS h0 a0 = 1 then
    some (gI h0 a0 4)
  else none
def fX1_turnedBy (a0 : Nat) (a1 : Int32) (h0 : AH) : Option (Int32 × AH) :=
  if gS h0 a0 = 1 then
    bnd (fX1_anew a0 h0) fun p1 =>
    if gS p1 a0 = 1 then
      bnd (fX1_isBeast a0 a1 p1) fun p3 =>
      if p3 = 0 then
        bnd (fX1_no a0 1 p1) fun p6 =>
        some (p6.1, p6.2)
      else
        bnd (gR p1 a0 9) fun x7 =>
        if gS p1 x7 = 4 then
          bnd (fX4_turnedBy x7 (1 <<< (a1 &&& 31)) p1) fun p8 =>
          some (p8, p1)
        else none
    else none
  else none
def X1_undo_j14 (a0 : Nat) (h0 : AH) (j2 : Int32) : Option (Int32 × AH) :=
  bnd (fX1_yes a0 j2 h0) fun p3 =>
  if ¬ p3.1 = 0 then
    if gS p3.2 a0 = 1 then
      lt (uI p3.2 a0 8 ((gI p3.2 a0 8) - 1)) fun h6 =>
      bnd (gR h6 a0 9) fun x7 =>
      bnd (gR h6 a0 14) fun x8 =>
      if gS h6 x8 = 105 then
        if inb (gI h6 a0 8) (gN h6 x8) then
          bnd (gR h6 x8 (ix (gI h6 a0 8))) fun x11 =>
          if gS h6 x7 = 4 then
            bnd (fX4_become x7 x11 h6) fun p12 =>
            some (1, p12)
          else none
        else none
      else none
    else none
  else
    some (0, p3.2)
def fX1_undo (a0 : Nat) (h0 : AH) : Option (Int32 × AH) :=
  if gS h0 a0 = 1 then
    if ¬ (gI h0 a0 8) = 0 then
      X1_undo_j14 a0 h0 0
    else
      X1_undo_j14 a0 h0 6
  else none
def X4_begin_L37 (a0 : Nat) (a1 : Nat) (s13v : Int32 × AH) : Option ((Int32 × AH) ⊕ (AH)) :=
  if gS s13v.2 a1 = 8 then
    if (gI s13v.2 a1 8) ≤ s13v.1 then
      some (Sum.inr s13v.2)
    else
      if gS s13v.2 a0 = 4 then
        bnd (gR s13v.2 a0 0) fun x17 =>
        bnd (gR s13v.2 a1 3) fun x18 =>
        if gS s13v.2 x18 = 106 then
          if inb s13v.1 (gN s13v.2 x18) then
            bnd (gR s13v.2 x18 (ix s13v.1)) fun x21 =>
            if gS s13v.2 x21 = 14 ∨ gS s13v.2 x21 = 15 ∨ gS s13v.2 x21 = 16 ∨ gS s13v.2 x21 = 17 then
              if gS s13v.2 x17 = 101 then
                if inb s13v.1 (gN s13v.2 x17) then
                  lt (uI s13v.2 x17 (ix s13v.1) (gI s13v.2 x21 0)) fun h25 =>
                  bnd (gR h25 a0 1) fun x26 =>
                  if gS h25 x26 = 101 then
                    if inb s13v.1 (gN h25 x26) then
                      lt (uI h25 x26 (ix s13v.1) 0) fun h29 =>
                      some (Sum.inl (s13v.1 + 1, h29))
                    else none
                  else none
                else none
              else none
            else none
          else none
        else none
      else none
  else none
def fX4_begin (a0 : Nat) (a1 : Nat) (h0 : AH) : Option (AH) :=
  if gS h0 a0 = 4 then
    lt (uR h0 a0 3 (some a1)) fun h2 =>
    lt (uI h2 a0 4 0) fun h3 =>
    lt (uI h3 a0 5 0) fun h4 =>
    lt (uI h4 a0 6 0) fun h5 =>
    if gS h5 a1 = 8 then
      bnd (gR h5 a1 1) fun x7 =>
      bnd (gR h5 a0 2) fun x8 =>
      if gS h5 x7 = 101 then
        if gS h5 x8 = 101 then
          if ix 0 + ix 6 ≤ gN h5 x7 then
            if ix 0 + ix 6 ≤ gN h5 x8 then
              lt (cI h5 x7 x8 (ix 0) (ix 0) (ix 6)) fun h12 =>
              bnd (iter (X4_begin_L37 a0 a1) FU (0, h12)) fun r13v =>
              some r13v
            else none
          else none
        else none
      else none
    else none
  else none
def fX3_at (a0 : Nat) (a1 : Int32) (a2 : Int32) (h0 : AH) : Option (Option Nat × AH) :=
  if gS h0 a0 = 3 then
    lt (uI h0 a0 6 a1) fun h2 =>
    lt (uI h2 a0 7 a2) fun h3 =>
    some ((some a0), h3)
  else none
def fX2_fail (a0 : Nat) (a1 : Int32) (h0 : AH) : Option (Option Nat × AH) :=
  if gS h0 a0 = 2 then
    bnd (gR h0 a0 0) fun x2 =>
    if gS h0 x2 = 3 then
      bnd (fX3_at x2 a1 (gI h0 a0 6) h0) fun p3 =>
      bnd p3.1 fun x5 =>
      some ((some x5), p3.2)
    else none
  else none
def fX2_isDigit (a0 : Int32) (h0 : AH) : Option (Int32) :=
  bnd (fX1_in a0 48 57 h0) fun p1 =>
  if p1 = 0 ∨ p1 = 1 then
    some p1
  else none
def fX2_isSmall (a0 : Int32) (h0 : AH) : Option (Int32) :=
  bnd (fX1_in a0 97 122 h0) fun p1 =>
  if p1 = 0 ∨ p1 = 1 then
    some p1
  else none
def fX2_see (a0 : Nat) (a1 : Int32) (h0 : AH) : Option (Int32) :=
  if gS h0 a0 = 2 then
    if (gI h0 a0 3) ≤ a1 then
      some (-1)
    else
      bnd (gR h0 a0 1) fun x3 =>
      if gS h0 x3 = 102 then
        if inb a1 (gN h0 x3) then
          some ((gI h0 x3 (ix a1)) &&& 255)
        else none
      else none
  else none
def fJ5_coderFromArrayLen (a0 : Nat) (a1 : Int32) (h0 : AH) : Option (Int32) :=
  if gS h0 a0 = 102 ∨ gS h0 a0 = 201 then
    some ((((a1 - (Int32.ofNat (gN h0 a0))).toUInt32 >>> ((31 : Int32).toUInt32 &&& Int32.toUInt32 31)).toInt32).toInt8.toInt32)
  else none
def J5_compress_2_L3 (a0 : Nat) (a2 : Nat) (a4 : Int32) (s1v : Int32 × Int32 × Int32 × AH) : Option ((Int32 × Int32 × Int32 × AH) ⊕ (Int32 × AH)) :=
  if a4 ≤ s1v.2.2.1 then
    some (Sum.inr (a4, s1v.2.2.2))
  else
    if gS s1v.2.2.2 a0 = 103 then
      if inb s1v.1 (gN s1v.2.2.2 a0) then
        if (gI s1v.2.2.2 a0 (ix s1v.1)) ≤ 255 then
          if gS s1v.2.2.2 a2 = 102 then
            if inb s1v.2.1 (gN s1v.2.2.2 a2) then
              lt (uI s1v.2.2.2 a2 (ix s1v.2.1) (((gI s1v.2.2.2 a0 (ix s1v.1)).toInt8.toInt32).toInt8.toInt32)) fun h8 =>
              some (Sum.inl (s1v.1 + 1, s1v.2.1 + 1, s1v.2.2.1 + 1, h8))
            else none
          else none
        else
          some (Sum.inr (s1v.2.2.1, s1v.2.2.2))
      else none
    else none
def fJ5_compress_2 (a0 : Nat) (a1 : Int32) (a2 : Nat) (a3 : Int32) (a4 : Int32) (h0 : AH) : Option (Int32 × AH) :=
  iter (J5_compress_2_L3 a0 a2 a4) FU (a1, a3, 0, h0)
def fJ5_compress (a0 : Nat) (a1 : Int32) (a2 : Int32) (h0 : AH) : Option (Option Nat × AH) :=
  if ¬ a2 < 0 then
    if ix a2 ≤ 1000000 then
      lt (nC h0 102 (ix a2)) fun h2 =>
      bnd (fJ5_compress_2 a0 a1 (gZ h0) 0 a2 h2) fun p3 =>
      if p3.1 = a2 then
        some ((some (gZ h0)), p3.2)
      else
        none
    else none
  else none
def fJ3_init_2 (a0 : Nat) (a1 : Nat) (a2 : Int32) (a3 : Int32) (h0 : AH) : Option (AH) :=
  if ¬ a3 = 0 then
    bnd (fJ5_compress a1 a2 a3 h0) fun p2 =>
    bnd p2.1 fun x3 =>
    bnd (fJ5_coderFromArrayLen x3 a3 p2.2) fun p4 =>
    if p4.toInt8.toInt32 = p4 then
      if gS p2.2 a0 = 9 then
        lt (uI p2.2 a0 1 p4) fun h7 =>
        lt (uR h7 a0 0 (some x3)) fun h8 =>
        some h8
      else none
    else none
  else
    none
def fJ4_checkFromIndexSize (a0 : Int32) (a1 : Int32) (a2 : Int32) (h0 : AH) : Option (Int32) :=
  if ((a2 ||| a0) ||| a1) < 0 then
    none
  else
    if a1 ≤ (a2 - a0) then
      some a0
    else
      none
def fJ3_checkBoundsOffCount (a0 : Int32) (a1 : Int32) (a2 : Int32) (h0 : AH) : Option (Int32) :=
  ons (gK h0 102) (
    bnd (fJ4_checkFromIndexSize a0 a1 a2 h0) fun p2 =>
    some p2
  ) fun x1 =>
  bnd (fJ4_checkFromIndexSize a0 a1 a2 h0) fun p3 =>
  some p3
def fJ3_rangeCheck (a0 : Nat) (a1 : Int32) (a2 : Int32) (h0 : AH) : Option (Option Nat) :=
  if gS h0 a0 = 103 then
    bnd (fJ3_checkBoundsOffCount a1 a2 (Int32.ofNat (gN h0 a0)) h0) fun p2 =>
    some none
  else none
def fJ3_init (a0 : Nat) (a1 : Nat) (a2 : Int32) (a3 : Int32) (h0 : AH) : Option (AH) :=
  bnd (fJ3_rangeCheck a1 a2 a3 h0) fun p1 =>
  ons p1 (
    bnd (fJ3_init_2 a0 a1 a2 a3 h0) fun p3 =>
    some p3
  ) fun x2 =>
  none
def X2_next_L5 (a0 : Nat) (h0 : AH) (s2v : Int32) : Option ((Int32) ⊕ (Int32)) :=
  bnd (fX2_see a0 s2v h0) fun p3 =>
  if ¬ p3 = 32 then
    some (Sum.inr s2v)
  else
    some (Sum.inl (s2v + 1))
def X2_next_j296 (a0 : Nat) (h6 : AH) (j13 : Int32) : Option (AH) :=
  lt (uI h6 a0 5 j13) fun h14 =>
  some h14
def X2_next_j249 (a0 : Nat) (h23 : AH) : Option ((AH) ⊕ (AH)) :=
  if gS h23 a0 = 2 then
    lt (uI h23 a0 4 ((gI h23 a0 4) + 1)) fun h25 =>
    some (Sum.inl h25)
  else none
def X2_next_L202 (a0 : Nat) (r2v : Int32) (s18v : AH) : Option ((AH) ⊕ (AH)) :=
  if gS s18v a0 = 2 then
    bnd (fX2_see a0 (gI s18v a0 4) s18v) fun p20 =>
    bnd (fX2_isDigit p20 s18v) fun p21 =>
    if p21 = 0 then
      some (Sum.inr s18v)
    else
      if 3 ≤ ((gI s18v a0 4) - r2v) then
        X2_next_j249 a0 s18v
      else
        bnd (fX2_see a0 (gI s18v a0 4) s18v) fun p27 =>
        lt (uI s18v a0 7 (((10 * (gI s18v a0 7)) + p27) - 48)) fun h28 =>
        X2_next_j249 a0 h28
  else none
def X2_next_j278 (a0 : Nat) (r18v : AH) (j30 : Int32) : Option (AH) :=
  lt (uI r18v a0 5 j30) fun h31 =>
  some h31
def X2_next_j114 (a0 : Nat) (h39 : AH) : Option ((AH) ⊕ (AH)) :=
  if gS h39 a0 = 2 then
    lt (uI h39 a0 4 ((gI h39 a0 4) + 1)) fun h41 =>
    some (Sum.inl h41)
  else none
def X2_next_L69 (a0 : Nat) (r2v : Int32) (s34v : AH) : Option ((AH) ⊕ (AH)) :=
  if gS s34v a0 = 2 then
    bnd (fX2_see a0 (gI s34v a0 4) s34v) fun p36 =>
    bnd (fX2_isSmall p36 s34v) fun p37 =>
    if p37 = 0 then
      some (Sum.inr s34v)
    else
      if 8 ≤ ((gI s34v a0 4) - r2v) then
        X2_next_j114 a0 s34v
      else
        bnd (gR s34v a0 2) fun x43 =>
        bnd (fX2_see a0 (gI s34v a0 4) s34v) fun p44 =>
        if gS s34v x43 = 103 then
          if inb ((gI s34v a0 4) - r2v) (gN s34v x43) then
            lt (uI s34v x43 (ix ((gI s34v a0 4) - r2v)) (((p44.toUInt32 % 65536).toInt32).toUInt32.toUInt16.toUInt32.toInt32)) fun h47 =>
            X2_next_j114 a0 h47
          else none
        else none
  else none
def X2_next_j179 (a0 : Nat) (j51 : Nat) (h52 : AH) : Option (AH) :=
  if gS h52 a0 = 2 then
    lt (uR h52 a0 8 (some j51)) fun h54 =>
    some h54
  else none
def X2_next_j144 (a0 : Nat) (r2v : Int32) (r34v : AH) (j49 : Int32) : Option (AH) :=
  lt (uI r34v a0 5 j49) fun h50 =>
  if ¬ (gI h50 a0 5) = 2 then
    bnd (gK h50 0) fun x56 =>
    X2_next_j179 a0 x56 h50
  else
    lt (nC h50 9 4) fun h57 =>
    if gS h57 a0 = 2 then
      bnd (gR h57 a0 2) fun x59 =>
      bnd (fJ3_init (gZ h50) x59 0 ((gI h57 a0 4) - r2v) h57) fun p60 =>
      X2_next_j179 a0 (gZ h50) p60
    else none
def fX2_next (a0 : Nat) (h0 : AH) : Option (AH) :=
  if gS h0 a0 = 2 then
    bnd (iter (X2_next_L5 a0 h0) FU (gI h0 a0 4)) fun r2v =>
    lt (uI h0 a0 6 r2v) fun h5 =>
    lt (uI h5 a0 4 (r2v + 1)) fun h6 =>
    bnd (fX2_see a0 r2v h6) fun p7 =>
    if ¬ p7 = (-1) then
      bnd (fX2_isSmall p7 h6) fun p9 =>
      if p9 = 0 then
        bnd (fX2_isDigit p7 h6) fun p11 =>
        if p11 = 0 then
          if ¬ p7 = 59 then
            X2_next_j296 a0 h6 1
          else
            X2_next_j296 a0 h6 p7
        else
          lt (uI h6 a0 7 0) fun h16 =>
          lt (uI h16 a0 4 r2v) fun h17 =>
          bnd (iter (X2_next_L202 a0 r2v) FU h17) fun r18v =>
          if gS r18v a0 = 2 then
            if ((gI r18v a0 4) - r2v) ≤ 3 then
              X2_next_j278 a0 r18v 3
            else
              X2_next_j278 a0 r18v 1
          else none
      else
        lt (uI h6 a0 4 r2v) fun h33 =>
        bnd (iter (X2_next_L69 a0 r2v) FU h33) fun r34v =>
        if gS r34v a0 = 2 then
          if ((gI r34v a0 4) - r2v) ≤ 8 then
            X2_next_j144 a0 r2v r34v 2
          else
            X2_next_j144 a0 r2v r34v 1
        else none
    else
      lt (uI h6 a0 5 0) fun h62 =>
      lt (uI h62 a0 4 r2v) fun h63 =>
      some h63
  else none
def J6_equals_L9 (a0 : Nat) (a1 : Nat) (h0 : AH) (s4v : Int32) : Option ((Int32) ⊕ (Int32)) :=
  if (Int32.ofNat (gN h0 a0)) ≤ s4v then
    some (Sum.inr 1)
  else
    if inb s4v (gN h0 a0) then
      if inb s4v (gN h0 a1) then
        if (gI h0 a0 (ix s4v)) = (gI h0 a1 (ix s4v)) then
          some (Sum.inl (s4v + 1))
        else
          some (Sum.inr 0)
      else none
    else none
def fJ6_equals (a0 : Nat) (a1 : Nat) (h0 : AH) : Option (Int32) :=
  if gS h0 a0 = 102 ∨ gS h0 a0 = 201 then
    if gS h0 a1 = 102 ∨ gS h0 a1 = 201 then
      if ¬ (Int32.ofNat (gN h0 a0)) = (Int32.ofNat (gN h0 a1)) then
        some 0
      else
        iter (J6_equals_L9 a0 a1 h0) FU 0
    else none
  else none
def fJ3_equals (a0 : Nat) (a1 : Nat) (h0 : AH) : Option (Int32) :=
  if ¬ a0 = a1 then
    if gS h0 a1 = 9 ∨ gS h0 a1 = 200 then
      if gS h0 a0 = 9 ∨ gS h0 a0 = 200 then
        if ¬ (gI h0 a0 1) = (gI h0 a1 1) then
          some 0
        else
          bnd (gR h0 a0 0) fun x5 =>
          bnd (gR h0 a1 0) fun x6 =>
          bnd (fJ6_equals x5 x6 h0) fun p7 =>
          if p7 = 0 then
            some 0
          else
            some 1
      else none
    else none
  else
    some 1
def fX2_takes (a0 : Nat) (a1 : Nat) (h0 : AH) : Option (Int32 × AH) :=
  if gS h0 a0 = 2 then
    if ¬ (gI h0 a0 5) = 2 then
      some (0, h0)
    else
      bnd (gR h0 a0 8) fun x3 =>
      if gS h0 x3 = 9 ∨ gS h0 x3 = 200 then
        bnd (fJ3_equals x3 a1 h0) fun p4 =>
        if ¬ p4 = 0 then
          bnd (fX2_next a0 h0) fun p7 =>
          some (1, p7)
        else
          some (0, h0)
      else none
  else none
def fX2_must (a0 : Nat) (a1 : Nat) (h0 : AH) : Option ((AH) ⊕ (Nat × AH)) :=
  if gS h0 a0 = 2 then
    bnd (fX2_takes a0 a1 h0) fun p1 =>
    if ¬ p1.1 = 0 then
      some (Sum.inl p1.2)
    else
      if gS p1.2 a0 = 2 then
        bnd (fX2_fail a0 1 p1.2) fun p4 =>
        bnd p4.1 fun x6 =>
        if gS p4.2 x6 = 3 then
          some (Sum.inr (x6, p4.2))
        else none
      else none
  else none
def fX2_numberHere (a0 : Nat) (a1 : Int32) (a2 : Int32) (h0 : AH) : Option ((Int32 × AH) ⊕ (Nat × AH)) :=
  if gS h0 a0 = 2 then
    if (gI h0 a0 5) = 3 then
      bnd (fX1_in (gI h0 a0 7) a1 a2 h0) fun p3 =>
      if ¬ p3 = 0 then
        some (Sum.inl (gI h0 a0 7, h0))
      else
        bnd (fX2_fail a0 4 h0) fun p5 =>
        bnd p5.1 fun x6 =>
        if gS p5.2 x6 = 3 then
          some (Sum.inr (x6, p5.2))
        else none
    else
      bnd (fX2_fail a0 1 h0) fun p8 =>
      bnd p8.1 fun x9 =>
      if gS p8.2 x9 = 3 then
        some (Sum.inr (x9, p8.2))
      else none
  else none
def fX2_number (a0 : Nat) (a1 : Int32) (a2 : Int32) (h0 : AH) : Option ((Int32 × AH) ⊕ (Nat × AH)) :=
  if gS h0 a0 = 2 then
    bnx (fX2_numberHere a0 a1 a2 h0) (fun q5t => 
      some (Sum.inr q5t)
    ) fun p1 =>
    if gS p1.2 a0 = 2 then
      bnd (fX2_next a0 p1.2) fun p3 =>
      some (Sum.inl (p1.1, p3))
    else none
  else none
def fX2_after (a0 : Nat) (a1 : Nat) (a2 : Int32) (a3 : Int32) (h0 : AH) : Option ((Int32 × AH) ⊕ (Nat × AH)) :=
  if gS h0 a0 = 2 then
    bnx (fX2_must a0 a1 h0) (fun q6t => 
      some (Sum.inr q6t)
    ) fun p1 =>
    if gS p1 a0 = 2 then
      bnx (fX2_number a0 a2 a3 p1) (fun q5t => 
        some (Sum.inr q5t)
      ) fun p3 =>
      some (Sum.inl (p3.1, p3.2))
    else none
  else none
def fX13_init (a0 : Nat) (a1 : Nat) (a2 : Int32) (h0 : AH) : Option (AH) :=
  if gS h0 a0 = 14 ∨ gS h0 a0 = 15 ∨ gS h0 a0 = 16 ∨ gS h0 a0 = 17 then
    lt (uR h0 a0 4 (some a1)) fun h2 =>
    lt (uI h2 a0 5 a2) fun h3 =>
    some h3
  else if gS h0 a0 = 18 then
    lt (uR h0 a0 0 (some a1)) fun h4 =>
    lt (uI h4 a0 1 a2) fun h5 =>
    some h5
  else none
def fX14_init (a0 : Nat) (a1 : Nat) (a2 : Int32) (h0 : AH) : Option (AH) :=
  bnd (fX13_init a0 a1 a2 h0) fun p1 =>
  some p1
def fX16_init (a0 : Nat) (a1 : Nat) (a2 : Int32) (h0 : AH) : Option (AH) :=
  bnd (fX14_init a0 a1 a2 h0) fun p1 =>
  some p1
def fX17_init (a0 : Nat) (a1 : Nat) (a2 : Int32) (h0 : AH) : Option (AH) :=
  bnd (fX14_init a0 a1 a2 h0) fun p1 =>
  some p1
def fX18_init (a0 : Nat) (a1 : Nat) (a2 : Int32) (h0 : AH) : Option (AH) :=
  bnd (fX14_init a0 a1 a2 h0) fun p1 =>
  some p1
def fX15_init (a0 : Nat) (a1 : Nat) (a2 : Int32) (h0 : AH) : Option (AH) :=
  bnd (fX14_init a0 a1 a2 h0) fun p1 =>
  some p1
def fX2_beastOf (a0 : Nat) (a1 : Nat) (a2 : Int32) (h0 : AH) : Option ((Option Nat × AH) ⊕ (Nat × AH)) :=
  bnd (gK h0 13) fun x1 =>
  if gS h0 a0 = 2 then
    bnd (fX2_takes a0 x1 h0) fun p2 =>
    if p2.1 = 0 then
      bnd (gK p2.2 14) fun x5 =>
      if gS p2.2 a0 = 2 then
        bnd (fX2_takes a0 x5 p2.2) fun p6 =>
        if p6.1 = 0 then
          bnd (gK p6.2 15) fun x9 =>
          if gS p6.2 a0 = 2 then
            bnd (fX2_takes a0 x9 p6.2) fun p10 =>
            if p10.1 = 0 then
              bnd (gK p10.2 16) fun x13 =>
              if gS p10.2 a0 = 2 then
                bnx (fX2_must a0 x13 p10.2) (fun q18t => 
                  some (Sum.inr q18t)
                ) fun p14 =>
                lt (nC p14 17 6) fun h16 =>
                bnd (fX18_init (gZ p14) a1 a2 h16) fun p17 =>
                some (Sum.inl ((some (gZ p14)), p17))
              else none
            else
              lt (nC p10.2 16 6) fun h19 =>
              bnd (fX17_init (gZ p10.2) a1 a2 h19) fun p20 =>
              some (Sum.inl ((some (gZ p10.2)), p20))
          else none
        else
          lt (nC p6.2 15 6) fun h21 =>
          bnd (fX16_init (gZ p6.2) a1 a2 h21) fun p22 =>
          some (Sum.inl ((some (gZ p6.2)), p22))
      else none
    else
      lt (nC p2.2 14 6) fun h23 =>
      bnd (fX15_init (gZ p2.2) a1 a2 h23) fun p24 =>
      some (Sum.inl ((some (gZ p2.2)), p24))
  else none
def fX2_begins (a0 : Nat) (a1 : Int32) (h0 : AH) : Option ((AH) ⊕ (Nat × AH)) :=
  if ¬ a1 = 0 then
    if gS h0 a0 = 2 then
      bnd (gR h0 a0 9) fun x3 =>
      if gS h0 x3 = 8 then
        if ¬ (gI h0 x3 5) = 0 then
          bnd (fX2_next a0 h0) fun p6 =>
          some (Sum.inl p6)
        else
          bnd (fX2_fail a0 6 h0) fun p7 =>
          bnd p7.1 fun x8 =>
          if gS p7.2 x8 = 3 then
            some (Sum.inr (x8, p7.2))
          else none
      else none
    else none
  else
    if gS h0 a0 = 2 then
      bnd (fX2_fail a0 5 h0) fun p10 =>
      bnd p10.1 fun x12 =>
      if gS p10.2 x12 = 3 then
        some (Sum.inr (x12, p10.2))
      else none
    else none
def fJ3_isLatin1 (a0 : Nat) (h0 : AH) : Option (Int32) :=
  if gS h0 a0 = 9 ∨ gS h0 a0 = 200 then
    if ¬ (gI h0 a0 1) = 0 then
      some 0
    else
      some 1
  else none
def J7_signedHashCode_L8 (a1 : Nat) (a2 : Int32) (a3 : Int32) (h0 : AH) (s1v : Int32 × Int32) : Option ((Int32 × Int32) ⊕ (Int32)) :=
  if (a2 + a3) ≤ s1v.2 then
    some (Sum.inr s1v.1)
  else
    if gS h0 a1 = 102 ∨ gS h0 a1 = 201 then
      if inb s1v.2 (gN h0 a1) then
        some (Sum.inl ((31 * s1v.1) + ((gI h0 a1 (ix s1v.2)) &&& 255), s1v.2 + 1))
      else none
    else none
def fJ7_signedHashCode (a0 : Int32) (a1 : Nat) (a2 : Int32) (a3 : Int32) (h0 : AH) : Option (Int32) :=
  bnd (iter (J7_signedHashCode_L8 a1 a2 a3 h0) FU (a0, a2)) fun r1v =>
  some r1v
def fJ7_vectorizedHashCode (a0 : Nat) (a1 : Int32) (a2 : Int32) (a3 : Int32) (a4 : Int32) (h0 : AH) : Option (Int32 × AH) :=
  if a4 < 4 ∨ 10 < a4 then
    none
  else if a4 = 4 then
    if gS h0 a0 = 102 then
      bnd (fJ7_signedHashCode a3 a0 a1 a2 h0) fun p4 =>
      some (p4, h0)
    else none
  else if a4 = 5 then
    none
  else if a4 = 6 then
    none
  else if a4 = 7 then
    none
  else if a4 = 8 then
    none
  else if a4 = 9 then
    none
  else if a4 = 10 then
    none
  else none
def fJ6_hashCode (a0 : Nat) (h0 : AH) : Option (Int32 × AH) :=
  if gS h0 a0 = 102 ∨ gS h0 a0 = 201 then
    if (Int32.ofNat (gN h0 a0)) = 0 then
      some (0, h0)
    else if (Int32.ofNat (gN h0 a0)) = 1 then
      if inb 0 (gN h0 a0) then
        some ((gI h0 a0 (ix 0)) &&& 255, h0)
      else none
    else
      bnd (fJ7_vectorizedHashCode a0 0 (Int32.ofNat (gN h0 a0)) 0 4 h0) fun p5 =>
      some (p5.1, p5.2)
  else none
def fJ3_hashCode (a0 : Nat) (h0 : AH) : Option (Int32 × AH) :=
  if gS h0 a0 = 9 then
    if ¬ (gI h0 a0 2) = 0 then
      some (gI h0 a0 2, h0)
    else
      if ¬ (gI h0 a0 3) = 0 then
        some (gI h0 a0 2, h0)
      else
        bnd (fJ3_isLatin1 a0 h0) fun p4 =>
        if p4 = 0 then
          bnd (gR h0 a0 0) fun x6 =>
          none
        else
          bnd (gR h0 a0 0) fun x7 =>
          bnd (fJ6_hashCode x7 h0) fun p8 =>
          if ¬ p8.1 = 0 then
            if gS p8.2 a0 = 9 then
              lt (uI p8.2 a0 2 p8.1) fun h11 =>
              some (p8.1, h11)
            else none
          else
            if gS p8.2 a0 = 9 then
              lt (uI p8.2 a0 3 1) fun h13 =>
              some (p8.1, h13)
            else none
  else none
def X2_mustName_j165 (a0 : Nat) (p4 : Int32 × AH) (j6 : Int32) : Option ((AH) ⊕ (Nat × AH)) :=
  if j6 < 0 ∨ 5 < j6 then
    some (Sum.inl p4.2)
  else if j6 = 0 then
    if gS p4.2 a0 = 2 then
      bnd (fX2_fail a0 1 p4.2) fun p9 =>
      bnd p9.1 fun x11 =>
      if gS p9.2 x11 = 3 then
        some (Sum.inr (x11, p9.2))
      else none
    else none
  else if j6 = 1 then
    if gS p4.2 a0 = 2 then
      bnd (fX2_fail a0 1 p4.2) fun p14 =>
      bnd p14.1 fun x16 =>
      if gS p14.2 x16 = 3 then
        some (Sum.inr (x16, p14.2))
      else none
    else none
  else if j6 = 2 then
    if gS p4.2 a0 = 2 then
      bnd (fX2_fail a0 1 p4.2) fun p19 =>
      bnd p19.1 fun x21 =>
      if gS p19.2 x21 = 3 then
        some (Sum.inr (x21, p19.2))
      else none
    else none
  else if j6 = 3 then
    if gS p4.2 a0 = 2 then
      bnd (fX2_fail a0 1 p4.2) fun p24 =>
      bnd p24.1 fun x26 =>
      if gS p24.2 x26 = 3 then
        some (Sum.inr (x26, p24.2))
      else none
    else none
  else if j6 = 4 then
    if gS p4.2 a0 = 2 then
      bnd (fX2_fail a0 1 p4.2) fun p29 =>
      bnd p29.1 fun x31 =>
      if gS p29.2 x31 = 3 then
        some (Sum.inr (x31, p29.2))
      else none
    else none
  else if j6 = 5 then
    if gS p4.2 a0 = 2 then
      bnd (fX2_fail a0 1 p4.2) fun p34 =>
      bnd p34.1 fun x36 =>
      if gS p34.2 x36 = 3 then
        some (Sum.inr (x36, p34.2))
      else none
    else none
  else none
def fX2_mustName (a0 : Nat) (h0 : AH) : Option ((AH) ⊕ (Nat × AH)) :=
  if gS h0 a0 = 2 then
    if (gI h0 a0 5) = 2 then
      bnd (gR h0 a0 8) fun x3 =>
      if gS h0 x3 = 9 ∨ gS h0 x3 = 200 then
        bnd (fJ3_hashCode x3 h0) fun p4 =>
        if p4.1 = (-862428708) then
          bnd (gK p4.2 6) fun x39 =>
          if gS p4.2 x3 = 9 ∨ gS p4.2 x3 = 200 then
            bnd (fJ3_equals x3 x39 p4.2) fun p40 =>
            if p40 = 0 then
              X2_mustName_j165 a0 p4 (-1)
            else
              X2_mustName_j165 a0 p4 5
          else none
        else if p4.1 = 3053931 then
          bnd (gK p4.2 4) fun x44 =>
          if gS p4.2 x3 = 9 ∨ gS p4.2 x3 = 200 then
            bnd (fJ3_equals x3 x44 p4.2) fun p45 =>
            if p45 = 0 then
              X2_mustName_j165 a0 p4 (-1)
            else
              X2_mustName_j165 a0 p4 3
          else none
        else if p4.1 = 3314156 then
          bnd (gK p4.2 2) fun x49 =>
          if gS p4.2 x3 = 9 ∨ gS p4.2 x3 = 200 then
            bnd (fJ3_equals x3 x49 p4.2) fun p50 =>
            if p50 = 0 then
              X2_mustName_j165 a0 p4 (-1)
            else
              X2_mustName_j165 a0 p4 1
          else none
        else if p4.1 = 3433489 then
          bnd (gK p4.2 5) fun x54 =>
          if gS p4.2 x3 = 9 ∨ gS p4.2 x3 = 200 then
            bnd (fJ3_equals x3 x54 p4.2) fun p55 =>
            if p55 = 0 then
              X2_mustName_j165 a0 p4 (-1)
            else
              X2_mustName_j165 a0 p4 4
          else none
        else if p4.1 = 93610847 then
          bnd (gK p4.2 3) fun x59 =>
          if gS p4.2 x3 = 9 ∨ gS p4.2 x3 = 200 then
            bnd (fJ3_equals x3 x59 p4.2) fun p60 =>
            if p60 = 0 then
              X2_mustName_j165 a0 p4 (-1)
            else
              X2_mustName_j165 a0 p4 2
          else none
        else if p4.1 = 97427706 then
          bnd (gK p4.2 1) fun x64 =>
          if gS p4.2 x3 = 9 ∨ gS p4.2 x3 = 200 then
            bnd (fJ3_equals x3 x64 p4.2) fun p65 =>
            if p65 = 0 then
              X2_mustName_j165 a0 p4 (-1)
            else
              X2_mustName_j165 a0 p4 0
          else none
        else
          X2_mustName_j165 a0 p4 (-1)
      else none
    else
      bnd (fX2_fail a0 1 h0) fun p68 =>
      bnd p68.1 fun x69 =>
      if gS p68.2 x69 = 3 then
        some (Sum.inr (x69, p68.2))
      else none
  else none
def X8_find_L41 (a0 : Nat) (a1 : Nat) (h0 : AH) (s4v : Int32) : Option ((Int32) ⊕ ((Int32) ⊕ (Option Nat))) :=
  if (gI h0 a0 9) ≤ s4v then
    some (Sum.inr (Sum.inr none))
  else
    bnd (gR h0 a0 4) fun x6 =>
    if gS h0 x6 = 108 then
      if inb s4v (gN h0 x6) then
        bnd (gR h0 x6 (ix s4v)) fun x9 =>
        if gS h0 x9 = 18 then
          bnd (gR h0 x9 0) fun x11 =>
          if gS h0 x11 = 9 ∨ gS h0 x11 = 200 then
            bnd (fJ3_equals x11 a1 h0) fun p12 =>
            if p12 = 0 then
              some (Sum.inl (s4v + 1))
            else
              bnd (gR h0 a0 4) fun x15 =>
              if gS h0 x15 = 108 then
                if inb s4v (gN h0 x15) then
                  bnd (gR h0 x15 (ix s4v)) fun x18 =>
                  some (Sum.inr (Sum.inr (some x18)))
                else none
              else none
          else none
        else none
      else none
    else none
def X8_find_L2 (a0 : Nat) (a1 : Nat) (h0 : AH) (s1v : Int32) : Option ((Int32) ⊕ (Option Nat)) :=
  if gS h0 a0 = 8 then
    if (gI h0 a0 8) ≤ s1v then
      iter (X8_find_L41 a0 a1 h0) FU 0
    else
      bnd (gR h0 a0 3) fun x19 =>
      if gS h0 x19 = 106 then
        if inb s1v (gN h0 x19) then
          bnd (gR h0 x19 (ix s1v)) fun x22 =>
          if gS h0 x22 = 14 ∨ gS h0 x22 = 15 ∨ gS h0 x22 = 16 ∨ gS h0 x22 = 17 then
            bnd (gR h0 x22 4) fun x24 =>
            if gS h0 x24 = 9 ∨ gS h0 x24 = 200 then
              bnd (fJ3_equals x24 a1 h0) fun p25 =>
              if p25 = 0 then
                some (Sum.inl (s1v + 1))
              else
                bnd (gR h0 a0 3) fun x28 =>
                if gS h0 x28 = 106 then
                  if inb s1v (gN h0 x28) then
                    bnd (gR h0 x28 (ix s1v)) fun x31 =>
                    some (Sum.inr (some x31))
                  else none
                else none
            else none
          else none
        else none
      else none
  else none
def fX8_find (a0 : Nat) (a1 : Nat) (h0 : AH) : Option (Option Nat) :=
  iter (X8_find_L2 a0 a1 h0) FU 0
def fX2_newName (a0 : Nat) (h0 : AH) : Option ((Option Nat × AH) ⊕ (Nat × AH)) :=
  if gS h0 a0 = 2 then
    bnx (fX2_mustName a0 h0) (fun q14t => 
      some (Sum.inr q14t)
    ) fun p1 =>
    if gS p1 a0 = 2 then
      bnd (gR p1 a0 9) fun x4 =>
      bnd (gR p1 a0 8) fun x5 =>
      if gS p1 x4 = 8 then
        bnd (fX8_find x4 x5 p1) fun p6 =>
        ons p6 (
          bnd (gR p1 a0 8) fun x12 =>
          bnd (fX2_next a0 p1) fun p13 =>
          some (Sum.inl ((some x12), p13))
        ) fun x8 =>
        bnd (fX2_fail a0 3 p1) fun p9 =>
        bnd p9.1 fun x10 =>
        if gS p9.2 x10 = 3 then
          some (Sum.inr (x10, p9.2))
        else none
      else none
    else none
  else none
def X2_beastLine_j17 (a0 : Nat) (h0 : AH) (j4 : Int32) : Option ((AH) ⊕ (Nat × AH)) :=
  bnx (fX2_begins a0 j4 h0) (fun q48t => 
    some (Sum.inr q48t)
  ) fun p5 =>
  if gS p5 a0 = 2 then
    bnx (fX2_newName a0 p5) (fun q9t => 
      some (Sum.inr q9t)
    ) fun p6 =>
    bnd p6.1 fun x8 =>
    if gS p6.2 a0 = 2 then
      bnd (gR p6.2 a0 9) fun x11 =>
      if gS p6.2 x11 = 8 then
        bnx (fX2_beastOf a0 x8 (gI p6.2 x11 8) p6.2) (fun q15t => 
          some (Sum.inr q15t)
        ) fun p13 =>
        bnd p13.1 fun x14 =>
        bnd (gK p13.2 17) fun x16 =>
        if gS p13.2 a0 = 2 then
          bnd (gR p13.2 a0 9) fun x18 =>
          if gS p13.2 x18 = 8 then
            bnx (fX2_after a0 x16 0 ((gI p13.2 x18 5) - 1) p13.2) (fun q47t => 
              some (Sum.inr q47t)
            ) fun p20 =>
            if gS p20.2 x14 = 14 ∨ gS p20.2 x14 = 15 ∨ gS p20.2 x14 = 16 ∨ gS p20.2 x14 = 17 then
              lt (uI p20.2 x14 0 p20.1) fun h22 =>
              bnd (gK h22 18) fun x23 =>
              if gS h22 a0 = 2 then
                bnx (fX2_after a0 x23 0 100 h22) (fun q46t => 
                  some (Sum.inr q46t)
                ) fun p24 =>
                if gS p24.2 x14 = 14 ∨ gS p24.2 x14 = 15 ∨ gS p24.2 x14 = 16 ∨ gS p24.2 x14 = 17 then
                  lt (uI p24.2 x14 1 p24.1) fun h27 =>
                  bnd (gK h27 19) fun x28 =>
                  if gS h27 a0 = 2 then
                    bnx (fX2_after a0 x28 1 99 h27) (fun q45t => 
                      some (Sum.inr q45t)
                    ) fun p29 =>
                    if gS p29.2 x14 = 14 ∨ gS p29.2 x14 = 15 ∨ gS p29.2 x14 = 16 ∨ gS p29.2 x14 = 17 then
                      lt (uI p29.2 x14 2 p29.1) fun h32 =>
                      if gS h32 a0 = 2 then
                        bnd (gR h32 a0 9) fun x34 =>
                        if gS h32 x34 = 8 then
                          bnd (gR h32 x34 3) fun x36 =>
                          bnd (gR h32 a0 9) fun x37 =>
                          if gS h32 x37 = 8 then
                            if gS h32 x36 = 106 then
                              if inb (gI h32 x37 8) (gN h32 x36) then
                                lt (uR h32 x36 (ix (gI h32 x37 8)) (some x14)) fun h41 =>
                                bnd (gR h41 a0 9) fun x42 =>
                                if gS h41 x42 = 8 then
                                  lt (uI h41 x42 8 ((gI h41 x42 8) + 1)) fun h44 =>
                                  some (Sum.inl h44)
                                else none
                              else none
                            else none
                          else none
                        else none
                      else none
                    else none
                  else none
                else none
              else none
            else none
          else none
        else none
      else none
    else none
  else none
def fX2_beastLine (a0 : Nat) (h0 : AH) : Option ((AH) ⊕ (Nat × AH)) :=
  if gS h0 a0 = 2 then
    bnd (gR h0 a0 9) fun x2 =>
    if gS h0 x2 = 8 then
      if 5 ≤ (gI h0 x2 8) then
        X2_beastLine_j17 a0 h0 0
      else
        X2_beastLine_j17 a0 h0 1
    else none
  else none
def fX19_init (a0 : Nat) (a1 : Nat) (a2 : Int32) (h0 : AH) : Option (AH) :=
  bnd (fX13_init a0 a1 a2 h0) fun p1 =>
  some p1
def X2_cityLine_j18 (a0 : Nat) (h0 : AH) (j4 : Int32) : Option ((AH) ⊕ (Nat × AH)) :=
  bnx (fX2_begins a0 j4 h0) (fun q29t => 
    some (Sum.inr q29t)
  ) fun p5 =>
  if gS p5 a0 = 2 then
    bnd (gR p5 a0 9) fun x7 =>
    if gS p5 x7 = 8 then
      bnd (gR p5 x7 4) fun x9 =>
      bnd (gR p5 a0 9) fun x10 =>
      if gS p5 x10 = 8 then
        lt (nC p5 18 2) fun h12 =>
        if gS h12 a0 = 2 then
          bnx (fX2_newName a0 h12) (fun q16t => 
            some (Sum.inr q16t)
          ) fun p13 =>
          bnd p13.1 fun x15 =>
          if gS p13.2 a0 = 2 then
            bnd (gR p13.2 a0 9) fun x18 =>
            if gS p13.2 x18 = 8 then
              bnd (fX19_init (gZ p5) x15 (gI p13.2 x18 9) p13.2) fun p20 =>
              if gS p20 (gZ p5) = 18 then
                if gS p20 x9 = 108 then
                  if inb (gI p5 x10 9) (gN p20 x9) then
                    lt (uR p20 x9 (ix (gI p5 x10 9)) (some (gZ p5))) fun h24 =>
                    if gS h24 a0 = 2 then
                      bnd (gR h24 a0 9) fun x26 =>
                      if gS h24 x26 = 8 then
                        lt (uI h24 x26 9 ((gI h24 x26 9) + 1)) fun h28 =>
                        some (Sum.inl h28)
                      else none
                    else none
                  else none
                else none
              else none
            else none
          else none
        else none
      else none
    else none
  else none
def fX2_cityLine (a0 : Nat) (h0 : AH) : Option ((AH) ⊕ (Nat × AH)) :=
  if gS h0 a0 = 2 then
    bnd (gR h0 a0 9) fun x2 =>
    if gS h0 x2 = 8 then
      if 6 ≤ (gI h0 x2 9) then
        X2_cityLine_j18 a0 h0 0
      else
        X2_cityLine_j18 a0 h0 1
    else none
  else none
def fX2_fieldLine (a0 : Nat) (h0 : AH) : Option ((AH) ⊕ (Nat × AH)) :=
  if gS h0 a0 = 2 then
    bnd (gR h0 a0 9) fun x2 =>
    if gS h0 x2 = 8 then
      if (gI h0 x2 5) ≤ 0 then
        bnd (fX2_next a0 h0) fun p5 =>
        bnd (gK p5 7) fun x6 =>
        if gS p5 a0 = 2 then
          bnx (fX2_after a0 x6 2 6 p5) (fun q20t => 
            some (Sum.inr q20t)
          ) fun p7 =>
          if gS p7.2 a0 = 2 then
            bnd (gR p7.2 a0 9) fun x10 =>
            bnd (gK p7.2 8) fun x11 =>
            bnx (fX2_after a0 x11 1 5 p7.2) (fun q19t => 
              some (Sum.inr q19t)
            ) fun p12 =>
            if gS p12.2 x10 = 8 then
              lt (uI p12.2 x10 6 p12.1) fun h14 =>
              if gS h14 a0 = 2 then
                bnd (gR h14 a0 9) fun x16 =>
                if gS h14 x16 = 8 then
                  lt (uI h14 x16 5 p7.1) fun h18 =>
                  some (Sum.inl h18)
                else none
              else none
            else none
          else none
        else none
      else
        bnd (fX2_fail a0 3 h0) fun p21 =>
        bnd p21.1 fun x22 =>
        if gS p21.2 x22 = 3 then
          some (Sum.inr (x22, p21.2))
        else none
    else none
  else none
def fX9_init (a0 : Nat) (h0 : AH) : Option (Unit) :=
  some ()
def fX11_init (a0 : Nat) (h0 : AH) : Option (Unit) :=
  bnd (fX9_init a0 h0) fun p1 =>
  some ()
def fX12_init (a0 : Nat) (h0 : AH) : Option (Unit) :=
  bnd (fX9_init a0 h0) fun p1 =>
  some ()
def fX10_init (a0 : Nat) (h0 : AH) : Option (Unit) :=
  bnd (fX9_init a0 h0) fun p1 =>
  some ()
def fX2_standOf (a0 : Nat) (a1 : Int32) (h0 : AH) : Option ((Option Nat × AH) ⊕ (Nat × AH)) :=
  bnd (gK h0 9) fun x1 =>
  if gS h0 a0 = 2 then
    bnd (fX2_takes a0 x1 h0) fun p2 =>
    if p2.1 = 0 then
      bnd (gK p2.2 10) fun x5 =>
      if gS p2.2 a0 = 2 then
        bnd (fX2_takes a0 x5 p2.2) fun p6 =>
        if p6.1 = 0 then
          bnd (gK p6.2 11) fun x9 =>
          if gS p6.2 a0 = 2 then
            bnd (fX2_takes a0 x9 p6.2) fun p10 =>
            if p10.1 = 0 then
              if gS p10.2 a0 = 2 then
                bnd (gR p10.2 a0 9) fun x14 =>
                if gS p10.2 x14 = 8 then
                  bnd (gR p10.2 x14 1) fun x16 =>
                  bnd (gK p10.2 12) fun x17 =>
                  bnx (fX2_after a0 x17 0 30 p10.2) (fun q24t => 
                    some (Sum.inr q24t)
                  ) fun p18 =>
                  if gS p18.2 x16 = 101 then
                    if inb a1 (gN p18.2 x16) then
                      lt (uI p18.2 x16 (ix a1) p18.1) fun h21 =>
                      lt (nC h21 13 0) fun h22 =>
                      bnd (fX12_init (gZ h21) h22) fun p23 =>
                      some (Sum.inl ((some (gZ h21)), h22))
                    else none
                  else none
                else none
              else none
            else
              if gS p10.2 a0 = 2 then
                bnd (gR p10.2 a0 9) fun x26 =>
                if gS p10.2 x26 = 8 then
                  bnd (gR p10.2 x26 1) fun x28 =>
                  bnx (fX2_number a0 0 60 p10.2) (fun q35t => 
                    some (Sum.inr q35t)
                  ) fun p29 =>
                  if gS p29.2 x28 = 101 then
                    if inb a1 (gN p29.2 x28) then
                      lt (uI p29.2 x28 (ix a1) p29.1) fun h32 =>
                      lt (nC h32 12 0) fun h33 =>
                      bnd (fX11_init (gZ h32) h33) fun p34 =>
                      some (Sum.inl ((some (gZ h32)), h33))
                    else none
                  else none
                else none
              else none
          else none
        else
          lt (nC p6.2 11 0) fun h36 =>
          bnd (fX10_init (gZ p6.2) h36) fun p37 =>
          some (Sum.inl ((some (gZ p6.2)), h36))
      else none
    else
      lt (nC p2.2 10 0) fun h38 =>
      bnd (fX9_init (gZ p2.2) h38) fun p39 =>
      some (Sum.inl ((some (gZ p2.2)), h38))
  else none
def fX2_laneLine (a0 : Nat) (h0 : AH) : Option ((AH) ⊕ (Nat × AH)) :=
  if gS h0 a0 = 2 then
    bnx (fX2_begins a0 1 h0) (fun q34t => 
      some (Sum.inr q34t)
    ) fun p1 =>
    if gS p1 a0 = 2 then
      bnd (gR p1 a0 9) fun x4 =>
      if gS p1 x4 = 8 then
        bnx (fX2_numberHere a0 0 ((gI p1 x4 5) - 1) p1) (fun q33t => 
          some (Sum.inr q33t)
        ) fun p6 =>
        if gS p6.2 a0 = 2 then
          bnd (gR p6.2 a0 9) fun x8 =>
          if gS p6.2 x8 = 8 then
            bnd (gR p6.2 x8 0) fun x10 =>
            if gS p6.2 x10 = 107 then
              if inb p6.1 (gN p6.2 x10) then
                ons (gR p6.2 x10 (ix p6.1)) (
                  bnd (fX2_next a0 p6.2) fun p17 =>
                  if gS p17 a0 = 2 then
                    bnd (gR p17 a0 9) fun x19 =>
                    if gS p17 x19 = 8 then
                      bnd (gR p17 x19 0) fun x21 =>
                      bnx (fX2_standOf a0 p6.1 p17) (fun q24t => 
                        some (Sum.inr q24t)
                      ) fun p22 =>
                      bnd p22.1 fun x23 =>
                      if gS p22.2 x23 = 10 ∨ gS p22.2 x23 = 11 ∨ gS p22.2 x23 = 12 ∨ gS p22.2 x23 = 13 then
                        if gS p22.2 x21 = 107 then
                          if inb p6.1 (gN p22.2 x21) then
                            lt (uR p22.2 x21 (ix p6.1) (some x23)) fun h28 =>
                            if gS h28 a0 = 2 then
                              bnd (gR h28 a0 9) fun x30 =>
                              if gS h28 x30 = 8 then
                                lt (uI h28 x30 7 ((gI h28 x30 7) + 1)) fun h32 =>
                                some (Sum.inl h32)
                              else none
                            else none
                          else none
                        else none
                      else none
                    else none
                  else none
                ) fun x13 =>
                bnd (fX2_fail a0 3 p6.2) fun p14 =>
                bnd p14.1 fun x15 =>
                if gS p14.2 x15 = 3 then
                  some (Sum.inr (x15, p14.2))
                else none
              else none
            else none
          else none
        else none
      else none
    else none
  else none
def fX2_cityHere (a0 : Nat) (h0 : AH) : Option ((Int32 × AH) ⊕ (Nat × AH)) :=
  if gS h0 a0 = 2 then
    bnx (fX2_mustName a0 h0) (fun q16t => 
      some (Sum.inr q16t)
    ) fun p1 =>
    if gS p1 a0 = 2 then
      bnd (gR p1 a0 9) fun x4 =>
      bnd (gR p1 a0 8) fun x5 =>
      if gS p1 x4 = 8 then
        bnd (fX8_find x4 x5 p1) fun p6 =>
        ons p6 (
          bnd (fX2_fail a0 2 p1) fun p13 =>
          bnd p13.1 fun x14 =>
          if gS p13.2 x14 = 3 then
            some (Sum.inr (x14, p13.2))
          else none
        ) fun x8 =>
        if gS p1 x8 = 18 then
          some (Sum.inl (gI p1 x8 1, p1))
        else if gS p1 x8 = 14 ∨ gS p1 x8 = 15 ∨ gS p1 x8 = 16 ∨ gS p1 x8 = 17 then
          bnd (fX2_fail a0 2 p1) fun p10 =>
          bnd p10.1 fun x11 =>
          if gS p10.2 x11 = 3 then
            some (Sum.inr (x11, p10.2))
          else none
        else none
      else none
    else none
  else none
def X2_passLine_j52 (a0 : Nat) (p10 : Int32 × AH) : Option ((AH) ⊕ (Nat × AH)) :=
  if gS p10.2 a0 = 2 then
    bnd (fX2_fail a0 3 p10.2) fun p12 =>
    bnd p12.1 fun x14 =>
    if gS p12.2 x14 = 3 then
      some (Sum.inr (x14, p12.2))
    else none
  else none
def X2_passLine_j18 (a0 : Nat) (h0 : AH) (j4 : Int32) : Option ((AH) ⊕ (Nat × AH)) :=
  bnx (fX2_begins a0 j4 h0) (fun q45t => 
    some (Sum.inr q45t)
  ) fun p5 =>
  if gS p5 a0 = 2 then
    bnx (fX2_cityHere a0 p5) (fun q44t => 
      some (Sum.inr q44t)
    ) fun p6 =>
    if gS p6.2 a0 = 2 then
      bnd (fX2_next a0 p6.2) fun p8 =>
      if gS p8 a0 = 2 then
        bnx (fX2_cityHere a0 p8) (fun q43t => 
          some (Sum.inr q43t)
        ) fun p10 =>
        if p6.1 = p10.1 then
          X2_passLine_j52 a0 p10 
        else
          if gS p10.2 a0 = 2 then
            bnd (gR p10.2 a0 9) fun x18 =>
            if gS p10.2 x18 = 8 then
              bnd (fX8_pass x18 p6.1 p10.1 p10.2) fun p19 =>
              if p19 ≤ 0 then
                bnd (fX2_next a0 p10.2) fun p22 =>
                bnd (gK p22 20) fun x23 =>
                if gS p22 a0 = 2 then
                  bnx (fX2_after a0 x23 0 99 p22) (fun q42t => 
                    some (Sum.inr q42t)
                  ) fun p24 =>
                  if gS p24.2 a0 = 2 then
                    bnd (gR p24.2 a0 9) fun x27 =>
                    if gS p24.2 x27 = 8 then
                      bnd (gR p24.2 x27 2) fun x29 =>
                      if gS p24.2 x29 = 101 then
                        if inb ((6 * p6.1) + p10.1) (gN p24.2 x29) then
                          lt (uI p24.2 x29 (ix ((6 * p6.1) + p10.1)) (p24.1 + 1)) fun h32 =>
                          bnd (gR h32 a0 9) fun x33 =>
                          if gS h32 x33 = 8 then
                            bnd (gR h32 x33 2) fun x35 =>
                            if gS h32 x35 = 101 then
                              if inb ((6 * p10.1) + p6.1) (gN h32 x35) then
                                lt (uI h32 x35 (ix ((6 * p10.1) + p6.1)) (p24.1 + 1)) fun h38 =>
                                bnd (gR h38 a0 9) fun x39 =>
                                if gS h38 x39 = 8 then
                                  lt (uI h38 x39 10 ((gI h38 x39 10) + 1)) fun h41 =>
                                  some (Sum.inl h41)
                                else none
                              else none
                            else none
                          else none
                        else none
                      else none
                    else none
                  else none
                else none
              else
                X2_passLine_j52 a0 p10 
            else none
          else none
      else none
    else none
  else none
def fX2_passLine (a0 : Nat) (h0 : AH) : Option ((AH) ⊕ (Nat × AH)) :=
  if gS h0 a0 = 2 then
    bnd (gR h0 a0 9) fun x2 =>
    if gS h0 x2 = 8 then
      if 9 ≤ (gI h0 x2 10) then
        X2_passLine_j18 a0 h0 0
      else
        X2_passLine_j18 a0 h0 1
    else none
  else none
def fX2_turnedLine (a0 : Nat) (h0 : AH) : Option ((AH) ⊕ (Nat × AH)) :=
  if gS h0 a0 = 2 then
    bnx (fX2_begins a0 1 h0) (fun q30t => 
      some (Sum.inr q30t)
    ) fun p1 =>
    if gS p1 a0 = 2 then
      bnx (fX2_mustName a0 p1) (fun q29t => 
        some (Sum.inr q29t)
      ) fun p3 =>
      if gS p3 a0 = 2 then
        bnd (gR p3 a0 9) fun x6 =>
        bnd (gR p3 a0 8) fun x7 =>
        if gS p3 x6 = 8 then
          bnd (fX8_find x6 x7 p3) fun p8 =>
          ons p8 (
            bnd (fX2_fail a0 2 p3) fun p26 =>
            bnd p26.1 fun x27 =>
            if gS p26.2 x27 = 3 then
              some (Sum.inr (x27, p26.2))
            else none
          ) fun x10 =>
          if gS p3 x10 = 14 ∨ gS p3 x10 = 15 ∨ gS p3 x10 = 16 ∨ gS p3 x10 = 17 then
            if (gI p3 x10 3) = 0 then
              bnd (fX2_next a0 p3) fun p13 =>
              if gS p13 x10 = 14 ∨ gS p13 x10 = 15 ∨ gS p13 x10 = 16 ∨ gS p13 x10 = 17 then
                lt (uI p13 x10 3 1) fun h15 =>
                if gS h15 a0 = 2 then
                  bnd (gR h15 a0 9) fun x17 =>
                  if gS h15 x17 = 8 then
                    lt (uI h15 x17 11 ((gI h15 x17 11) + 1)) fun h19 =>
                    some (Sum.inl h19)
                  else none
                else none
              else none
            else
              bnd (fX2_fail a0 3 p3) fun p20 =>
              bnd p20.1 fun x21 =>
              if gS p20.2 x21 = 3 then
                some (Sum.inr (x21, p20.2))
              else none
          else if gS p3 x10 = 18 then
            bnd (fX2_fail a0 2 p3) fun p23 =>
            bnd p23.1 fun x24 =>
            if gS p23.2 x24 = 3 then
              some (Sum.inr (x24, p23.2))
            else none
          else none
        else none
      else none
    else none
  else none
def X2_line_j165 (a0 : Nat) (p4 : Int32 × AH) (j6 : Int32) : Option ((AH) ⊕ (Nat × AH)) :=
  if j6 < 0 ∨ 5 < j6 then
    if gS p4.2 a0 = 2 then
      bnd (fX2_fail a0 1 p4.2) fun p8 =>
      bnd p8.1 fun x10 =>
      if gS p8.2 x10 = 3 then
        some (Sum.inr (x10, p8.2))
      else none
    else none
  else if j6 = 0 then
    if gS p4.2 a0 = 2 then
      bnx (fX2_fieldLine a0 p4.2) (fun q15t => 
        some (Sum.inr q15t)
      ) fun p13 =>
      some (Sum.inl p13)
    else none
  else if j6 = 1 then
    if gS p4.2 a0 = 2 then
      bnx (fX2_laneLine a0 p4.2) (fun q19t => 
        some (Sum.inr q19t)
      ) fun p17 =>
      some (Sum.inl p17)
    else none
  else if j6 = 2 then
    if gS p4.2 a0 = 2 then
      bnx (fX2_beastLine a0 p4.2) (fun q23t => 
        some (Sum.inr q23t)
      ) fun p21 =>
      some (Sum.inl p21)
    else none
  else if j6 = 3 then
    if gS p4.2 a0 = 2 then
      bnx (fX2_cityLine a0 p4.2) (fun q27t => 
        some (Sum.inr q27t)
      ) fun p25 =>
      some (Sum.inl p25)
    else none
  else if j6 = 4 then
    if gS p4.2 a0 = 2 then
      bnx (fX2_passLine a0 p4.2) (fun q31t => 
        some (Sum.inr q31t)
      ) fun p29 =>
      some (Sum.inl p29)
    else none
  else if j6 = 5 then
    if gS p4.2 a0 = 2 then
      bnx (fX2_turnedLine a0 p4.2) (fun q35t => 
        some (Sum.inr q35t)
      ) fun p33 =>
      some (Sum.inl p33)
    else none
  else none
def fX2_line (a0 : Nat) (h0 : AH) : Option ((AH) ⊕ (Nat × AH)) :=
  if gS h0 a0 = 2 then
    if (gI h0 a0 5) = 2 then
      bnd (gR h0 a0 8) fun x3 =>
      if gS h0 x3 = 9 ∨ gS h0 x3 = 200 then
        bnd (fJ3_hashCode x3 h0) fun p4 =>
        if p4.1 = (-862428708) then
          bnd (gK p4.2 6) fun x37 =>
          if gS p4.2 x3 = 9 ∨ gS p4.2 x3 = 200 then
            bnd (fJ3_equals x3 x37 p4.2) fun p38 =>
            if p38 = 0 then
              X2_line_j165 a0 p4 (-1)
            else
              X2_line_j165 a0 p4 5
          else none
        else if p4.1 = 3053931 then
          bnd (gK p4.2 4) fun x42 =>
          if gS p4.2 x3 = 9 ∨ gS p4.2 x3 = 200 then
            bnd (fJ3_equals x3 x42 p4.2) fun p43 =>
            if p43 = 0 then
              X2_line_j165 a0 p4 (-1)
            else
              X2_line_j165 a0 p4 3
          else none
        else if p4.1 = 3314156 then
          bnd (gK p4.2 2) fun x47 =>
          if gS p4.2 x3 = 9 ∨ gS p4.2 x3 = 200 then
            bnd (fJ3_equals x3 x47 p4.2) fun p48 =>
            if p48 = 0 then
              X2_line_j165 a0 p4 (-1)
            else
              X2_line_j165 a0 p4 1
          else none
        else if p4.1 = 3433489 then
          bnd (gK p4.2 5) fun x52 =>
          if gS p4.2 x3 = 9 ∨ gS p4.2 x3 = 200 then
            bnd (fJ3_equals x3 x52 p4.2) fun p53 =>
            if p53 = 0 then
              X2_line_j165 a0 p4 (-1)
            else
              X2_line_j165 a0 p4 4
          else none
        else if p4.1 = 93610847 then
          bnd (gK p4.2 3) fun x57 =>
          if gS p4.2 x3 = 9 ∨ gS p4.2 x3 = 200 then
            bnd (fJ3_equals x3 x57 p4.2) fun p58 =>
            if p58 = 0 then
              X2_line_j165 a0 p4 (-1)
            else
              X2_line_j165 a0 p4 2
          else none
        else if p4.1 = 97427706 then
          bnd (gK p4.2 1) fun x62 =>
          if gS p4.2 x3 = 9 ∨ gS p4.2 x3 = 200 then
            bnd (fJ3_equals x3 x62 p4.2) fun p63 =>
            if p63 = 0 then
              X2_line_j165 a0 p4 (-1)
            else
              X2_line_j165 a0 p4 0
          else none
        else
          X2_line_j165 a0 p4 (-1)
      else none
    else
      bnd (fX2_fail a0 1 h0) fun p66 =>
      bnd p66.1 fun x67 =>
      if gS p66.2 x67 = 3 then
        some (Sum.inr (x67, p66.2))
      else none
  else none
def fX8_init (a0 : Nat) (h0 : AH) : Option (AH) :=
  lt (nC h0 107 (ix 6)) fun h1 =>
  if gS h1 a0 = 8 then
    lt (uR h1 a0 0 (some (gZ h0))) fun h3 =>
    lt (nC h3 101 (ix 6)) fun h4 =>
    if gS h4 a0 = 8 then
      lt (uR h4 a0 1 (some (gZ h3))) fun h6 =>
      lt (nC h6 101 (ix 36)) fun h7 =>
      if gS h7 a0 = 8 then
        lt (uR h7 a0 2 (some (gZ h6))) fun h9 =>
        lt (nC h9 106 (ix 5)) fun h10 =>
        if gS h10 a0 = 8 then
          lt (uR h10 a0 3 (some (gZ h9))) fun h12 =>
          lt (nC h12 108 (ix 6)) fun h13 =>
          if gS h13 a0 = 8 then
            lt (uR h13 a0 4 (some (gZ h12))) fun h15 =>
            some h15
          else none
        else none
      else none
    else none
  else none
def X2_read_j82 (a0 : Nat) (s11v : AH) : Option ((AH) ⊕ ((Option Nat × AH) ⊕ (Nat × AH))) :=
  bnd (fX2_fail a0 6 s11v) fun p17 =>
  bnd p17.1 fun x18 =>
  if gS p17.2 x18 = 3 then
    some (Sum.inr (Sum.inr (x18, p17.2)))
  else none
def X2_read_L91 (a0 : Nat) (s24v : Int32 × AH) : Option ((Int32 × AH) ⊕ (AH)) :=
  if gS s24v.2 a0 = 2 then
    bnd (gR s24v.2 a0 9) fun x26 =>
    if gS s24v.2 x26 = 8 then
      if (gI s24v.2 x26 5) ≤ s24v.1 then
        some (Sum.inr s24v.2)
      else
        bnd (gR s24v.2 a0 9) fun x29 =>
        if gS s24v.2 x29 = 8 then
          bnd (gR s24v.2 x29 0) fun x31 =>
          if gS s24v.2 x31 = 107 then
            if inb s24v.1 (gN s24v.2 x31) then
              ons (gR s24v.2 x31 (ix s24v.1)) (
                bnd (gR s24v.2 a0 9) fun x35 =>
                if gS s24v.2 x35 = 8 then
                  bnd (gR s24v.2 x35 0) fun x37 =>
                  lt (nC s24v.2 10 0) fun h38 =>
                  bnd (fX9_init (gZ s24v.2) h38) fun p39 =>
                  if gS h38 x37 = 107 then
                    if inb s24v.1 (gN h38 x37) then
                      lt (uR h38 x37 (ix s24v.1) (some (gZ s24v.2))) fun h42 =>
                      some (Sum.inl (s24v.1 + 1, h42))
                    else none
                  else none
                else none
              ) fun x34 =>
              some (Sum.inl (s24v.1 + 1, s24v.2))
            else none
          else none
        else none
    else none
  else none
def X2_read_L29 (a0 : Nat) (s11v : AH) : Option ((AH) ⊕ ((Option Nat × AH) ⊕ (Nat × AH))) :=
  if gS s11v a0 = 2 then
    if ¬ (gI s11v a0 5) = 59 then
      if (gI s11v a0 5) = 0 then
        bnd (gR s11v a0 9) fun x15 =>
        if gS s11v x15 = 8 then
          if (gI s11v x15 5) = 0 then
            X2_read_j82 a0 s11v 
          else
            bnd (gR s11v a0 9) fun x21 =>
            if gS s11v x21 = 8 then
              if ¬ (gI s11v x21 8) = 0 then
                bnd (iter (X2_read_L91 a0) FU (0, s11v)) fun r24v =>
                if gS r24v a0 = 2 then
                  bnd (gR r24v a0 9) fun x44 =>
                  some (Sum.inr (Sum.inl ((some x44), r24v)))
                else none
              else
                X2_read_j82 a0 s11v 
            else none
        else none
      else
        bnd (fX2_fail a0 1 s11v) fun p45 =>
        bnd p45.1 fun x46 =>
        if gS p45.2 x46 = 3 then
          some (Sum.inr (Sum.inr (x46, p45.2)))
        else none
    else
      bnd (fX2_next a0 s11v) fun p48 =>
      if gS p48 a0 = 2 then
        bnx (fX2_line a0 p48) (fun q51t => 
          some (Sum.inr (Sum.inr q51t))
        ) fun p49 =>
        some (Sum.inl p49)
      else none
  else none
def fX2_read (a0 : Nat) (a1 : Int32) (h0 : AH) : Option ((Option Nat × AH) ⊕ (Nat × AH)) :=
  if gS h0 a0 = 2 then
    lt (uI h0 a0 3 a1) fun h2 =>
    lt (uI h2 a0 4 0) fun h3 =>
    lt (nC h3 8 12) fun h4 =>
    bnd (fX8_init (gZ h3) h4) fun p5 =>
    if gS p5 a0 = 2 then
      lt (uR p5 a0 9 (some (gZ h3))) fun h7 =>
      bnd (fX2_next a0 h7) fun p8 =>
      if gS p8 a0 = 2 then
        bnx (fX2_line a0 p8) (fun q52t => 
          some (Sum.inr q52t)
        ) fun p9 =>
        iter (X2_read_L29 a0) FU p9
      else none
    else none
  else none
def fX1_war (a0 : Nat) (a1 : Int32) (h0 : AH) : Option (Int32 × AH) :=
  if gS h0 a0 = 1 then
    bnd (fX1_anew a0 h0) fun p1 =>
    if gS p1 a0 = 1 then
      bnd (fX1_in a1 0 (gI p1 a0 1) p1) fun p4 =>
      if ¬ p4 = 0 then
        lt (uI p1 a0 1 0) fun h6 =>
        lt (uI h6 a0 5 0) fun h7 =>
        bnd (gR h7 a0 2) fun x8 =>
        if gS h7 x8 = 2 then
          bnx (fX2_read x8 a1 h7) (fun q12t => 
            if gS q12t.2 q12t.1 = 3 then
              if gS q12t.2 a0 = 1 then
                lt (uI q12t.2 a0 5 (gI q12t.2 q12t.1 6)) fun h15 =>
                lt (uI h15 a0 6 (gI h15 q12t.1 7)) fun h16 =>
                bnd (fX1_no a0 4 h16) fun p17 =>
                some (p17.1, p17.2)
              else none
            else none
          ) fun p9 =>
          bnd p9.1 fun x11 =>
          if gS p9.2 a0 = 1 then
            lt (uR p9.2 a0 3 (some x11)) fun h19 =>
            bnd (gR h19 a0 9) fun x20 =>
            bnd (gR h19 a0 3) fun x21 =>
            if gS h19 x20 = 4 then
              bnd (fX4_begin x20 x21 h19) fun p22 =>
              if gS p22 a0 = 1 then
                lt (uI p22 a0 8 0) fun h25 =>
                lt (uI h25 a0 7 0) fun h26 =>
                bnd (gR h26 a0 3) fun x27 =>
                if gS h26 x27 = 8 then
                  some (gI h26 x27 8, h26)
                else none
              else none
            else none
          else none
        else none
      else
        bnd (fX1_no a0 2 p1) fun p29 =>
        some (p29.1, p29.2)
    else none
  else none
def X1_weeks_L34 (a0 : Nat) (a1 : Int32) (s8v : Int32 × AH) : Option ((Int32 × AH) ⊕ (Int32 × AH)) :=
  if 30 < s8v.1 then
    some (Sum.inr ((-2), s8v.2))
  else
    if gS s8v.2 a0 = 1 then
      bnd (fX1_isHeld a0 a1 s8v.1 s8v.2) fun p10 =>
      if p10.1 = 0 then
        some (Sum.inl (s8v.1 + 1, p10.2))
      else
        some (Sum.inr (s8v.1, p10.2))
    else none
def fX1_weeks (a0 : Nat) (a1 : Int32) (h0 : AH) : Option (Int32 × AH) :=
  if gS h0 a0 = 1 then
    bnd (fX1_anew a0 h0) fun p1 =>
    if gS p1 a0 = 1 then
      bnd (fX1_isLane a0 a1 p1) fun p3 =>
      if ¬ p3 = 0 then
        bnd (fX1_isHorse a0 a1 p1) fun p6 =>
        if ¬ p6 = 0 then
          iter (X1_weeks_L34 a0 a1) FU (0, p1)
        else
          bnd (fX1_no a0 5 p1) fun p13 =>
          some (p13.1, p13.2)
      else
        bnd (fX1_no a0 1 p1) fun p14 =>
        some (p14.1, p14.2)
    else none
  else none
def fX1_where (a0 : Nat) (h0 : AH) : Option (Int32) :=
  if gS h0 a0 = 1 then
    if ¬ (gI h0 a0 4) = 4 then
      some (-1)
    else
      some (gI h0 a0 6)
  else none
def fX1_won (a0 : Nat) (a1 : Int32) (a2 : Int32) (h0 : AH) : Option (Int32 × AH) :=
  if gS h0 a0 = 1 then
    bnd (fX1_anew a0 h0) fun p1 =>
    if gS p1 a0 = 1 then
      ons (gR p1 a0 3) (
        bnd (fX1_battleWhy a0 0 a1 a2 p1) fun p10 =>
        if p10.1 = 0 then
          if gS p10.2 a0 = 1 then
            some (gI p10.2 a0 22, p10.2)
          else none
        else
          if gS p10.2 a0 = 1 then
            bnd (fX1_no a0 p10.1 p10.2) fun p13 =>
            some (p13.1, p13.2)
          else none
      ) fun x4 =>
      bnd (fX1_battleWhy a0 1 a1 a2 p1) fun p5 =>
      if p5.1 = 0 then
        if gS p5.2 a0 = 1 then
          some (gI p5.2 a0 22, p5.2)
        else none
      else
        if gS p5.2 a0 = 1 then
          bnd (fX1_no a0 p5.1 p5.2) fun p8 =>
          some (p8.1, p8.2)
        else none
    else none
  else none
def X1_worst_j74 (s5v : Int32 × Int64 × Int32) (j17 : Int32) (j18 : Int64) : Option ((Int32 × Int64 × Int32) ⊕ (Int32)) :=
  some (Sum.inl (j17, j18, s5v.2.2 + 1))
def X1_worst_L25 (a0 : Nat) (p1 : AH) (s5v : Int32 × Int64 × Int32) : Option ((Int32 × Int64 × Int32) ⊕ (Int32)) :=
  bnd (gR p1 a0 3) fun x6 =>
  if gS p1 x6 = 8 then
    if (gI p1 x6 8) ≤ s5v.2.2 then
      some (Sum.inr s5v.1)
    else
      bnd (gR p1 a0 9) fun x9 =>
      bnd (gR p1 a0 9) fun x10 =>
      if gS p1 x10 = 4 then
        bnd (gR p1 x10 0) fun x12 =>
        if gS p1 x12 = 101 then
          if inb s5v.2.2 (gN p1 x12) then
            if gS p1 x9 = 4 then
              bnd (fX4_meanOwn x9 s5v.2.2 (gI p1 x12 (ix s5v.2.2)) p1) fun p15 =>
              if s5v.2.1 < p15 then
                X1_worst_j74 s5v s5v.2.2 p15
              else
                X1_worst_j74 s5v s5v.1 s5v.2.1
            else none
          else none
        else none
      else none
  else none
def fX1_worst (a0 : Nat) (h0 : AH) : Option (Int32 × AH) :=
  if gS h0 a0 = 1 then
    bnd (fX1_anew a0 h0) fun p1 =>
    if gS p1 a0 = 1 then
      ons (gR p1 a0 3) (
        bnd (fX1_no a0 1 p1) fun p20 =>
        some (p20.1, p20.2)
      ) fun x4 =>
      bnd (iter (X1_worst_L25 a0 p1) FU ((-2), 0, 0)) fun r5v =>
      some (r5v, p1)
    else none
  else none
def X1_worstPass_j143 (s10v : Int32 × Int32 × Int32 × Int32) (p23 : Int32) (j25 : Int32) (j26 : Int32) : Option ((Int32 × Int32 × Int32 × Int32) ⊕ (Int32)) :=
  some (Sum.inl (j25, j26, s10v.2.2.1 - p23, s10v.2.2.2 + 1))
def X1_worstPass_L53 (a0 : Nat) (p8 : Int32 × AH) (s10v : Int32 × Int32 × Int32 × Int32) : Option ((Int32 × Int32 × Int32 × Int32) ⊕ (Int32)) :=
  if gS p8.2 a0 = 1 then
    bnd (gR p8.2 a0 13) fun x12 =>
    if gS p8.2 x12 = 6 then
      bnd (fX6_size x12 p8.2) fun p13 =>
      if p13 ≤ s10v.2.2.2 then
        some (Sum.inr s10v.1)
      else
        bnd (gR p8.2 a0 3) fun x16 =>
        bnd (gR p8.2 a0 13) fun x17 =>
        if gS p8.2 x17 = 6 then
          bnd (fX6_at x17 (s10v.2.2.2 - 1) p8.2) fun p18 =>
          bnd (gR p8.2 a0 13) fun x20 =>
          if gS p8.2 x20 = 6 then
            bnd (fX6_at x20 s10v.2.2.2 p8.2) fun p21 =>
            if gS p8.2 x16 = 8 then
              bnd (fX8_lost x16 p18 p21 s10v.2.2.1 p8.2) fun p23 =>
              if s10v.2.1 < p23 then
                bnd (gR p8.2 a0 13) fun x28 =>
                if gS p8.2 x28 = 6 then
                  bnd (fX6_at x28 (s10v.2.2.2 - 1) p8.2) fun p29 =>
                  bnd (gR p8.2 a0 13) fun x31 =>
                  if gS p8.2 x31 = 6 then
                    bnd (fX6_at x31 s10v.2.2.2 p8.2) fun p32 =>
                    X1_worstPass_j143 s10v p23 ((10 * p29) + p32) p23
                  else none
                else none
              else
                X1_worstPass_j143 s10v p23 s10v.1 s10v.2.1
            else none
          else none
        else none
    else none
  else none
def fX1_worstPass (a0 : Nat) (a1 : Int32) (a2 : Int32) (a3 : Int32) (h0 : AH) : Option (Int32 × AH) :=
  if gS h0 a0 = 1 then
    bnd (fX1_anew a0 h0) fun p1 =>
    if gS p1 a0 = 1 then
      bnd (fX1_marchWhy a0 a1 a2 a3 p1) fun p3 =>
      if p3 = 0 then
        bnd (gR p1 a0 13) fun x6 =>
        bnd (gR p1 a0 3) fun x7 =>
        if gS p1 x6 = 6 then
          bnd (fX6_seek x6 x7 a1 a2 a3 p1) fun p8 =>
          bnd (iter (X1_worstPass_L53 a0 p8) FU ((-2), 0, a3, 1)) fun r10v =>
          some (r10v, p8.2)
        else none
      else
        bnd (fX1_no a0 p3 p1) fun p34 =>
        some (p34.1, p34.2)
    else none
  else none
def X1_worth_j43 (a0 : Nat) (p1 : AH) : Option (Int64 × AH) :=
  bnd (fX1_none a0 1 p1) fun p5 =>
  some (p5.1, p5.2)
def fX1_worth (a0 : Nat) (a1 : Int32) (a2 : Int32) (a3 : Int32) (h0 : AH) : Option (Int64 × AH) :=
  if gS h0 a0 = 1 then
    bnd (fX1_anew a0 h0) fun p1 =>
    if gS p1 a0 = 1 then
      bnd (fX1_isBeast a0 a1 p1) fun p3 =>
      if p3 = 0 then
        X1_worth_j43 a0 p1 
      else
        bnd (fX1_isLane a0 a2 p1) fun p7 =>
        if p7 = 0 then
          X1_worth_j43 a0 p1 
        else
          bnd (gR p1 a0 9) fun x9 =>
          if gS p1 x9 = 4 then
            bnd (fX4_worth x9 a1 a2 p1) fun p10 =>
            bnd (gR p1 a0 9) fun x12 =>
            if gS p1 x12 = 4 then
              bnd (fX4_of x12 p1) fun p13 =>
              bnd (fX1_lowest p10 p13 a3 p1) fun p15 =>
              some (p15, p1)
            else none
          else none
    else none
  else none
def X1_worthIf_j20 (a0 : Nat) (p1 : AH) : Option (Int64 × AH) :=
  bnd (fX1_none a0 1 p1) fun p5 =>
  some (p5.1, p5.2)
def fX1_worthIf (a0 : Nat) (a1 : Int32) (a2 : Int32) (a3 : Int32) (a4 : Int32) (h0 : AH) : Option (Int64 × AH) :=
  if gS h0 a0 = 1 then
    bnd (fX1_anew a0 h0) fun p1 =>
    if gS p1 a0 = 1 then
      bnd (fX1_isBeast a0 a1 p1) fun p3 =>
      if p3 = 0 then
        X1_worthIf_j20 a0 p1 
      else
        bnd (fX1_isLane a0 a2 p1) fun p7 =>
        if ¬ p7 = 0 then
          bnd (gR p1 a0 11) fun x9 =>
          bnd (gR p1 a0 9) fun x10 =>
          if gS p1 x9 = 4 then
            bnd (fX4_become x9 x10 p1) fun p11 =>
            if gS p11 a0 = 1 then
              bnd (gR p11 a0 11) fun x14 =>
              if a3 = 0 ∨ a3 = 1 then
                if gS p11 x14 = 4 then
                  lt (uI p11 x14 6 a3) fun h17 =>
                  bnd (gR h17 a0 11) fun x18 =>
                  if gS h17 x18 = 4 then
                    bnd (fX4_worth x18 a1 a2 h17) fun p19 =>
                    bnd (gR h17 a0 11) fun x21 =>
                    if gS h17 x21 = 4 then
                      bnd (fX4_of x21 h17) fun p22 =>
                      bnd (fX1_lowest p19 p22 a4 h17) fun p24 =>
                      some (p24, h17)
                    else none
                  else none
                else none
              else none
            else none
          else none
        else
          X1_worthIf_j20 a0 p1 
    else none
  else none
def fX1_wound (a0 : Nat) (a1 : Int32) (a2 : Int32) (h0 : AH) : Option (Int32 × AH) :=
  if gS h0 a0 = 1 then
    bnd (fX1_anew a0 h0) fun p1 =>
    if gS p1 a0 = 1 then
      bnd (fX1_isBeast a0 a1 p1) fun p3 =>
      if ¬ p3 = 0 then
        bnd (fX1_in a2 1 30 p1) fun p6 =>
        if ¬ p6 = 0 then
          bnd (gR p1 a0 9) fun x8 =>
          if gS p1 x8 = 4 then
            bnd (fX4_isDead x8 a1 p1) fun p9 =>
            if p9 = 0 then
              bnd (fX1_note a0 p1) fun p12 =>
              if gS p12 a0 = 1 then
                bnd (gR p12 a0 9) fun x14 =>
                if gS p12 x14 = 4 then
                  bnd (gR p12 x14 1) fun x16 =>
                  if gS p12 x16 = 101 then
                    if inb a1 (gN p12 x16) then
                      if inb a1 (gN p12 x16) then
                        lt (uI p12 x16 (ix a1) ((gI p12 x16 (ix a1)) + a2)) fun h20 =>
                        bnd (fX1_done a0 h20) fun p21 =>
                        if gS p21.2 a0 = 1 then
                          bnd (gR p21.2 a0 9) fun x23 =>
                          if gS p21.2 x23 = 4 then
                            bnd (fX4_force x23 a1 p21.2) fun p24 =>
                            some (p24, p21.2)
                          else none
                        else none
                      else none
                    else none
                  else none
                else none
              else none
            else
              bnd (fX1_no a0 5 p1) fun p26 =>
              some (p26.1, p26.2)
          else none
        else
          bnd (fX1_no a0 2 p1) fun p27 =>
          some (p27.1, p27.2)
      else
        bnd (fX1_no a0 1 p1) fun p28 =>
        some (p28.1, p28.2)
    else none
  else none
def fX0_led (a0 : Nat) (a1 : Int32) (a2 : Nat) (h0 : AH) : Option (Int32 × AH) :=
  if gS h0 a0 = 1 then
    bnx (fX1_led a0 a1 h0) (fun q6t => 
      some (1, q6t.2)
    ) fun p1 =>
    if gS p1.2 a2 = 104 then
      if inb 0 (gN p1.2 a2) then
        lt (uL p1.2 a2 (ix 0) p1.1.toInt64) fun h5 =>
        some (0, h5)
      else none
    else none
  else none
def fX7_init (a0 : Nat) (h0 : AH) : Option (AH) :=
  if gS h0 a0 = 7 then
    lt (uI h0 a0 2 (-1)) fun h2 =>
    lt (nC h2 102 (ix 900)) fun h3 =>
    if gS h3 a0 = 7 then
      lt (uR h3 a0 5 (some (gZ h2))) fun h5 =>
      lt (nC h5 101 (ix 19)) fun h6 =>
      if gS h6 a0 = 7 then
        lt (uR h6 a0 16 (some (gZ h5))) fun h8 =>
        lt (nC h8 101 (ix 19)) fun h9 =>
        if gS h9 a0 = 7 then
          lt (uR h9 a0 17 (some (gZ h8))) fun h11 =>
          lt (nC h11 101 (ix 304)) fun h12 =>
          if gS h12 a0 = 7 then
            lt (uR h12 a0 18 (some (gZ h11))) fun h14 =>
            lt (nC h14 101 (ix 57)) fun h15 =>
            if gS h15 a0 = 7 then
              lt (uR h15 a0 19 (some (gZ h14))) fun h17 =>
              lt (nC h17 101 (ix 5)) fun h18 =>
              if gS h18 a0 = 7 then
                lt (uR h18 a0 22 (some (gZ h17))) fun h20 =>
                lt (nC h20 101 (ix 5)) fun h21 =>
                if gS h21 a0 = 7 then
                  lt (uR h21 a0 23 (some (gZ h20))) fun h23 =>
                  lt (nC h23 101 (ix 6)) fun h24 =>
                  if gS h24 a0 = 7 then
                    lt (uR h24 a0 25 (some (gZ h23))) fun h26 =>
                    lt (nC h26 101 (ix 6)) fun h27 =>
                    if gS h27 a0 = 7 then
                      lt (uR h27 a0 26 (some (gZ h26))) fun h29 =>
                      lt (nC h29 101 (ix 6)) fun h30 =>
                      if gS h30 a0 = 7 then
                        lt (uR h30 a0 27 (some (gZ h29))) fun h32 =>
                        lt (nC h32 101 (ix 5)) fun h33 =>
                        if gS h33 a0 = 7 then
                          lt (uR h33 a0 30 (some (gZ h32))) fun h35 =>
                          some h35
                        else none
                      else none
                    else none
                  else none
                else none
              else none
            else none
          else none
        else none
      else none
    else none
  else none
def X7_common_L17 (s2v : Int64 × Int64) : Option ((Int64 × Int64) ⊕ (Int64)) :=
  if s2v.2 = 0 then
    some (Sum.inr s2v.1)
  else
    if ¬ s2v.2 = 0 then
      some (Sum.inl (s2v.2, s2v.1 - s2v.1 / s2v.2 * s2v.2))
    else none
def X7_common_j12 (a1 : Int64) (j1 : Int64) : Option (Int64) :=
  bnd (iter (X7_common_L17) FU (j1, a1)) fun r2v =>
  some r2v
def fX7_common (a0 : Int64) (a1 : Int64) (h0 : AH) : Option (Int64) :=
  if 0 ≤ a0 then
    X7_common_j12 a1 a0
  else
    X7_common_j12 a1 (-a0)
def fX7_good (a0 : Nat) (a1 : Int32) (h0 : AH) : Option (Int32 × AH) :=
  if gS h0 a0 = 7 then
    lt (uI h0 a0 1 0) fun h2 =>
    lt (uI h2 a0 2 (-1)) fun h3 =>
    some (a1, h3)
  else none
def X7_fraction_j16 (a1 : Int64) (a2 : Int64) (p1 : Int32 × AH) (j3 : Int64) : Option (Int64 × AH) :=
  bnd (fX7_common a1 a2 p1.2) fun p4 =>
  if ¬ p4 = 0 then
    some (j3 / p4, p1.2)
  else none
def fX7_fraction (a0 : Nat) (a1 : Int64) (a2 : Int64) (a3 : Int32) (h0 : AH) : Option (Int64 × AH) :=
  if gS h0 a0 = 7 then
    bnd (fX7_good a0 0 h0) fun p1 =>
    if a3 = 0 then
      X7_fraction_j16 a1 a2 p1 a1
    else
      X7_fraction_j16 a1 a2 p1 a2
  else none
def fX7_holdBy (a0 : Nat) (a1 : Int32) (a2 : Int32) (a3 : Int32) (h0 : AH) : Option (Int32) :=
  if gS h0 a0 = 7 then
    bnd (gR h0 a0 3) fun x2 =>
    if gS h0 x2 = 19 then
      bnd (gR h0 x2 10) fun x4 =>
      if gS h0 x4 = 101 then
        if inb a1 (gN h0 x4) then
          if (gI h0 x4 (ix a1)) < 1 ∨ 3 < (gI h0 x4 (ix a1)) then
            some a2
          else if (gI h0 x4 (ix a1)) = 1 then
            if a2 ≤ 20 then
              some 0
            else
              some (a2 - 20)
          else if (gI h0 x4 (ix a1)) = 2 then
            if 80 ≤ a2 then
              some 100
            else
              some (a2 + 20)
          else if (gI h0 x4 (ix a1)) = 3 then
            if a3 = 0 then
              some a2
            else
              some (a2 / 2)
          else none
        else none
      else none
    else none
  else none
def X7_holdOf_j27 (a0 : Nat) (a1 : Int32) (h0 : AH) (x4 : Nat) (j10 : Int32) : Option (Int32) :=
  bnd (fX7_holdBy a0 a1 (gI h0 x4 (ix a1)) j10 h0) fun p11 =>
  some p11
def fX7_holdOf (a0 : Nat) (a1 : Int32) (h0 : AH) : Option (Int32) :=
  if gS h0 a0 = 7 then
    bnd (gR h0 a0 3) fun x2 =>
    if gS h0 x2 = 19 then
      bnd (gR h0 x2 12) fun x4 =>
      if gS h0 x4 = 101 then
        if inb a1 (gN h0 x4) then
          bnd (gR h0 a0 16) fun x7 =>
          if gS h0 x7 = 101 then
            if inb 17 (gN h0 x7) then
              if ¬ (gI h0 x7 (ix 17)) = 1 then
                X7_holdOf_j27 a0 a1 h0 x4 0
              else
                X7_holdOf_j27 a0 a1 h0 x4 1
            else none
          else none
        else none
      else none
    else none
  else none
def fX7_bit (a0 : Int32) (a1 : Int32) (h0 : AH) : Option (Int32) :=
  if ¬ ((a0 >>> (a1 &&& 31)) &&& 1) = 1 then
    some 0
  else
    some 1
def fX7_isDead (a0 : Nat) (a1 : Int32) (h0 : AH) : Option (Int32) :=
  if gS h0 a0 = 7 then
    bnd (gR h0 a0 16) fun x2 =>
    if gS h0 x2 = 101 then
      if inb 10 (gN h0 x2) then
        bnd (fX7_bit (gI h0 x2 (ix 10)) a1 h0) fun p5 =>
        if p5 = 0 ∨ p5 = 1 then
          some p5
        else none
      else none
    else none
  else none
def X7_power_L5 (a0 : Int64) (a1 : Int32) (s1v : Int64 × Int32) : Option ((Int64 × Int32) ⊕ (Int64)) :=
  if a1 ≤ s1v.2 then
    some (Sum.inr s1v.1)
  else
    some (Sum.inl (s1v.1 * a0, s1v.2 + 1))
def fX7_power (a0 : Int64) (a1 : Int32) (h0 : AH) : Option (Int64) :=
  bnd (iter (X7_power_L5 a0 a1) FU (1, 0)) fun r1v =>
  some r1v
def fX7_holds (a0 : Nat) (a1 : Int32) (h0 : AH) : Option (Int64) :=
  if gS h0 a0 = 7 then
    bnd (fX7_isDead a0 a1 h0) fun p1 =>
    if p1 = 0 then
      bnd (fX7_holdOf a0 a1 h0) fun p4 =>
      bnd (gR h0 a0 3) fun x5 =>
      if gS h0 x5 = 19 then
        bnd (fX7_power p4.toInt64 (gI h0 x5 1) h0) fun p7 =>
        some p7
      else none
    else
      some 0
  else none
def fX7_isBeast (a0 : Nat) (a1 : Int32) (h0 : AH) : Option (Int32) :=
  if gS h0 a0 = 7 then
    ons (gR h0 a0 3) (
      some 0
    ) fun x2 =>
    if a1 < 0 then
      some 0
    else
      bnd (gR h0 a0 3) fun x4 =>
      if gS h0 x4 = 19 then
        if (gI h0 x4 3) ≤ a1 then
          some 0
        else
          some 1
      else none
  else none
def fX7_refused (a0 : Nat) (a1 : Int32) (h0 : AH) : Option (Int32 × AH) :=
  if gS h0 a0 = 7 then
    lt (uI h0 a0 1 a1) fun h2 =>
    lt (uI h2 a0 2 (-1)) fun h3 =>
    some ((-1), h3)
  else none
def fX7_whole (a0 : Nat) (h0 : AH) : Option (Int64) :=
  if gS h0 a0 = 7 then
    bnd (gR h0 a0 3) fun x2 =>
    if gS h0 x2 = 19 then
      bnd (fX7_power 100 (gI h0 x2 1) h0) fun p4 =>
      some p4
    else none
  else none
def fX7_across (a0 : Nat) (a1 : Int32) (a2 : Int32) (h0 : AH) : Option (Int64 × AH) :=
  if gS h0 a0 = 7 then
    lt (uI h0 a0 0 0) fun h2 =>
    bnd (fX7_isBeast a0 a1 h2) fun p3 =>
    if p3 = 0 then
      bnd (fX7_refused a0 1 h2) fun p5 =>
      some (p5.1.toInt64, p5.2)
    else
      bnd (fX7_holds a0 a1 h2) fun p6 =>
      bnd (fX7_whole a0 h2) fun p7 =>
      bnd (fX7_fraction a0 p6 p7 a2 h2) fun p8 =>
      some (p8.1, p8.2)
  else none
def X7_forceOf_j65 (a0 : Nat) (a1 : Int32) (h0 : AH) (j9 : Int32) : Option (Int32) :=
  bnd (gR h0 a0 16) fun x10 =>
  if gS h0 x10 = 101 then
    if inb (5 + a1) (gN h0 x10) then
      if (j9 - (gI h0 x10 (ix (5 + a1)))) ≤ 0 then
        some 0
      else
        some (j9 - (gI h0 x10 (ix (5 + a1))))
    else none
  else none
def fX7_forceOf (a0 : Nat) (a1 : Int32) (h0 : AH) : Option (Int32) :=
  if gS h0 a0 = 7 then
    bnd (fX7_isDead a0 a1 h0) fun p1 =>
    if p1 = 0 then
      bnd (gR h0 a0 3) fun x4 =>
      if gS h0 x4 = 19 then
        bnd (gR h0 x4 10) fun x6 =>
        if gS h0 x6 = 101 then
          if inb a1 (gN h0 x6) then
            if ¬ (gI h0 x6 (ix a1)) = 1 then
              bnd (gR h0 a0 3) fun x15 =>
              if gS h0 x15 = 19 then
                bnd (gR h0 x15 10) fun x17 =>
                if gS h0 x17 = 101 then
                  if inb a1 (gN h0 x17) then
                    if ¬ (gI h0 x17 (ix a1)) = 2 then
                      bnd (gR h0 a0 3) fun x21 =>
                      if gS h0 x21 = 19 then
                        bnd (gR h0 x21 10) fun x23 =>
                        if gS h0 x23 = 101 then
                          if inb a1 (gN h0 x23) then
                            if ¬ (gI h0 x23 (ix a1)) = 3 then
                              X7_forceOf_j65 a0 a1 h0 20
                            else
                              X7_forceOf_j65 a0 a1 h0 25
                          else none
                        else none
                      else none
                    else
                      X7_forceOf_j65 a0 a1 h0 30
                  else none
                else none
              else none
            else
              X7_forceOf_j65 a0 a1 h0 5
          else none
        else none
      else none
    else
      some 0
  else none
def fX7_harmBy (a0 : Nat) (a1 : Int32) (a2 : Int32) (a3 : Int32) (a4 : Int32) (h0 : AH) : Option (Int32) :=
  if gS h0 a0 = 7 then
    bnd (fX7_forceOf a0 a1 h0) fun p1 =>
    bnd (fX7_isDead a0 a1 h0) fun p3 =>
    if p3 = 0 then
      if a2 < 1 ∨ 3 < a2 then
        some 0
      else if a2 = 1 then
        bnd (gR h0 a0 3) fun x7 =>
        if gS h0 x7 = 19 then
          bnd (gR h0 x7 10) fun x9 =>
          if gS h0 x9 = 101 then
            if inb a1 (gN h0 x9) then
              if ¬ (gI h0 x9 (ix a1)) = 2 then
                if a4 = 0 then
                  some 0
                else
                  some p1
              else
                if a4 = 0 then
                  some 10
                else
                  some 0
            else none
          else none
        else none
      else if a2 = 2 then
        if p1 ≤ a3 then
          if a4 = 0 then
            some (p1 / 2)
          else
            some p1
        else
          if a4 = 0 then
            some a3
          else
            some 0
      else if a2 = 3 then
        if a4 = 0 then
          if 8 ≤ a3 then
            if p1 ≤ a3 then
              some 0
            else
              some (p1 - a3)
          else
            some 15
        else
          some 0
      else none
    else
      some 0
  else none
def X7_holdsOn_L2 (a0 : Nat) (a1 : Nat) (a2 : Int32) (s1v : Int32 × AH) : Option ((Int32 × AH) ⊕ (Int32 × AH)) :=
  if gS s1v.2 a0 = 7 then
    bnd (gR s1v.2 a0 3) fun x3 =>
    if gS s1v.2 x3 = 19 then
      if (gI s1v.2 x3 1) ≤ s1v.1 then
        some (Sum.inr (1, s1v.2))
      else
        if gS s1v.2 a1 = 101 then
          if inb 18 (gN s1v.2 a1) then
            if inb 18 (gN s1v.2 a1) then
              lt (uI s1v.2 a1 (ix 18) ((((75 * ((gI s1v.2 a1 (ix 18)).toInt64)) + 74) - ((75 * ((gI s1v.2 a1 (ix 18)).toInt64)) + 74) / 65537 * 65537).toInt32)) fun h9 =>
              if inb 18 (gN h9 a1) then
                bnd (fX7_holdOf a0 a2 h9) fun p11 =>
                if ((gI h9 a1 (ix 18)) - (gI h9 a1 (ix 18)) / 100 * 100) < p11 then
                  some (Sum.inl (s1v.1 + 1, h9))
                else
                  some (Sum.inr (0, h9))
              else none
            else none
          else none
        else none
    else none
  else none
def fX7_holdsOn (a0 : Nat) (a1 : Nat) (a2 : Int32) (h0 : AH) : Option (Int32 × AH) :=
  iter (X7_holdsOn_L2 a0 a1 a2) FU (0, h0)
def X7_fights_j192 (s5v : Int32 × AH) (h11 : AH) : Option ((Int32 × AH) ⊕ (AH)) :=
  some (Sum.inl (s5v.1 + 1, h11))
def X7_fights_j191 (a1 : Nat) (s5v : Int32 × AH) (p13 : Int32 × AH) (h34 : AH) (j42 : Int32) : Option ((Int32 × AH) ⊕ (AH)) :=
  if inb (11 + (gI p13.2 a1 (ix (0 + s5v.1)))) (gN h34 a1) then
    lt (uI h34 a1 (ix (11 + (gI p13.2 a1 (ix (0 + s5v.1))))) j42) fun h44 =>
    X7_fights_j192 s5v h44
  else none
def X7_fights_L17 (a0 : Nat) (a1 : Nat) (s5v : Int32 × AH) : Option ((Int32 × AH) ⊕ (AH)) :=
  if gS s5v.2 a0 = 7 then
    bnd (gR s5v.2 a0 3) fun x7 =>
    if gS s5v.2 x7 = 19 then
      if (gI s5v.2 x7 3) ≤ s5v.1 then
        some (Sum.inr s5v.2)
      else
        bnd (fX7_isDead a0 s5v.1 s5v.2) fun p10 =>
        if p10 = 0 then
          bnd (fX7_holdsOn a0 a1 s5v.1 s5v.2) fun p13 =>
          if ¬ p13.1 = 0 then
            if gS p13.2 a1 = 101 then
              if inb (0 + s5v.1) (gN p13.2 a1) then
                if gS p13.2 a0 = 7 then
                  bnd (gR p13.2 a0 3) fun x18 =>
                  if gS p13.2 x18 = 19 then
                    bnd (gR p13.2 x18 8) fun x20 =>
                    if gS p13.2 x20 = 101 then
                      if inb (gI p13.2 a1 (ix (0 + s5v.1))) (gN p13.2 x20) then
                        if inb (11 + (gI p13.2 a1 (ix (0 + s5v.1)))) (gN p13.2 a1) then
                          bnd (fX7_harmBy a0 s5v.1 (gI p13.2 x20 (ix (gI p13.2 a1 (ix (0 + s5v.1))))) (gI p13.2 a1 (ix (11 + (gI p13.2 a1 (ix (0 + s5v.1)))))) 0 p13.2) fun p24 =>
                          bnd (gR p13.2 a0 3) fun x25 =>
                          if gS p13.2 x25 = 19 then
                            bnd (gR p13.2 x25 8) fun x27 =>
                            if gS p13.2 x27 = 101 then
                              if inb (gI p13.2 a1 (ix (0 + s5v.1))) (gN p13.2 x27) then
                                if inb (11 + (gI p13.2 a1 (ix (0 + s5v.1)))) (gN p13.2 a1) then
                                  bnd (fX7_harmBy a0 s5v.1 (gI p13.2 x27 (ix (gI p13.2 a1 (ix (0 + s5v.1))))) (gI p13.2 a1 (ix (11 + (gI p13.2 a1 (ix (0 + s5v.1)))))) 1 p13.2) fun p31 =>
                                  lt (uI p13.2 a0 33 ((gI p13.2 a0 33) + p31)) fun h32 =>
                                  lt (uI h32 a0 32 ((gI h32 a0 32) + p24)) fun h33 =>
                                  lt (uI h33 a0 34 ((gI h33 a0 34) ||| (1 <<< (s5v.1 &&& 31)))) fun h34 =>
                                  bnd (gR h34 a0 3) fun x35 =>
                                  if gS h34 x35 = 19 then
                                    bnd (gR h34 x35 8) fun x37 =>
                                    if gS h34 x37 = 101 then
                                      if inb (gI p13.2 a1 (ix (0 + s5v.1))) (gN h34 x37) then
                                        if ¬ (gI h34 x37 (ix (gI p13.2 a1 (ix (0 + s5v.1))))) = 2 then
                                          X7_fights_j192 s5v h34
                                        else
                                          if inb (11 + (gI p13.2 a1 (ix (0 + s5v.1)))) (gN h34 a1) then
                                            if (gI h34 a1 (ix (11 + (gI p13.2 a1 (ix (0 + s5v.1)))))) ≤ p24 then
                                              X7_fights_j191 a1 s5v p13 h34 0
                                            else
                                              if inb (11 + (gI p13.2 a1 (ix (0 + s5v.1)))) (gN h34 a1) then
                                                X7_fights_j191 a1 s5v p13 h34 ((gI h34 a1 (ix (11 + (gI p13.2 a1 (ix (0 + s5v.1)))))) - p24)
                                              else none
                                          else none
                                      else none
                                    else none
                                  else none
                                else none
                              else none
                            else none
                          else none
                        else none
                      else none
                    else none
                  else none
                else none
              else none
            else none
          else
            if gS p13.2 a0 = 7 then
              bnd (fX7_forceOf a0 s5v.1 p13.2) fun p48 =>
              lt (uI p13.2 a0 33 ((gI p13.2 a0 33) + (p48 / 2))) fun h49 =>
              X7_fights_j192 s5v h49
            else none
        else
          X7_fights_j192 s5v s5v.2
    else none
  else none
def fX7_fights (a0 : Nat) (a1 : Nat) (h0 : AH) : Option (AH) :=
  if gS h0 a0 = 7 then
    lt (uI h0 a0 32 0) fun h2 =>
    lt (uI h2 a0 33 0) fun h3 =>
    lt (uI h3 a0 34 0) fun h4 =>
    bnd (iter (X7_fights_L17 a0 a1) FU (0, h4)) fun r5v =>
    some r5v
  else none
def X7_tries_L2 (a0 : Nat) (s1v : Int32 × AH) : Option ((Int32 × AH) ⊕ (AH)) :=
  if 19 ≤ s1v.1 then
    some (Sum.inr s1v.2)
  else
    if gS s1v.2 a0 = 7 then
      bnd (gR s1v.2 a0 17) fun x4 =>
      bnd (gR s1v.2 a0 16) fun x5 =>
      if gS s1v.2 x5 = 101 then
        if inb s1v.1 (gN s1v.2 x5) then
          if gS s1v.2 x4 = 101 then
            if inb s1v.1 (gN s1v.2 x4) then
              lt (uI s1v.2 x4 (ix s1v.1) (gI s1v.2 x5 (ix s1v.1))) fun h10 =>
              some (Sum.inl (s1v.1 + 1, h10))
            else none
          else none
        else none
      else none
    else none
def fX7_tries (a0 : Nat) (h0 : AH) : Option (AH) :=
  bnd (iter (X7_tries_L2 a0) FU (0, h0)) fun r1v =>
  some r1v
def X7_fightsAll_j134 (a0 : Nat) (s6v : Int32 × Int32 × AH) (p16 : AH) (x18 : Nat) (h24 : AH) (j26 : Int32) : Option ((Int32 × Int32 × AH) ⊕ (AH)) :=
  lt (uI h24 a0 38 ((gI h24 a0 38) + j26)) fun h27 =>
  some (Sum.inl (gI p16 x18 (ix 18), s6v.2.1 + 1, h27))
def X7_fightsAll_j109 (a0 : Nat) (a3 : Int32) (s6v : Int32 × Int32 × AH) (p16 : AH) (x18 : Nat) (h22 : AH) (j23 : Int32) : Option ((Int32 × Int32 × AH) ⊕ (AH)) :=
  lt (uI h22 a0 37 ((gI h22 a0 37) + j23)) fun h24 =>
  bnd (fX7_bit (gI h24 a0 34) a3 h24) fun p25 =>
  if p25 = 0 then
    X7_fightsAll_j134 a0 s6v p16 x18 h24 0
  else
    X7_fightsAll_j134 a0 s6v p16 x18 h24 1
def X7_fightsAll_L26 (a0 : Nat) (a2 : Int32) (a3 : Int32) (s6v : Int32 × Int32 × AH) : Option ((Int32 × Int32 × AH) ⊕ (AH)) :=
  if a2 ≤ s6v.2.1 then
    some (Sum.inr s6v.2.2)
  else
    if gS s6v.2.2 a0 = 7 then
      bnd (fX7_tries a0 s6v.2.2) fun p8 =>
      if gS p8 a0 = 7 then
        bnd (gR p8 a0 17) fun x11 =>
        if gS p8 x11 = 101 then
          if inb 18 (gN p8 x11) then
            lt (uI p8 x11 (ix 18) s6v.1) fun h14 =>
            bnd (gR h14 a0 17) fun x15 =>
            bnd (fX7_fights a0 x15 h14) fun p16 =>
            if gS p16 a0 = 7 then
              bnd (gR p16 a0 17) fun x18 =>
              if gS p16 x18 = 101 then
                if inb 18 (gN p16 x18) then
                  lt (uI p16 a0 35 ((gI p16 a0 35) + (gI p16 a0 32))) fun h21 =>
                  lt (uI h21 a0 36 ((gI h21 a0 36) + (gI h21 a0 33))) fun h22 =>
                  if (gI h22 a0 32) ≤ (gI h22 a0 33) then
                    X7_fightsAll_j109 a0 a3 s6v p16 x18 h22 0
                  else
                    X7_fightsAll_j109 a0 a3 s6v p16 x18 h22 1
                else none
              else none
            else none
          else none
        else none
      else none
    else none
def fX7_fightsAll (a0 : Nat) (a1 : Int32) (a2 : Int32) (a3 : Int32) (h0 : AH) : Option (AH) :=
  if gS h0 a0 = 7 then
    lt (uI h0 a0 35 0) fun h2 =>
    lt (uI h2 a0 36 0) fun h3 =>
    lt (uI h3 a0 37 0) fun h4 =>
    lt (uI h4 a0 38 0) fun h5 =>
    bnd (iter (X7_fightsAll_L26 a0 a2 a3) FU (a1, 0, h5)) fun r6v =>
    some r6v
  else none
def fX7_in (a0 : Int32) (a1 : Int32) (a2 : Int32) (h0 : AH) : Option (Int32) :=
  if a0 < a1 then
    some 0
  else
    if a2 < a0 then
      some 0
    else
      some 1
def fX7_refusesBattles (a0 : Nat) (a1 : Int32) (a2 : Int32) (a3 : Int32) (h0 : AH) : Option (Int32) :=
  if ¬ a1 = 0 then
    bnd (fX7_in a2 0 65536 h0) fun p2 =>
    if p2 = 0 then
      some 2
    else
      bnd (fX7_in a3 1 90 h0) fun p4 =>
      if p4 = 0 then
        some 2
      else
        some 0
  else
    some 1
def fX7_acrossIn (a0 : Nat) (a1 : Int32) (a2 : Int32) (a3 : Int32) (h0 : AH) : Option (Int32 × AH) :=
  if gS h0 a0 = 7 then
    lt (uI h0 a0 0 0) fun h2 =>
    bnd (fX7_isBeast a0 a1 h2) fun p3 =>
    bnd (fX7_refusesBattles a0 p3 a2 a3 h2) fun p4 =>
    if p4 ≤ 0 then
      bnd (fX7_fightsAll a0 a2 a3 a1 h2) fun p6 =>
      if gS p6 a0 = 7 then
        bnd (fX7_good a0 (gI p6 a0 38) p6) fun p8 =>
        some (p8.1, p8.2)
      else none
    else
      bnd (fX7_refused a0 p4 h2) fun p9 =>
      some (p9.1, p9.2)
  else none
def X7_meanBy_j35 (a2 : Int32) (p1 : Int64) (j3 : Int64) : Option (Int64) :=
  some ((p1 * a2.toInt64) + j3)
def fX7_meanBy (a0 : Nat) (a1 : Int32) (a2 : Int32) (a3 : Int32) (h0 : AH) : Option (Int64) :=
  if gS h0 a0 = 7 then
    bnd (fX7_holds a0 a1 h0) fun p1 =>
    if a3 = 0 then
      X7_meanBy_j35 a2 p1 0
    else
      bnd (fX7_whole a0 h0) fun p5 =>
      bnd (fX7_holds a0 a1 h0) fun p6 =>
      bnd (fX7_forceOf a0 a1 h0) fun p7 =>
      X7_meanBy_j35 a2 p1 ((p5 - p6) * ((p7 / 2).toInt64))
  else none
def fX7_meetsIn (a0 : Nat) (a1 : Int32) (a2 : Int32) (a3 : Int32) (h0 : AH) : Option (Int32) :=
  if gS h0 a0 = 7 then
    bnd (gR h0 a0 3) fun x2 =>
    if gS h0 x2 = 19 then
      bnd (gR h0 x2 8) fun x4 =>
      if gS h0 x4 = 101 then
        if inb a2 (gN h0 x4) then
          bnd (gR h0 a0 16) fun x7 =>
          if gS h0 x7 = 101 then
            if inb (11 + a2) (gN h0 x7) then
              bnd (fX7_harmBy a0 a1 (gI h0 x4 (ix a2)) (gI h0 x7 (ix (11 + a2))) a3 h0) fun p10 =>
              some p10
            else none
          else none
        else none
      else none
    else none
  else none
def fX7_meanNow (a0 : Nat) (a1 : Int32) (a2 : Int32) (h0 : AH) : Option (Int64) :=
  if gS h0 a0 = 7 then
    bnd (gR h0 a0 16) fun x2 =>
    if gS h0 x2 = 101 then
      if inb (0 + a1) (gN h0 x2) then
        bnd (fX7_meetsIn a0 a1 (gI h0 x2 (ix (0 + a1))) a2 h0) fun p5 =>
        bnd (fX7_meanBy a0 a1 p5 a2 h0) fun p6 =>
        some p6
      else none
    else none
  else none
def X7_all_L24 (a0 : Nat) (a1 : Int32) (h2 : AH) (s4v : Int64 × Int32) : Option ((Int64 × Int32) ⊕ (Int64)) :=
  bnd (gR h2 a0 3) fun x5 =>
  if gS h2 x5 = 19 then
    if (gI h2 x5 3) ≤ s4v.2 then
      some (Sum.inr s4v.1)
    else
      bnd (fX7_meanNow a0 s4v.2 a1 h2) fun p8 =>
      some (Sum.inl (s4v.1 + p8, s4v.2 + 1))
  else none
def fX7_all (a0 : Nat) (a1 : Int32) (a2 : Int32) (h0 : AH) : Option (Int64 × AH) :=
  if gS h0 a0 = 7 then
    lt (uI h0 a0 0 0) fun h2 =>
    ons (gR h2 a0 3) (
      bnd (fX7_refused a0 1 h2) fun p11 =>
      some (p11.1.toInt64, p11.2)
    ) fun x3 =>
    bnd (iter (X7_all_L24 a0 a1 h2) FU (0, 0)) fun r4v =>
    bnd (fX7_whole a0 h2) fun p9 =>
    bnd (fX7_fraction a0 r4v p9 a2 h2) fun p10 =>
    some (p10.1, p10.2)
  else none
def fX7_leaves (a0 : Nat) (a1 : Int32) (h0 : AH) : Option (Int32) :=
  if gS h0 a0 = 7 then
    bnd (gR h0 a0 30) fun x2 =>
    if gS h0 x2 = 101 then
      if inb a1 (gN h0 x2) then
        bnd (gR h0 a0 30) fun x5 =>
        if gS h0 x5 = 101 then
          if inb a1 (gN h0 x5) then
            if (gI h0 x2 (ix a1)) ≤ ((gI h0 a0 31) - (gI h0 x5 (ix a1))) then
              bnd (gR h0 a0 30) fun x9 =>
              if gS h0 x9 = 101 then
                if inb a1 (gN h0 x9) then
                  some ((gI h0 a0 31) - (gI h0 x9 (ix a1)))
                else none
              else none
            else
              bnd (gR h0 a0 30) fun x12 =>
              if gS h0 x12 = 101 then
                if inb a1 (gN h0 x12) then
                  some (gI h0 x12 (ix a1))
                else none
              else none
          else none
        else none
      else none
    else none
  else none
def X7_turnedOf_j78 (s1v : Int32 × Int32) (j13 : Int32) : Option ((Int32 × Int32) ⊕ (Int32)) :=
  some (Sum.inl (j13, s1v.2 + 1))
def X7_turnedOf_L4 (a0 : Nat) (a1 : Int32) (h0 : AH) (s1v : Int32 × Int32) : Option ((Int32 × Int32) ⊕ (Int32)) :=
  if gS h0 a0 = 7 then
    bnd (gR h0 a0 3) fun x3 =>
    if gS h0 x3 = 19 then
      if (gI h0 x3 3) ≤ s1v.2 then
        some (Sum.inr s1v.1)
      else
        bnd (gR h0 a0 16) fun x6 =>
        if gS h0 x6 = 101 then
          if inb (0 + s1v.2) (gN h0 x6) then
            bnd (gR h0 a0 16) fun x9 =>
            if gS h0 x9 = 101 then
              if inb (0 + a1) (gN h0 x9) then
                bnd (fX7_isDead a0 a1 h0) fun p12 =>
                if ¬ p12 = 0 then
                  X7_turnedOf_j78 s1v s1v.1
                else
                  bnd (fX7_isDead a0 s1v.2 h0) fun p15 =>
                  if ¬ p15 = 0 then
                    X7_turnedOf_j78 s1v s1v.1
                  else
                    if ((gI h0 x6 (ix (0 + s1v.2))) - (gI h0 x9 (ix (0 + a1)))) < (-1) then
                      X7_turnedOf_j78 s1v s1v.1
                    else
                      if 1 < ((gI h0 x6 (ix (0 + s1v.2))) - (gI h0 x9 (ix (0 + a1)))) then
                        X7_turnedOf_j78 s1v s1v.1
                      else
                        bnd (fX7_holdOf a0 s1v.2 h0) fun p19 =>
                        if 50 ≤ p19 then
                          X7_turnedOf_j78 s1v s1v.1
                        else
                          X7_turnedOf_j78 s1v (s1v.1 ||| (1 <<< (s1v.2 &&& 31)))
              else none
            else none
          else none
        else none
    else none
  else none
def fX7_turnedOf (a0 : Nat) (a1 : Int32) (h0 : AH) : Option (Int32) :=
  bnd (iter (X7_turnedOf_L4 a0 a1 h0) FU (0, 0)) fun r1v =>
  some r1v
def X7_trumpets_L7 (a0 : Nat) (s3v : Int32 × AH) : Option ((Int32 × AH) ⊕ (AH)) :=
  if 5 ≤ s3v.1 then
    some (Sum.inr s3v.2)
  else
    if gS s3v.2 a0 = 7 then
      bnd (gR s3v.2 a0 30) fun x6 =>
      if gS s3v.2 x6 = 101 then
        if inb s3v.1 (gN s3v.2 x6) then
          lt (uI s3v.2 x6 (ix s3v.1) 0) fun h9 =>
          some (Sum.inl (s3v.1 + 1, h9))
        else none
      else none
    else none
def X7_trumpets_j73 (s15v : Int32 × Int32) (j20 : Int32) : Option ((Int32 × Int32) ⊕ (Int32)) :=
  some (Sum.inl (s15v.1 ||| j20, s15v.2 + 1))
def X7_trumpets_L44 (a0 : Nat) (s10v : Int32 × AH) (s15v : Int32 × Int32) : Option ((Int32 × Int32) ⊕ (Int32)) :=
  bnd (gR s10v.2 a0 3) fun x16 =>
  if gS s10v.2 x16 = 19 then
    if (gI s10v.2 x16 3) ≤ s15v.2 then
      some (Sum.inr s15v.1)
    else
      bnd (fX7_bit s10v.1 s15v.2 s10v.2) fun p19 =>
      if p19 = 0 then
        X7_trumpets_j73 s15v 0
      else
        bnd (fX7_turnedOf a0 s15v.2 s10v.2) fun p22 =>
        X7_trumpets_j73 s15v p22
  else none
def X7_trumpets_j158 (s10v : Int32 × AH) (h26 : AH) : Option ((Int32 × AH) ⊕ (AH)) :=
  some (Sum.inl (s10v.1 + 1, h26))
def X7_trumpets_j150 (s32v : Int32 × AH) (x37 : Nat) (j41 : Int32) : Option ((Int32 × AH) ⊕ (AH)) :=
  if inb s32v.1 (gN s32v.2 x37) then
    lt (uI s32v.2 x37 (ix s32v.1) ((gI s32v.2 x37 (ix s32v.1)) + j41)) fun h43 =>
    some (Sum.inl (s32v.1 + 1, h43))
  else none
def X7_trumpets_L119 (a0 : Nat) (s10v : Int32 × AH) (s32v : Int32 × AH) : Option ((Int32 × AH) ⊕ (AH)) :=
  if gS s32v.2 a0 = 7 then
    bnd (gR s32v.2 a0 3) fun x34 =>
    if gS s32v.2 x34 = 19 then
      if (gI s32v.2 x34 3) ≤ s32v.1 then
        some (Sum.inr s32v.2)
      else
        bnd (gR s32v.2 a0 30) fun x37 =>
        if gS s32v.2 x37 = 101 then
          if inb s32v.1 (gN s32v.2 x37) then
            bnd (fX7_bit s10v.1 s32v.1 s32v.2) fun p40 =>
            if p40 = 0 then
              X7_trumpets_j150 s32v x37 0
            else
              X7_trumpets_j150 s32v x37 1
          else none
        else none
    else none
  else none
def X7_trumpets_L27 (a0 : Nat) (s10v : Int32 × AH) : Option ((Int32 × AH) ⊕ (AH)) :=
  if gS s10v.2 a0 = 7 then
    bnd (gR s10v.2 a0 3) fun x12 =>
    if gS s10v.2 x12 = 19 then
      if (1 <<< ((gI s10v.2 x12 3) &&& 31)) ≤ s10v.1 then
        some (Sum.inr s10v.2)
      else
        bnd (iter (X7_trumpets_L44 a0 s10v) FU (0, 0)) fun r15v =>
        bnd (gR s10v.2 a0 16) fun x23 =>
        if gS s10v.2 x23 = 101 then
          if inb 10 (gN s10v.2 x23) then
            if ¬ (s10v.1 &&& (gI s10v.2 x23 (ix 10))) = 0 then
              X7_trumpets_j158 s10v s10v.2
            else
              bnd (gR s10v.2 a0 3) fun x28 =>
              if gS s10v.2 x28 = 19 then
                if r15v = (gI s10v.2 x28 6) then
                  lt (uI s10v.2 a0 31 ((gI s10v.2 a0 31) + 1)) fun h31 =>
                  bnd (iter (X7_trumpets_L119 a0 s10v) FU (0, h31)) fun r32v =>
                  X7_trumpets_j158 s10v r32v
                else
                  X7_trumpets_j158 s10v s10v.2
              else none
          else none
        else none
    else none
  else none
def fX7_trumpets (a0 : Nat) (h0 : AH) : Option (AH) :=
  if gS h0 a0 = 7 then
    lt (uI h0 a0 31 0) fun h2 =>
    bnd (iter (X7_trumpets_L7 a0) FU (0, h2)) fun r3v =>
    bnd (iter (X7_trumpets_L27 a0) FU (1, r3v)) fun r10v =>
    some r10v
  else none
def X7_ask_j66 (s7v : Int32 × Int32) (j13 : Int32) : Option ((Int32 × Int32) ⊕ (Int32)) :=
  some (Sum.inl (j13, s7v.2 + 1))
def X7_ask_L40 (a0 : Nat) (p4 : AH) (s7v : Int32 × Int32) : Option ((Int32 × Int32) ⊕ (Int32)) :=
  bnd (gR p4 a0 3) fun x8 =>
  if gS p4 x8 = 19 then
    if (gI p4 x8 3) ≤ s7v.2 then
      some (Sum.inr s7v.1)
    else
      bnd (fX7_leaves a0 s7v.2 p4) fun p11 =>
      bnd (fX7_leaves a0 s7v.1 p4) fun p12 =>
      if p12 ≤ p11 then
        X7_ask_j66 s7v s7v.1
      else
        X7_ask_j66 s7v s7v.2
  else none
def fX7_ask (a0 : Nat) (h0 : AH) : Option (Int32 × AH) :=
  if gS h0 a0 = 7 then
    lt (uI h0 a0 0 0) fun h2 =>
    ons (gR h2 a0 3) (
      bnd (fX7_refused a0 1 h2) fun p17 =>
      some (p17.1, p17.2)
    ) fun x3 =>
    bnd (fX7_trumpets a0 h2) fun p4 =>
    if gS p4 a0 = 7 then
      if ¬ (gI p4 a0 31) = 0 then
        bnd (iter (X7_ask_L40 a0 p4) FU (0, 1)) fun r7v =>
        bnd (fX7_good a0 r7v p4) fun p15 =>
        some (p15.1, p15.2)
      else
        bnd (fX7_good a0 (-2) p4) fun p16 =>
        some (p16.1, p16.2)
    else none
  else none
def fX7_denied (a0 : Nat) (a1 : Int32) (h0 : AH) : Option (Int32 × AH) :=
  if gS h0 a0 = 7 then
    bnd (fX7_refused a0 a1 h0) fun p1 =>
    some (0, p1.2)
  else none
def fX7_granted (a0 : Nat) (h0 : AH) : Option (Int32 × AH) :=
  if gS h0 a0 = 7 then
    bnd (fX7_good a0 0 h0) fun p1 =>
    some (1, p1.2)
  else none
def X7_back_L32 (a0 : Nat) (a1 : Int32) (s8v : Int32 × AH) : Option ((Int32 × AH) ⊕ (AH)) :=
  if 19 ≤ s8v.1 then
    some (Sum.inr s8v.2)
  else
    if gS s8v.2 a0 = 7 then
      bnd (gR s8v.2 a0 16) fun x11 =>
      bnd (gR s8v.2 a0 19) fun x12 =>
      if gS s8v.2 x12 = 101 then
        if inb ((19 * a1) + s8v.1) (gN s8v.2 x12) then
          if gS s8v.2 x11 = 101 then
            if inb s8v.1 (gN s8v.2 x11) then
              lt (uI s8v.2 x11 (ix s8v.1) (gI s8v.2 x12 (ix ((19 * a1) + s8v.1)))) fun h17 =>
              some (Sum.inl (s8v.1 + 1, h17))
            else none
          else none
        else none
      else none
    else none
def fX7_back (a0 : Nat) (a1 : Int32) (h0 : AH) : Option (Int32 × AH) :=
  if gS h0 a0 = 7 then
    lt (uI h0 a0 0 0) fun h2 =>
    ons (gR h2 a0 3) (
      bnd (fX7_denied a0 1 h2) fun p24 =>
      if p24.1 = 0 ∨ p24.1 = 1 then
        some (p24.1, p24.2)
      else none
    ) fun x3 =>
    if a1 < 0 then
      bnd (fX7_denied a0 1 h2) fun p5 =>
      if p5.1 = 0 ∨ p5.1 = 1 then
        some (p5.1, p5.2)
      else none
    else
      if a1 < (gI h2 a0 21) then
        bnd (iter (X7_back_L32 a0 a1) FU (0, h2)) fun r8v =>
        if gS r8v a0 = 7 then
          lt (uI r8v a0 20 0) fun h19 =>
          bnd (fX7_granted a0 h19) fun p20 =>
          if p20.1 = 0 ∨ p20.1 = 1 then
            some (p20.1, p20.2)
          else none
        else none
      else
        bnd (fX7_denied a0 1 h2) fun p22 =>
        if p22.1 = 0 ∨ p22.1 = 1 then
          some (p22.1, p22.2)
        else none
  else none
def X7_remembers_L51 (a0 : Nat) (s3v : Int32 × AH) : Option ((Int32 × AH) ⊕ (AH)) :=
  if 19 ≤ s3v.1 then
    some (Sum.inr s3v.2)
  else
    if gS s3v.2 a0 = 7 then
      bnd (gR s3v.2 a0 18) fun x6 =>
      bnd (gR s3v.2 a0 16) fun x7 =>
      if gS s3v.2 x7 = 101 then
        if inb s3v.1 (gN s3v.2 x7) then
          if gS s3v.2 x6 = 101 then
            if inb ((19 * (gI s3v.2 a0 20)) + s3v.1) (gN s3v.2 x6) then
              lt (uI s3v.2 x6 (ix ((19 * (gI s3v.2 a0 20)) + s3v.1)) (gI s3v.2 x7 (ix s3v.1))) fun h12 =>
              some (Sum.inl (s3v.1 + 1, h12))
            else none
          else none
        else none
      else none
    else none
def X7_remembers_j49 (a0 : Nat) (h2 : AH) : Option (AH) :=
  bnd (iter (X7_remembers_L51 a0) FU (0, h2)) fun r3v =>
  if gS r3v a0 = 7 then
    lt (uI r3v a0 20 ((gI r3v a0 20) + 1)) fun h14 =>
    some h14
  else none
def X7_remembers_L11 (a0 : Nat) (s16v : Int32 × AH) : Option ((Int32 × AH) ⊕ (AH)) :=
  if 285 ≤ s16v.1 then
    some (Sum.inr s16v.2)
  else
    if gS s16v.2 a0 = 7 then
      bnd (gR s16v.2 a0 18) fun x19 =>
      bnd (gR s16v.2 a0 18) fun x20 =>
      if gS s16v.2 x20 = 101 then
        if inb (s16v.1 + 19) (gN s16v.2 x20) then
          if gS s16v.2 x19 = 101 then
            if inb s16v.1 (gN s16v.2 x19) then
              lt (uI s16v.2 x19 (ix s16v.1) (gI s16v.2 x20 (ix (s16v.1 + 19)))) fun h25 =>
              some (Sum.inl (s16v.1 + 1, h25))
            else none
          else none
        else none
      else none
    else none
def fX7_remembers (a0 : Nat) (h0 : AH) : Option (AH) :=
  if gS h0 a0 = 7 then
    if ¬ (gI h0 a0 20) = 16 then
      X7_remembers_j49 a0 h0
    else
      bnd (iter (X7_remembers_L11 a0) FU (0, h0)) fun r16v =>
      if gS r16v a0 = 7 then
        lt (uI r16v a0 20 ((gI r16v a0 20) - 1)) fun h27 =>
        X7_remembers_j49 a0 h27
      else none
  else none
def fX7_battle (a0 : Nat) (h0 : AH) : Option (Int32 × AH) :=
  if gS h0 a0 = 7 then
    lt (uI h0 a0 0 0) fun h2 =>
    ons (gR h2 a0 3) (
      bnd (fX7_refused a0 1 h2) fun p10 =>
      some (p10.1, p10.2)
    ) fun x3 =>
    bnd (fX7_remembers a0 h2) fun p4 =>
    if gS p4 a0 = 7 then
      bnd (gR p4 a0 16) fun x6 =>
      bnd (fX7_fights a0 x6 p4) fun p7 =>
      if gS p7 a0 = 7 then
        bnd (fX7_good a0 (gI p7 a0 32) p7) fun p9 =>
        some (p9.1, p9.2)
      else none
    else none
  else none
def X7_battles_j60 (a0 : Nat) (p6 : AH) (j7 : Int32) : Option (Int32 × AH) :=
  if gS p6 a0 = 7 then
    bnd (fX7_good a0 j7 p6) fun p8 =>
    some (p8.1, p8.2)
  else none
def X7_battles_j60_18 (a0 : Nat) (p16 : AH) (j17 : Int32) : Option (Int32 × AH) :=
  if gS p16 a0 = 7 then
    bnd (fX7_good a0 j17 p16) fun p19 =>
    some (p19.1, p19.2)
  else none
def fX7_battles (a0 : Nat) (a1 : Int32) (a2 : Int32) (a3 : Int32) (h0 : AH) : Option (Int32 × AH) :=
  if gS h0 a0 = 7 then
    lt (uI h0 a0 0 0) fun h2 =>
    ons (gR h2 a0 3) (
      bnd (fX7_refusesBattles a0 0 a1 a2 h2) fun p14 =>
      if p14 ≤ 0 then
        bnd (fX7_fightsAll a0 a1 a2 0 h2) fun p16 =>
        if a3 = 0 then
          if gS p16 a0 = 7 then
            X7_battles_j60_18 a0 p16 (gI p16 a0 35)
          else none
        else
          if gS p16 a0 = 7 then
            X7_battles_j60_18 a0 p16 (gI p16 a0 36)
          else none
      else
        bnd (fX7_refused a0 p14 h2) fun p24 =>
        some (p24.1, p24.2)
    ) fun x3 =>
    bnd (fX7_refusesBattles a0 1 a1 a2 h2) fun p4 =>
    if p4 ≤ 0 then
      bnd (fX7_fightsAll a0 a1 a2 0 h2) fun p6 =>
      if a3 = 0 then
        if gS p6 a0 = 7 then
          X7_battles_j60 a0 p6 (gI p6 a0 35)
        else none
      else
        if gS p6 a0 = 7 then
          X7_battles_j60 a0 p6 (gI p6 a0 36)
        else none
    else
      bnd (fX7_refused a0 p4 h2) fun p13 =>
      some (p13.1, p13.2)
  else none
def X7_beast_j23 (a0 : Nat) (h2 : AH) : Option (Int32 × AH) :=
  bnd (fX7_refused a0 1 h2) fun p4 =>
  some (p4.1, p4.2)
def X7_beast_j174 (a0 : Nat) (h2 : AH) (j10 : Int32) : Option (Int32 × AH) :=
  bnd (fX7_good a0 j10 h2) fun p11 =>
  some (p11.1, p11.2)
def fX7_beast (a0 : Nat) (a1 : Int32) (a2 : Int32) (h0 : AH) : Option (Int32 × AH) :=
  if gS h0 a0 = 7 then
    lt (uI h0 a0 0 0) fun h2 =>
    bnd (fX7_isBeast a0 a1 h2) fun p3 =>
    if p3 = 0 then
      X7_beast_j23 a0 h2 
    else
      bnd (fX7_in a2 0 7 h2) fun p6 =>
      if ¬ p6 = 0 then
        if a2 < 0 ∨ 6 < a2 then
          bnd (fX7_isDead a0 a1 h2) fun p9 =>
          if p9 = 0 then
            X7_beast_j174 a0 h2 0
          else
            X7_beast_j174 a0 h2 1
        else if a2 = 0 then
          bnd (gR h2 a0 3) fun x14 =>
          if gS h2 x14 = 19 then
            bnd (gR h2 x14 10) fun x16 =>
            if gS h2 x16 = 101 then
              if inb a1 (gN h2 x16) then
                bnd (fX7_good a0 (gI h2 x16 (ix a1)) h2) fun p19 =>
                some (p19.1, p19.2)
              else none
            else none
          else none
        else if a2 = 1 then
          bnd (gR h2 a0 16) fun x21 =>
          if gS h2 x21 = 101 then
            if inb (0 + a1) (gN h2 x21) then
              bnd (fX7_good a0 (gI h2 x21 (ix (0 + a1))) h2) fun p24 =>
              some (p24.1, p24.2)
            else none
          else none
        else if a2 = 2 then
          bnd (gR h2 a0 3) fun x26 =>
          if gS h2 x26 = 19 then
            bnd (gR h2 x26 12) fun x28 =>
            if gS h2 x28 = 101 then
              if inb a1 (gN h2 x28) then
                bnd (fX7_good a0 (gI h2 x28 (ix a1)) h2) fun p31 =>
                some (p31.1, p31.2)
              else none
            else none
          else none
        else if a2 = 3 then
          bnd (gR h2 a0 3) fun x33 =>
          if gS h2 x33 = 19 then
            bnd (gR h2 x33 13) fun x35 =>
            if gS h2 x35 = 101 then
              if inb a1 (gN h2 x35) then
                bnd (fX7_good a0 (gI h2 x35 (ix a1)) h2) fun p38 =>
                some (p38.1, p38.2)
              else none
            else none
          else none
        else if a2 = 4 then
          bnd (fX7_forceOf a0 a1 h2) fun p40 =>
          bnd (fX7_good a0 p40 h2) fun p41 =>
          some (p41.1, p41.2)
        else if a2 = 5 then
          bnd (fX7_holdOf a0 a1 h2) fun p43 =>
          bnd (fX7_good a0 p43 h2) fun p44 =>
          some (p44.1, p44.2)
        else if a2 = 6 then
          bnd (gR h2 a0 16) fun x46 =>
          if gS h2 x46 = 101 then
            if inb (5 + a1) (gN h2 x46) then
              bnd (fX7_good a0 (gI h2 x46 (ix (5 + a1))) h2) fun p49 =>
              some (p49.1, p49.2)
            else none
          else none
        else none
      else
        X7_beast_j23 a0 h2 
  else none
def fX7_worthBy (a0 : Nat) (a1 : Int32) (a2 : Int32) (a3 : Int32) (h0 : AH) : Option (Int64) :=
  if gS h0 a0 = 7 then
    bnd (fX7_harmBy a0 a1 a2 a3 0 h0) fun p1 =>
    bnd (fX7_meanBy a0 a1 p1 0 h0) fun p3 =>
    bnd (fX7_harmBy a0 a1 a2 a3 1 h0) fun p4 =>
    bnd (fX7_meanBy a0 a1 p4 1 h0) fun p5 =>
    some (p3 - p5)
  else none
def fX7_worthIn (a0 : Nat) (a1 : Int32) (a2 : Int32) (h0 : AH) : Option (Int64) :=
  if gS h0 a0 = 7 then
    bnd (gR h0 a0 3) fun x2 =>
    if gS h0 x2 = 19 then
      bnd (gR h0 x2 8) fun x4 =>
      if gS h0 x4 = 101 then
        if inb a2 (gN h0 x4) then
          bnd (gR h0 a0 16) fun x7 =>
          if gS h0 x7 = 101 then
            if inb (11 + a2) (gN h0 x7) then
              bnd (fX7_worthBy a0 a1 (gI h0 x4 (ix a2)) (gI h0 x7 (ix (11 + a2))) h0) fun p10 =>
              some p10
            else none
          else none
        else none
      else none
    else none
  else none
def X7_bestLane_j52 (s5v : Int32 × Int32) (j11 : Int32) : Option ((Int32 × Int32) ⊕ (Int32)) :=
  some (Sum.inl (j11, s5v.2 + 1))
def X7_bestLane_L23 (a0 : Nat) (a1 : Int32) (h2 : AH) (s5v : Int32 × Int32) : Option ((Int32 × Int32) ⊕ (Int32)) :=
  bnd (gR h2 a0 3) fun x6 =>
  if gS h2 x6 = 19 then
    if (gI h2 x6 0) ≤ s5v.2 then
      some (Sum.inr s5v.1)
    else
      bnd (fX7_worthIn a0 a1 s5v.2 h2) fun p9 =>
      bnd (fX7_worthIn a0 a1 s5v.1 h2) fun p10 =>
      if p9 ≤ p10 then
        X7_bestLane_j52 s5v s5v.1
      else
        X7_bestLane_j52 s5v s5v.2
  else none
def fX7_bestLane (a0 : Nat) (a1 : Int32) (h0 : AH) : Option (Int32 × AH) :=
  if gS h0 a0 = 7 then
    lt (uI h0 a0 0 0) fun h2 =>
    bnd (fX7_isBeast a0 a1 h2) fun p3 =>
    if ¬ p3 = 0 then
      bnd (iter (X7_bestLane_L23 a0 a1 h2) FU (0, 1)) fun r5v =>
      bnd (fX7_good a0 r5v h2) fun p13 =>
      some (p13.1, p13.2)
    else
      bnd (fX7_refused a0 1 h2) fun p14 =>
      some (p14.1, p14.2)
  else none
def X7_could_j54 (s5v : Int32 × Int32) (j13 : Int32) : Option ((Int32 × Int32) ⊕ (Int32)) :=
  some (Sum.inl (s5v.1 ||| j13, s5v.2 + 1))
def X7_could_L26 (a0 : Nat) (p4 : AH) (s5v : Int32 × Int32) : Option ((Int32 × Int32) ⊕ (Int32)) :=
  if gS p4 a0 = 7 then
    bnd (gR p4 a0 3) fun x7 =>
    if gS p4 x7 = 19 then
      if (gI p4 x7 3) ≤ s5v.2 then
        some (Sum.inr s5v.1)
      else
        bnd (gR p4 a0 30) fun x10 =>
        if gS p4 x10 = 101 then
          if inb s5v.2 (gN p4 x10) then
            if (gI p4 x10 (ix s5v.2)) ≤ 0 then
              X7_could_j54 s5v 0
            else
              X7_could_j54 s5v (1 <<< (s5v.2 &&& 31))
          else none
        else none
    else none
  else none
def fX7_could (a0 : Nat) (h0 : AH) : Option (Int32 × AH) :=
  if gS h0 a0 = 7 then
    lt (uI h0 a0 0 0) fun h2 =>
    ons (gR h2 a0 3) (
      bnd (fX7_refused a0 1 h2) fun p17 =>
      some (p17.1, p17.2)
    ) fun x3 =>
    bnd (fX7_trumpets a0 h2) fun p4 =>
    bnd (iter (X7_could_L26 a0 p4) FU (0, 0)) fun r5v =>
    if gS p4 a0 = 7 then
      bnd (fX7_good a0 r5v p4) fun p15 =>
      some (p15.1, p15.2)
    else none
  else none
def fX7_fault (a0 : Nat) (h0 : AH) : Option (Int32 × AH) :=
  if gS h0 a0 = 7 then
    lt (uI h0 a0 0 0) fun h2 =>
    some (gI h2 a0 12, h2)
  else none
def X7_feed_j76 (a0 : Nat) (s4v : Int32 × AH) (j6 : Int32) : Option ((Int32 × AH) ⊕ (AH)) :=
  if gS s4v.2 a0 = 7 then
    bnd (gR s4v.2 a0 5) fun x8 =>
    if gS s4v.2 x8 = 102 then
      if inb (gI s4v.2 a0 6) (gN s4v.2 x8) then
        lt (uI s4v.2 x8 (ix (gI s4v.2 a0 6)) (((j6 >>> ((24 - (8 * (s4v.1 - s4v.1 / 4 * 4))) &&& 31)).toInt8.toInt32).toInt8.toInt32)) fun h11 =>
        lt (uI h11 a0 6 ((gI h11 a0 6) + 1)) fun h12 =>
        some (Sum.inl (s4v.1 + 1, h12))
      else none
    else none
  else none
def X7_feed_L23 (a0 : Nat) (a1 : Int32) (a2 : Int32) (a3 : Int32) (a4 : Int32) (a5 : Int32) (s4v : Int32 × AH) : Option ((Int32 × AH) ⊕ (AH)) :=
  if 20 ≤ s4v.1 then
    some (Sum.inr s4v.2)
  else
    if 4 ≤ s4v.1 then
      if 8 ≤ s4v.1 then
        if 12 ≤ s4v.1 then
          if 16 ≤ s4v.1 then
            X7_feed_j76 a0 s4v a5
          else
            X7_feed_j76 a0 s4v a4
        else
          X7_feed_j76 a0 s4v a3
      else
        X7_feed_j76 a0 s4v a2
    else
      X7_feed_j76 a0 s4v a1
def fX7_feed (a0 : Nat) (a1 : Int32) (a2 : Int32) (a3 : Int32) (a4 : Int32) (a5 : Int32) (h0 : AH) : Option (Int32 × AH) :=
  if gS h0 a0 = 7 then
    lt (uI h0 a0 0 0) fun h2 =>
    if ((gI h2 a0 6) + 20) ≤ 900 then
      bnd (iter (X7_feed_L23 a0 a1 a2 a3 a4 a5) FU (0, h2)) fun r4v =>
      if gS r4v a0 = 7 then
        some (gI r4v a0 6, r4v)
      else none
    else
      some ((-1), h2)
  else none
def fX7_fits (a0 : Nat) (h0 : AH) : Option (Int32 × AH) :=
  if gS h0 a0 = 7 then
    lt (uI h0 a0 0 0) fun h2 =>
    ons (gR h2 a0 3) (
      bnd (fX7_refused a0 1 h2) fun p7 =>
      some (p7.1, p7.2)
    ) fun x3 =>
    bnd (fX7_trumpets a0 h2) fun p4 =>
    if gS p4 a0 = 7 then
      bnd (fX7_good a0 (gI p4 a0 31) p4) fun p6 =>
      some (p6.1, p6.2)
    else none
  else none
def fX7_hammer (a0 : Nat) (a1 : Int32) (h0 : AH) : Option (Int32 × AH) :=
  if gS h0 a0 = 7 then
    lt (uI h0 a0 0 0) fun h2 =>
    bnd (fX7_isBeast a0 a1 h2) fun p3 =>
    if ¬ p3 = 0 then
      bnd (fX7_isDead a0 a1 h2) fun p5 =>
      if p5 = 0 then
        bnd (fX7_remembers a0 h2) fun p7 =>
        if gS p7 a0 = 7 then
          bnd (gR p7 a0 16) fun x9 =>
          if gS p7 x9 = 101 then
            if inb 10 (gN p7 x9) then
              if inb 10 (gN p7 x9) then
                lt (uI p7 x9 (ix 10) ((gI p7 x9 (ix 10)) ||| (1 <<< (a1 &&& 31)))) fun h13 =>
                bnd (fX7_granted a0 h13) fun p14 =>
                if p14.1 = 0 ∨ p14.1 = 1 then
                  some (p14.1, p14.2)
                else none
              else none
            else none
          else none
        else none
      else
        bnd (fX7_denied a0 5 h2) fun p16 =>
        if p16.1 = 0 ∨ p16.1 = 1 then
          some (p16.1, p16.2)
        else none
    else
      bnd (fX7_denied a0 1 h2) fun p18 =>
      if p18.1 = 0 ∨ p18.1 = 1 then
        some (p18.1, p18.2)
      else none
  else none
def fX7_isLane (a0 : Nat) (a1 : Int32) (h0 : AH) : Option (Int32) :=
  if gS h0 a0 = 7 then
    ons (gR h0 a0 3) (
      some 0
    ) fun x2 =>
    if a1 < 0 then
      some 0
    else
      bnd (gR h0 a0 3) fun x4 =>
      if gS h0 x4 = 19 then
        if (gI h0 x4 0) ≤ a1 then
          some 0
        else
          some 1
      else none
  else none
def X7_lane_j22 (a0 : Nat) (h2 : AH) : Option (Int32 × AH) :=
  bnd (fX7_refused a0 1 h2) fun p4 =>
  some (p4.1, p4.2)
def X7_lane_j111 (s9v : Int32 × Int32) (j16 : Int32) : Option ((Int32 × Int32) ⊕ (Int32)) :=
  some (Sum.inl (s9v.1 ||| j16, s9v.2 + 1))
def X7_lane_j110 (s9v : Int32 × Int32) : Option ((Int32 × Int32) ⊕ (Int32)) :=
  X7_lane_j111 s9v 0
def X7_lane_L68 (a0 : Nat) (a1 : Int32) (h2 : AH) (s9v : Int32 × Int32) : Option ((Int32 × Int32) ⊕ (Int32)) :=
  bnd (gR h2 a0 3) fun x10 =>
  if gS h2 x10 = 19 then
    if (gI h2 x10 3) ≤ s9v.2 then
      some (Sum.inr s9v.1)
    else
      bnd (gR h2 a0 16) fun x13 =>
      if gS h2 x13 = 101 then
        if inb (0 + s9v.2) (gN h2 x13) then
          if ¬ (gI h2 x13 (ix (0 + s9v.2))) = a1 then
            X7_lane_j110 s9v 
          else
            bnd (fX7_isDead a0 s9v.2 h2) fun p18 =>
            if ¬ p18 = 0 then
              X7_lane_j110 s9v 
            else
              X7_lane_j111 s9v (1 <<< (s9v.2 &&& 31))
        else none
      else none
  else none
def X7_lane_j59 (a0 : Nat) (h2 : AH) (j21 : Int32) : Option (Int32 × AH) :=
  bnd (fX7_good a0 j21 h2) fun p22 =>
  some (p22.1, p22.2)
def fX7_lane (a0 : Nat) (a1 : Int32) (a2 : Int32) (h0 : AH) : Option (Int32 × AH) :=
  if gS h0 a0 = 7 then
    lt (uI h0 a0 0 0) fun h2 =>
    bnd (fX7_isLane a0 a1 h2) fun p3 =>
    if p3 = 0 then
      X7_lane_j22 a0 h2 
    else
      bnd (fX7_in a2 0 2 h2) fun p6 =>
      if ¬ p6 = 0 then
        if 2 ≤ a2 then
          bnd (iter (X7_lane_L68 a0 a1 h2) FU (0, 0)) fun r9v =>
          bnd (fX7_good a0 r9v h2) fun p20 =>
          some (p20.1, p20.2)
        else
          if ¬ a2 = 0 then
            bnd (gR h2 a0 16) fun x24 =>
            if gS h2 x24 = 101 then
              if inb (11 + a1) (gN h2 x24) then
                X7_lane_j59 a0 h2 (gI h2 x24 (ix (11 + a1)))
              else none
            else none
          else
            bnd (gR h2 a0 3) fun x27 =>
            if gS h2 x27 = 19 then
              bnd (gR h2 x27 8) fun x29 =>
              if gS h2 x29 = 101 then
                if inb a1 (gN h2 x29) then
                  X7_lane_j59 a0 h2 (gI h2 x29 (ix a1))
                else none
              else none
            else none
      else
        X7_lane_j22 a0 h2 
  else none
def X7_led_j48 (s3v : Int32 × Int32) (j10 : Int32) : Option ((Int32 × Int32) ⊕ (Int32 × AH)) :=
  some (Sum.inl (j10, s3v.2 + 1))
def X7_led_L9 (a0 : Nat) (a1 : Int32) (h2 : AH) (s3v : Int32 × Int32) : Option ((Int32 × Int32) ⊕ (Int32 × AH)) :=
  ons (gR h2 a0 3) (
    lt (uI h2 a0 0 1) fun h13 =>
    some (Sum.inr (0, h13))
  ) fun x4 =>
  bnd (gR h2 a0 3) fun x5 =>
  if gS h2 x5 = 19 then
    if (gI h2 x5 3) ≤ s3v.2 then
      lt (uI h2 a0 0 1) fun h8 =>
      some (Sum.inr (0, h8))
    else
      bnd (fX7_isDead a0 s3v.2 h2) fun p9 =>
      if ¬ p9 = 0 then
        if ¬ s3v.1 = a1 then
          X7_led_j48 s3v (s3v.1 + 1)
        else
          some (Sum.inr (s3v.2, h2))
      else
        X7_led_j48 s3v s3v.1
  else none
def fX7_led (a0 : Nat) (a1 : Int32) (h0 : AH) : Option (Int32 × AH) :=
  if gS h0 a0 = 7 then
    lt (uI h0 a0 0 0) fun h2 =>
    iter (X7_led_L9 a0 a1 h2) FU (0, 0)
  else none
def X7_comes_L35 (a0 : Nat) (a1 : Int32) (s11v : Int32 × AH) : Option ((Int32 × AH) ⊕ (AH)) :=
  if a1 ≤ s11v.1 then
    some (Sum.inr s11v.2)
  else
    if gS s11v.2 a0 = 7 then
      bnd (gR s11v.2 a0 26) fun x14 =>
      bnd (gR s11v.2 a0 25) fun x15 =>
      if gS s11v.2 x15 = 101 then
        if inb s11v.1 (gN s11v.2 x15) then
          if gS s11v.2 x14 = 101 then
            if inb s11v.1 (gN s11v.2 x14) then
              lt (uI s11v.2 x14 (ix s11v.1) (gI s11v.2 x15 (ix s11v.1))) fun h20 =>
              some (Sum.inl (s11v.1 + 1, h20))
            else none
          else none
        else none
      else none
    else none
def fX7_comes (a0 : Nat) (a1 : Int32) (h0 : AH) : Option (AH) :=
  if gS h0 a0 = 7 then
    bnd (gR h0 a0 27) fun x2 =>
    if gS h0 x2 = 101 then
      if inb (a1 - 1) (gN h0 x2) then
        if (gI h0 a0 29) < (gI h0 x2 (ix (a1 - 1))) then
          bnd (gR h0 a0 27) fun x6 =>
          if gS h0 x6 = 101 then
            if inb (a1 - 1) (gN h0 x6) then
              lt (uI h0 a0 29 (gI h0 x6 (ix (a1 - 1)))) fun h9 =>
              lt (uI h9 a0 28 a1) fun h10 =>
              bnd (iter (X7_comes_L35 a0 a1) FU (0, h10)) fun r11v =>
              some r11v
            else none
          else none
        else
          some h0
      else none
    else none
  else none
def fX7_over (a0 : Int32) (a1 : Int32) (h0 : AH) : Option (Int32) :=
  some ((a0 * (100 - a1)) / 100)
def X7_marches_j158 (a0 : Nat) (s17v : Int32 × Int32 × AH) (s29v : AH) : Option ((AH) ⊕ (AH)) :=
  bnd (gR s29v a0 25) fun x41 =>
  if gS s29v x41 = 101 then
    if inb s17v.2.1 (gN s29v x41) then
      if inb s17v.2.1 (gN s29v x41) then
        lt (uI s29v x41 (ix s17v.2.1) ((gI s29v x41 (ix s17v.2.1)) + 1)) fun h45 =>
        some (Sum.inl h45)
      else none
    else none
  else none
def X7_marches_L94 (a0 : Nat) (s17v : Int32 × Int32 × AH) (j23 : Int32) (s29v : AH) : Option ((AH) ⊕ (AH)) :=
  if gS s29v a0 = 7 then
    bnd (gR s29v a0 25) fun x31 =>
    if gS s29v x31 = 101 then
      if inb s17v.2.1 (gN s29v x31) then
        bnd (gR s29v a0 3) fun x34 =>
        if gS s29v x34 = 19 then
          if (gI s29v x34 4) ≤ (gI s29v x31 (ix s17v.2.1)) then
            some (Sum.inr s29v)
          else
            bnd (gR s29v a0 25) fun x37 =>
            if gS s29v x37 = 101 then
              if inb s17v.2.1 (gN s29v x37) then
                bnd (fX7_bit j23 (gI s29v x37 (ix s17v.2.1)) s29v) fun p40 =>
                if ¬ p40 = 0 then
                  X7_marches_j158 a0 s17v s29v 
                else
                  bnd (gR s29v a0 3) fun x47 =>
                  if gS s29v x47 = 19 then
                    bnd (gR s29v x47 14) fun x49 =>
                    bnd (gR s29v a0 25) fun x50 =>
                    if gS s29v x50 = 101 then
                      if inb (s17v.2.1 - 1) (gN s29v x50) then
                        bnd (gR s29v a0 25) fun x53 =>
                        if gS s29v x53 = 101 then
                          if inb s17v.2.1 (gN s29v x53) then
                            if gS s29v x49 = 101 then
                              if inb ((6 * (gI s29v x50 (ix (s17v.2.1 - 1)))) + (gI s29v x53 (ix s17v.2.1))) (gN s29v x49) then
                                if ¬ (gI s29v x49 (ix ((6 * (gI s29v x50 (ix (s17v.2.1 - 1)))) + (gI s29v x53 (ix s17v.2.1))))) = (-1) then
                                  some (Sum.inr s29v)
                                else
                                  X7_marches_j158 a0 s17v s29v 
                              else none
                            else none
                          else none
                        else none
                      else none
                    else none
                  else none
              else none
            else none
        else none
      else none
    else none
  else none
def X7_marches_j83 (a0 : Nat) (a2 : Int32) (s17v : Int32 × Int32 × AH) (j23 : Int32) : Option ((Int32 × Int32 × AH) ⊕ (AH)) :=
  bnd (gR s17v.2.2 a0 25) fun x24 =>
  if gS s17v.2.2 x24 = 101 then
    if inb s17v.2.1 (gN s17v.2.2 x24) then
      if inb s17v.2.1 (gN s17v.2.2 x24) then
        lt (uI s17v.2.2 x24 (ix s17v.2.1) ((gI s17v.2.2 x24 (ix s17v.2.1)) + 1)) fun h28 =>
        bnd (iter (X7_marches_L94 a0 s17v j23) FU h28) fun r29v =>
        if gS r29v a0 = 7 then
          bnd (gR r29v a0 25) fun x60 =>
          if gS r29v x60 = 101 then
            if inb s17v.2.1 (gN r29v x60) then
              bnd (gR r29v a0 3) fun x63 =>
              if gS r29v x63 = 19 then
                if (gI r29v x60 (ix s17v.2.1)) < (gI r29v x63 4) then
                  bnd (gR r29v a0 25) fun x66 =>
                  if gS r29v x66 = 101 then
                    if inb s17v.2.1 (gN r29v x66) then
                      bnd (gR r29v a0 27) fun x69 =>
                      bnd (gR r29v a0 27) fun x70 =>
                      if gS r29v x70 = 101 then
                        if inb (s17v.2.1 - 1) (gN r29v x70) then
                          bnd (gR r29v a0 3) fun x73 =>
                          if gS r29v x73 = 19 then
                            bnd (gR r29v x73 14) fun x75 =>
                            bnd (gR r29v a0 25) fun x76 =>
                            if gS r29v x76 = 101 then
                              if inb (s17v.2.1 - 1) (gN r29v x76) then
                                bnd (gR r29v a0 25) fun x79 =>
                                if gS r29v x79 = 101 then
                                  if inb s17v.2.1 (gN r29v x79) then
                                    if gS r29v x75 = 101 then
                                      if inb ((6 * (gI r29v x76 (ix (s17v.2.1 - 1)))) + (gI r29v x79 (ix s17v.2.1))) (gN r29v x75) then
                                        bnd (fX7_over (gI r29v x70 (ix (s17v.2.1 - 1))) (gI r29v x75 (ix ((6 * (gI r29v x76 (ix (s17v.2.1 - 1)))) + (gI r29v x79 (ix s17v.2.1))))) r29v) fun p84 =>
                                        if gS r29v x69 = 101 then
                                          if inb s17v.2.1 (gN r29v x69) then
                                            lt (uI r29v x69 (ix s17v.2.1) p84) fun h87 =>
                                            bnd (gR h87 a0 25) fun x88 =>
                                            if gS h87 x88 = 101 then
                                              if inb s17v.2.1 (gN h87 x88) then
                                                if ¬ (gI h87 x88 (ix s17v.2.1)) = a2 then
                                                  bnd (gR h87 a0 3) fun x92 =>
                                                  if gS h87 x92 = 19 then
                                                    if (gI h87 x92 4) ≤ (s17v.2.1 + 1) then
                                                      some (Sum.inl (j23 ||| (1 <<< ((gI r29v x66 (ix s17v.2.1)) &&& 31)), s17v.2.1, h87))
                                                    else
                                                      bnd (gR h87 a0 25) fun x95 =>
                                                      if gS h87 x95 = 101 then
                                                        if inb (s17v.2.1 + 1) (gN h87 x95) then
                                                          lt (uI h87 x95 (ix (s17v.2.1 + 1)) (-1)) fun h98 =>
                                                          some (Sum.inl (j23 ||| (1 <<< ((gI r29v x66 (ix s17v.2.1)) &&& 31)), s17v.2.1 + 1, h98))
                                                        else none
                                                      else none
                                                  else none
                                                else
                                                  bnd (fX7_comes a0 (s17v.2.1 + 1) h87) fun p99 =>
                                                  some (Sum.inl (j23 ||| (1 <<< ((gI r29v x66 (ix s17v.2.1)) &&& 31)), s17v.2.1, p99))
                                              else none
                                            else none
                                          else none
                                        else none
                                      else none
                                    else none
                                  else none
                                else none
                              else none
                            else none
                          else none
                        else none
                      else none
                    else none
                  else none
                else
                  some (Sum.inl (j23, s17v.2.1 + (-1), r29v))
              else none
            else none
          else none
        else none
      else none
    else none
  else none
def X7_marches_L51 (a0 : Nat) (a2 : Int32) (s17v : Int32 × Int32 × AH) : Option ((Int32 × Int32 × AH) ⊕ (AH)) :=
  if s17v.2.1 ≤ 0 then
    some (Sum.inr s17v.2.2)
  else
    if gS s17v.2.2 a0 = 7 then
      bnd (gR s17v.2.2 a0 25) fun x20 =>
      if gS s17v.2.2 x20 = 101 then
        if inb s17v.2.1 (gN s17v.2.2 x20) then
          if (gI s17v.2.2 x20 (ix s17v.2.1)) = (-1) then
            X7_marches_j83 a0 a2 s17v s17v.1
          else
            bnd (gR s17v.2.2 a0 25) fun x101 =>
            if gS s17v.2.2 x101 = 101 then
              if inb s17v.2.1 (gN s17v.2.2 x101) then
                X7_marches_j83 a0 a2 s17v (s17v.1 &&& ((1 <<< ((gI s17v.2.2 x101 (ix s17v.2.1)) &&& 31)) ^^^ (-1)))
              else none
            else none
        else none
      else none
    else none
def fX7_marches (a0 : Nat) (a1 : Int32) (a2 : Int32) (a3 : Int32) (h0 : AH) : Option (AH) :=
  if gS h0 a0 = 7 then
    lt (uI h0 a0 28 0) fun h2 =>
    lt (uI h2 a0 29 (-2)) fun h3 =>
    bnd (gR h3 a0 25) fun x4 =>
    if gS h3 x4 = 101 then
      if inb 0 (gN h3 x4) then
        lt (uI h3 x4 (ix 0) a1) fun h7 =>
        bnd (gR h7 a0 27) fun x8 =>
        if gS h7 x8 = 101 then
          if inb 0 (gN h7 x8) then
            lt (uI h7 x8 (ix 0) a3) fun h11 =>
            if ¬ a1 = a2 then
              bnd (gR h11 a0 25) fun x13 =>
              if gS h11 x13 = 101 then
                if inb 1 (gN h11 x13) then
                  lt (uI h11 x13 (ix 1) (-1)) fun h16 =>
                  bnd (iter (X7_marches_L51 a0 a2) FU (1 <<< (a1 &&& 31), 1, h16)) fun r17v =>
                  some r17v
                else none
              else none
            else
              bnd (fX7_comes a0 1 h11) fun p104 =>
              some p104
          else none
        else none
      else none
    else none
  else none
def fX7_isCity (a0 : Nat) (a1 : Int32) (h0 : AH) : Option (Int32) :=
  if gS h0 a0 = 7 then
    ons (gR h0 a0 3) (
      some 0
    ) fun x2 =>
    if a1 < 0 then
      some 0
    else
      bnd (gR h0 a0 3) fun x4 =>
      if gS h0 x4 = 19 then
        if (gI h0 x4 4) ≤ a1 then
          some 0
        else
          some 1
      else none
  else none
def fX7_refusesMarch (a0 : Nat) (a1 : Int32) (a2 : Int32) (a3 : Int32) (h0 : AH) : Option (Int32) :=
  if gS h0 a0 = 7 then
    bnd (fX7_isCity a0 a1 h0) fun p1 =>
    if p1 = 0 then
      some 1
    else
      bnd (fX7_isCity a0 a2 h0) fun p4 =>
      if ¬ p4 = 0 then
        bnd (fX7_in a3 0 999 h0) fun p6 =>
        if p6 = 0 then
          some 2
        else
          some 0
      else
        some 1
  else none
def fX7_march (a0 : Nat) (a1 : Int32) (a2 : Int32) (a3 : Int32) (h0 : AH) : Option (Int32 × AH) :=
  if gS h0 a0 = 7 then
    lt (uI h0 a0 0 0) fun h2 =>
    bnd (fX7_refusesMarch a0 a1 a2 a3 h2) fun p3 =>
    if p3 ≤ 0 then
      bnd (fX7_marches a0 a1 a2 a3 h2) fun p5 =>
      if gS p5 a0 = 7 then
        bnd (fX7_good a0 (gI p5 a0 29) p5) fun p7 =>
        some (p7.1, p7.2)
      else none
    else
      bnd (fX7_refused a0 p3 h2) fun p8 =>
      some (p8.1, p8.2)
  else none
def X7_marchAt_j61 (a0 : Nat) (p5 : AH) : Option (Int32 × AH) :=
  if gS p5 a0 = 7 then
    bnd (fX7_refused a0 1 p5) fun p6 =>
    some (p6.1, p6.2)
  else none
def fX7_marchAt (a0 : Nat) (a1 : Int32) (a2 : Int32) (a3 : Int32) (a4 : Int32) (h0 : AH) : Option (Int32 × AH) :=
  if gS h0 a0 = 7 then
    lt (uI h0 a0 0 0) fun h2 =>
    bnd (fX7_refusesMarch a0 a1 a2 a3 h2) fun p3 =>
    if p3 ≤ 0 then
      bnd (fX7_marches a0 a1 a2 a3 h2) fun p5 =>
      if a4 < 0 then
        X7_marchAt_j61 a0 p5 
      else
        if gS p5 a0 = 7 then
          if (gI p5 a0 28) ≤ a4 then
            X7_marchAt_j61 a0 p5 
          else
            bnd (gR p5 a0 26) fun x11 =>
            if gS p5 x11 = 101 then
              if inb a4 (gN p5 x11) then
                bnd (fX7_good a0 (gI p5 x11 (ix a4)) p5) fun p14 =>
                some (p14.1, p14.2)
              else none
            else none
        else none
    else
      bnd (fX7_refused a0 p3 h2) fun p15 =>
      some (p15.1, p15.2)
  else none
def X7_mark_L34 (a0 : Nat) (s5v : Int32 × AH) : Option ((Int32 × AH) ⊕ (AH)) :=
  if 19 ≤ s5v.1 then
    some (Sum.inr s5v.2)
  else
    if gS s5v.2 a0 = 7 then
      bnd (gR s5v.2 a0 19) fun x8 =>
      bnd (gR s5v.2 a0 16) fun x9 =>
      if gS s5v.2 x9 = 101 then
        if inb s5v.1 (gN s5v.2 x9) then
          if gS s5v.2 x8 = 101 then
            if inb ((19 * (gI s5v.2 a0 21)) + s5v.1) (gN s5v.2 x8) then
              lt (uI s5v.2 x8 (ix ((19 * (gI s5v.2 a0 21)) + s5v.1)) (gI s5v.2 x9 (ix s5v.1))) fun h14 =>
              some (Sum.inl (s5v.1 + 1, h14))
            else none
          else none
        else none
      else none
    else none
def fX7_mark (a0 : Nat) (h0 : AH) : Option (Int32 × AH) :=
  if gS h0 a0 = 7 then
    lt (uI h0 a0 0 0) fun h2 =>
    ons (gR h2 a0 3) (
      bnd (fX7_refused a0 1 h2) fun p19 =>
      some (p19.1, p19.2)
    ) fun x3 =>
    if ¬ (gI h2 a0 21) = 3 then
      bnd (iter (X7_mark_L34 a0) FU (0, h2)) fun r5v =>
      if gS r5v a0 = 7 then
        lt (uI r5v a0 21 ((gI r5v a0 21) + 1)) fun h16 =>
        bnd (fX7_good a0 ((gI h16 a0 21) - 1) h16) fun p17 =>
        some (p17.1, p17.2)
      else none
    else
      bnd (fX7_refused a0 3 h2) fun p18 =>
      some (p18.1, p18.2)
  else none
def X7_mean_j47 (a0 : Nat) (h2 : AH) : Option (Int64 × AH) :=
  bnd (fX7_refused a0 1 h2) fun p4 =>
  some (p4.1.toInt64, p4.2)
def fX7_mean (a0 : Nat) (a1 : Int32) (a2 : Int32) (a3 : Int32) (a4 : Int32) (h0 : AH) : Option (Int64 × AH) :=
  if gS h0 a0 = 7 then
    lt (uI h0 a0 0 0) fun h2 =>
    bnd (fX7_isBeast a0 a1 h2) fun p3 =>
    if p3 = 0 then
      X7_mean_j47 a0 h2 
    else
      bnd (fX7_isLane a0 a2 h2) fun p6 =>
      if p6 = 0 then
        X7_mean_j47 a0 h2 
      else
        bnd (fX7_meetsIn a0 a1 a2 a3 h2) fun p8 =>
        bnd (fX7_meanBy a0 a1 p8 a3 h2) fun p9 =>
        bnd (fX7_whole a0 h2) fun p10 =>
        bnd (fX7_fraction a0 p9 p10 a4 h2) fun p11 =>
        some (p11.1, p11.2)
  else none
def X7_meets_j35 (a0 : Nat) (h2 : AH) : Option (Int32 × AH) :=
  bnd (fX7_refused a0 1 h2) fun p4 =>
  some (p4.1, p4.2)
def fX7_meets (a0 : Nat) (a1 : Int32) (a2 : Int32) (a3 : Int32) (h0 : AH) : Option (Int32 × AH) :=
  if gS h0 a0 = 7 then
    lt (uI h0 a0 0 0) fun h2 =>
    bnd (fX7_isBeast a0 a1 h2) fun p3 =>
    if p3 = 0 then
      X7_meets_j35 a0 h2 
    else
      bnd (fX7_isLane a0 a2 h2) fun p6 =>
      if p6 = 0 then
        X7_meets_j35 a0 h2 
      else
        bnd (fX7_meetsIn a0 a1 a2 a3 h2) fun p8 =>
        bnd (fX7_good a0 p8 h2) fun p9 =>
        some (p9.1, p9.2)
  else none
def fX7_worthHeld (a0 : Nat) (a1 : Int32) (a2 : Int32) (a3 : Int32) (h0 : AH) : Option (Int64) :=
  if gS h0 a0 = 7 then
    bnd (fX7_isDead a0 a1 h0) fun p1 =>
    if p1 = 0 then
      bnd (gR h0 a0 3) fun x4 =>
      if gS h0 x4 = 19 then
        bnd (fX7_power a3.toInt64 (gI h0 x4 1) h0) fun p6 =>
        bnd (fX7_meetsIn a0 a1 a2 0 h0) fun p7 =>
        bnd (fX7_meetsIn a0 a1 a2 1 h0) fun p8 =>
        bnd (fX7_whole a0 h0) fun p9 =>
        bnd (fX7_forceOf a0 a1 h0) fun p10 =>
        some ((p6 * ((p7 - p8).toInt64)) - ((p9 - p6) * ((p10 / 2).toInt64)))
      else none
    else
      some 0
  else none
def X7_moodFor_j21 (a0 : Nat) (h2 : AH) : Option (Int32 × AH) :=
  bnd (fX7_refused a0 1 h2) fun p4 =>
  some (p4.1, p4.2)
def X7_moodFor_j57 (a0 : Nat) (a1 : Int32) (a2 : Int32) (h2 : AH) (s8v : Int32) (j14 : Int32) : Option ((Int32) ⊕ (Int32 × AH)) :=
  bnd (fX7_holdBy a0 a1 s8v j14 h2) fun p15 =>
  bnd (fX7_worthHeld a0 a1 a2 p15 h2) fun p16 =>
  if p16 ≤ 0 then
    some (Sum.inl (s8v + 1))
  else
    bnd (fX7_good a0 s8v h2) fun p18 =>
    some (Sum.inr (p18.1, p18.2))
def X7_moodFor_L29 (a0 : Nat) (a1 : Int32) (a2 : Int32) (h2 : AH) (s8v : Int32) : Option ((Int32) ⊕ (Int32 × AH)) :=
  if 100 < s8v then
    bnd (fX7_good a0 (-2) h2) fun p10 =>
    some (Sum.inr (p10.1, p10.2))
  else
    bnd (gR h2 a0 16) fun x11 =>
    if gS h2 x11 = 101 then
      if inb 17 (gN h2 x11) then
        if ¬ (gI h2 x11 (ix 17)) = 1 then
          X7_moodFor_j57 a0 a1 a2 h2 s8v 0
        else
          X7_moodFor_j57 a0 a1 a2 h2 s8v 1
      else none
    else none
def fX7_moodFor (a0 : Nat) (a1 : Int32) (a2 : Int32) (h0 : AH) : Option (Int32 × AH) :=
  if gS h0 a0 = 7 then
    lt (uI h0 a0 0 0) fun h2 =>
    bnd (fX7_isBeast a0 a1 h2) fun p3 =>
    if p3 = 0 then
      X7_moodFor_j21 a0 h2 
    else
      bnd (fX7_isLane a0 a2 h2) fun p6 =>
      if ¬ p6 = 0 then
        iter (X7_moodFor_L29 a0 a1 a2 h2) FU 0
      else
        X7_moodFor_j21 a0 h2 
  else none
def X7_move_j21 (a0 : Nat) (h2 : AH) : Option (Int32 × AH) :=
  bnd (fX7_denied a0 1 h2) fun p4 =>
  if p4.1 = 0 ∨ p4.1 = 1 then
    some (p4.1, p4.2)
  else none
def X7_move_j47 (a0 : Nat) (h2 : AH) : Option (Int32 × AH) :=
  bnd (fX7_denied a0 5 h2) fun p12 =>
  if p12.1 = 0 ∨ p12.1 = 1 then
    some (p12.1, p12.2)
  else none
def fX7_move (a0 : Nat) (a1 : Int32) (a2 : Int32) (h0 : AH) : Option (Int32 × AH) :=
  if gS h0 a0 = 7 then
    lt (uI h0 a0 0 0) fun h2 =>
    bnd (fX7_isBeast a0 a1 h2) fun p3 =>
    if p3 = 0 then
      X7_move_j21 a0 h2 
    else
      bnd (fX7_isLane a0 a2 h2) fun p7 =>
      if ¬ p7 = 0 then
        bnd (gR h2 a0 16) fun x9 =>
        if gS h2 x9 = 101 then
          if inb (0 + a1) (gN h2 x9) then
            if (gI h2 x9 (ix (0 + a1))) = a2 then
              X7_move_j47 a0 h2 
            else
              bnd (fX7_isDead a0 a1 h2) fun p15 =>
              if p15 = 0 then
                bnd (fX7_remembers a0 h2) fun p17 =>
                if gS p17 a0 = 7 then
                  bnd (gR p17 a0 16) fun x19 =>
                  if gS p17 x19 = 101 then
                    if inb (0 + a1) (gN p17 x19) then
                      lt (uI p17 x19 (ix (0 + a1)) a2) fun h22 =>
                      bnd (fX7_granted a0 h22) fun p23 =>
                      if p23.1 = 0 ∨ p23.1 = 1 then
                        some (p23.1, p23.2)
                      else none
                    else none
                  else none
                else none
              else
                X7_move_j47 a0 h2 
          else none
        else none
      else
        X7_move_j21 a0 h2 
  else none
def X7_areUnlike_j60 (s1v : Int32 × Int32) (j11 : Int32) : Option ((Int32 × Int32) ⊕ (Int32)) :=
  some (Sum.inl (j11, s1v.2 + 1))
def X7_areUnlike_L4 (a0 : Nat) (h0 : AH) (s1v : Int32 × Int32) : Option ((Int32 × Int32) ⊕ (Int32)) :=
  if gS h0 a0 = 7 then
    bnd (gR h0 a0 3) fun x3 =>
    if gS h0 x3 = 19 then
      if (gI h0 x3 3) ≤ s1v.2 then
        some (Sum.inr 1)
      else
        bnd (gR h0 a0 22) fun x6 =>
        if gS h0 x6 = 101 then
          if inb s1v.2 (gN h0 x6) then
            bnd (gR h0 a0 3) fun x9 =>
            if gS h0 x9 = 19 then
              if ¬ (gI h0 x6 (ix s1v.2)) = (gI h0 x9 0) then
                bnd (gR h0 a0 22) fun x13 =>
                if gS h0 x13 = 101 then
                  if inb s1v.2 (gN h0 x13) then
                    bnd (fX7_bit s1v.1 (gI h0 x13 (ix s1v.2)) h0) fun p16 =>
                    if p16 = 0 then
                      bnd (gR h0 a0 22) fun x18 =>
                      if gS h0 x18 = 101 then
                        if inb s1v.2 (gN h0 x18) then
                          X7_areUnlike_j60 s1v (s1v.1 ||| (1 <<< ((gI h0 x18 (ix s1v.2)) &&& 31)))
                        else none
                      else none
                    else
                      some (Sum.inr 0)
                  else none
                else none
              else
                X7_areUnlike_j60 s1v s1v.1
            else none
          else none
        else none
    else none
  else none
def fX7_areUnlike (a0 : Nat) (h0 : AH) : Option (Int32) :=
  iter (X7_areUnlike_L4 a0 h0) FU (0, 0)
def X7_nextPut_j60 (s4v : Int32 × AH) (h8 : AH) : Option ((Int32 × AH) ⊕ (Int32 × AH)) :=
  some (Sum.inl (s4v.1 + (-1), h8))
def X7_nextPut_L10 (a0 : Nat) (s4v : Int32 × AH) : Option ((Int32 × AH) ⊕ (Int32 × AH)) :=
  if s4v.1 < 0 then
    some (Sum.inr (0, s4v.2))
  else
    if gS s4v.2 a0 = 7 then
      bnd (fX7_isDead a0 s4v.1 s4v.2) fun p6 =>
      if p6 = 0 then
        bnd (gR s4v.2 a0 22) fun x10 =>
        if gS s4v.2 x10 = 101 then
          if inb s4v.1 (gN s4v.2 x10) then
            if inb s4v.1 (gN s4v.2 x10) then
              lt (uI s4v.2 x10 (ix s4v.1) ((gI s4v.2 x10 (ix s4v.1)) + 1)) fun h14 =>
              bnd (gR h14 a0 22) fun x15 =>
              if gS h14 x15 = 101 then
                if inb s4v.1 (gN h14 x15) then
                  bnd (gR h14 a0 3) fun x18 =>
                  if gS h14 x18 = 19 then
                    if (gI h14 x18 0) < (gI h14 x15 (ix s4v.1)) then
                      bnd (gR h14 a0 22) fun x21 =>
                      if gS h14 x21 = 101 then
                        if inb s4v.1 (gN h14 x21) then
                          lt (uI h14 x21 (ix s4v.1) 0) fun h24 =>
                          X7_nextPut_j60 s4v h24
                        else none
                      else none
                    else
                      some (Sum.inr (1, h14))
                  else none
                else none
              else none
            else none
          else none
        else none
      else
        X7_nextPut_j60 s4v s4v.2
    else none
def fX7_nextPut (a0 : Nat) (h0 : AH) : Option (Int32 × AH) :=
  if gS h0 a0 = 7 then
    bnd (gR h0 a0 3) fun x2 =>
    if gS h0 x2 = 19 then
      iter (X7_nextPut_L10 a0) FU ((gI h0 x2 3) - 1, h0)
    else none
  else none
def X7_takesPut_j47 (s1v : Int64 × Int32) (j11 : Int64) : Option ((Int64 × Int32) ⊕ (Int64)) :=
  some (Sum.inl (s1v.1 + j11, s1v.2 + 1))
def X7_takesPut_L4 (a0 : Nat) (h0 : AH) (s1v : Int64 × Int32) : Option ((Int64 × Int32) ⊕ (Int64)) :=
  if gS h0 a0 = 7 then
    bnd (gR h0 a0 3) fun x3 =>
    if gS h0 x3 = 19 then
      if (gI h0 x3 3) ≤ s1v.2 then
        some (Sum.inr s1v.1)
      else
        bnd (gR h0 a0 22) fun x6 =>
        if gS h0 x6 = 101 then
          if inb s1v.2 (gN h0 x6) then
            bnd (gR h0 a0 3) fun x9 =>
            if gS h0 x9 = 19 then
              if ¬ (gI h0 x6 (ix s1v.2)) = (gI h0 x9 0) then
                bnd (gR h0 a0 22) fun x13 =>
                if gS h0 x13 = 101 then
                  if inb s1v.2 (gN h0 x13) then
                    bnd (fX7_worthIn a0 s1v.2 (gI h0 x13 (ix s1v.2)) h0) fun p16 =>
                    X7_takesPut_j47 s1v p16
                  else none
                else none
              else
                X7_takesPut_j47 s1v 0
            else none
          else none
        else none
    else none
  else none
def X7_takesPut_L72 (a0 : Nat) (s20v : Int32 × AH) : Option ((Int32 × AH) ⊕ (AH)) :=
  if 5 ≤ s20v.1 then
    some (Sum.inr s20v.2)
  else
    if gS s20v.2 a0 = 7 then
      bnd (gR s20v.2 a0 23) fun x23 =>
      bnd (gR s20v.2 a0 22) fun x24 =>
      if gS s20v.2 x24 = 101 then
        if inb s20v.1 (gN s20v.2 x24) then
          if gS s20v.2 x23 = 101 then
            if inb s20v.1 (gN s20v.2 x23) then
              lt (uI s20v.2 x23 (ix s20v.1) (gI s20v.2 x24 (ix s20v.1))) fun h29 =>
              some (Sum.inl (s20v.1 + 1, h29))
            else none
          else none
        else none
      else none
    else none
def fX7_takesPut (a0 : Nat) (h0 : AH) : Option (AH) :=
  bnd (iter (X7_takesPut_L4 a0 h0) FU (0, 0)) fun r1v =>
  if gS h0 a0 = 7 then
    if (gL h0 a0 24) < r1v then
      lt (uL h0 a0 24 r1v) fun h19 =>
      bnd (iter (X7_takesPut_L72 a0) FU (0, h19)) fun r20v =>
      some r20v
    else
      some h0
  else none
def X7_places_j49 (s3v : Int32 × AH) (x6 : Nat) (j9 : Int32) : Option ((Int32 × AH) ⊕ (AH)) :=
  if gS s3v.2 x6 = 101 then
    if inb s3v.1 (gN s3v.2 x6) then
      lt (uI s3v.2 x6 (ix s3v.1) j9) fun h12 =>
      some (Sum.inl (s3v.1 + 1, h12))
    else none
  else none
def X7_places_j42 (a0 : Nat) (s3v : Int32 × AH) (x6 : Nat) : Option ((Int32 × AH) ⊕ (AH)) :=
  bnd (gR s3v.2 a0 3) fun x13 =>
  if gS s3v.2 x13 = 19 then
    X7_places_j49 s3v x6 (gI s3v.2 x13 0)
  else none
def X7_places_L9 (a0 : Nat) (s3v : Int32 × AH) : Option ((Int32 × AH) ⊕ (AH)) :=
  if 5 ≤ s3v.1 then
    some (Sum.inr s3v.2)
  else
    if gS s3v.2 a0 = 7 then
      bnd (gR s3v.2 a0 22) fun x6 =>
      bnd (gR s3v.2 a0 3) fun x7 =>
      if gS s3v.2 x7 = 19 then
        if (gI s3v.2 x7 3) ≤ s3v.1 then
          X7_places_j42 a0 s3v x6 
        else
          bnd (fX7_isDead a0 s3v.1 s3v.2) fun p16 =>
          if ¬ p16 = 0 then
            X7_places_j42 a0 s3v x6 
          else
            X7_places_j49 s3v x6 0
      else none
    else none
def X7_places_j73 (a0 : Nat) (h22 : AH) : Option ((Int32 × AH) ⊕ (AH)) :=
  if gS h22 a0 = 7 then
    bnd (fX7_nextPut a0 h22) fun p23 =>
    some (Sum.inl (p23.1, p23.2))
  else none
def X7_places_L58 (a0 : Nat) (s18v : Int32 × AH) : Option ((Int32 × AH) ⊕ (AH)) :=
  if s18v.1 = 0 then
    some (Sum.inr s18v.2)
  else
    if gS s18v.2 a0 = 7 then
      bnd (fX7_areUnlike a0 s18v.2) fun p20 =>
      if p20 = 0 then
        X7_places_j73 a0 s18v.2
      else
        bnd (fX7_takesPut a0 s18v.2) fun p26 =>
        X7_places_j73 a0 p26
    else none
def fX7_places (a0 : Nat) (h0 : AH) : Option (AH) :=
  if gS h0 a0 = 7 then
    lt (uL h0 a0 24 (-9223372036854775808)) fun h2 =>
    bnd (iter (X7_places_L9 a0) FU (0, h2)) fun r3v =>
    bnd (iter (X7_places_L58 a0) FU (1, r3v)) fun r18v =>
    some r18v
  else none
def X7_out_j67 (s5v : Int32 × Int32) (j11 : Int32) : Option ((Int32 × Int32) ⊕ (Int32)) :=
  some (Sum.inl (s5v.1 + j11, s5v.2 + 1))
def X7_out_j66 (s5v : Int32 × Int32) : Option ((Int32 × Int32) ⊕ (Int32)) :=
  X7_out_j67 s5v 0
def X7_out_L26 (a0 : Nat) (p4 : AH) (s5v : Int32 × Int32) : Option ((Int32 × Int32) ⊕ (Int32)) :=
  if gS p4 a0 = 7 then
    bnd (gR p4 a0 3) fun x7 =>
    if gS p4 x7 = 19 then
      if (gI p4 x7 3) ≤ s5v.2 then
        some (Sum.inr s5v.1)
      else
        bnd (fX7_isDead a0 s5v.2 p4) fun p10 =>
        if ¬ p10 = 0 then
          X7_out_j66 s5v 
        else
          bnd (gR p4 a0 23) fun x13 =>
          if gS p4 x13 = 101 then
            if inb s5v.2 (gN p4 x13) then
              bnd (gR p4 a0 3) fun x16 =>
              if gS p4 x16 = 19 then
                if ¬ (gI p4 x13 (ix s5v.2)) = (gI p4 x16 0) then
                  X7_out_j66 s5v 
                else
                  X7_out_j67 s5v 1
              else none
            else none
          else none
    else none
  else none
def fX7_out (a0 : Nat) (h0 : AH) : Option (Int32 × AH) :=
  if gS h0 a0 = 7 then
    lt (uI h0 a0 0 0) fun h2 =>
    ons (gR h2 a0 3) (
      bnd (fX7_refused a0 1 h2) fun p21 =>
      some (p21.1, p21.2)
    ) fun x3 =>
    bnd (fX7_places a0 h2) fun p4 =>
    bnd (iter (X7_out_L26 a0 p4) FU (0, 0)) fun r5v =>
    if gS p4 a0 = 7 then
      bnd (fX7_good a0 r5v p4) fun p19 =>
      some (p19.1, p19.2)
    else none
  else none
def X7_place_j51 (a0 : Nat) (p5 : AH) (j12 : Int32) : Option (Int32 × AH) :=
  bnd (fX7_good a0 j12 p5) fun p13 =>
  some (p13.1, p13.2)
def fX7_place (a0 : Nat) (a1 : Int32) (h0 : AH) : Option (Int32 × AH) :=
  if gS h0 a0 = 7 then
    lt (uI h0 a0 0 0) fun h2 =>
    bnd (fX7_isBeast a0 a1 h2) fun p3 =>
    if ¬ p3 = 0 then
      bnd (fX7_places a0 h2) fun p5 =>
      if gS p5 a0 = 7 then
        bnd (gR p5 a0 23) fun x7 =>
        if gS p5 x7 = 101 then
          if inb a1 (gN p5 x7) then
            bnd (gR p5 a0 3) fun x10 =>
            if gS p5 x10 = 19 then
              if ¬ (gI p5 x7 (ix a1)) = (gI p5 x10 0) then
                bnd (gR p5 a0 23) fun x15 =>
                if gS p5 x15 = 101 then
                  if inb a1 (gN p5 x15) then
                    X7_place_j51 a0 p5 (gI p5 x15 (ix a1))
                  else none
                else none
              else
                X7_place_j51 a0 p5 (-2)
            else none
          else none
        else none
      else none
    else
      bnd (fX7_refused a0 1 h2) fun p18 =>
      some (p18.1, p18.2)
  else none
def fX7_lost (a0 : Nat) (a1 : Int32) (h0 : AH) : Option (Int64 × AH) :=
  if gS h0 a0 = 7 then
    bnd (fX7_refused a0 a1 h0) fun p1 =>
    some ((-9223372036854775808), p1.2)
  else none
def fX7_placed (a0 : Nat) (a1 : Int32) (h0 : AH) : Option (Int64 × AH) :=
  if gS h0 a0 = 7 then
    lt (uI h0 a0 0 0) fun h2 =>
    ons (gR h2 a0 3) (
      bnd (fX7_lost a0 1 h2) fun p8 =>
      some (p8.1, p8.2)
    ) fun x3 =>
    bnd (fX7_places a0 h2) fun p4 =>
    if gS p4 a0 = 7 then
      bnd (fX7_whole a0 p4) fun p6 =>
      bnd (fX7_fraction a0 (gL p4 a0 24) p6 a1 p4) fun p7 =>
      some (p7.1, p7.2)
    else none
  else none
def X7_rain_j63 (a0 : Nat) (p9 : AH) (x11 : Nat) (j12 : Int32) : Option (Int32 × AH) :=
  if gS p9 x11 = 101 then
    if inb 17 (gN p9 x11) then
      lt (uI p9 x11 (ix 17) j12) fun h15 =>
      bnd (fX7_granted a0 h15) fun p16 =>
      if p16.1 = 0 ∨ p16.1 = 1 then
        some (p16.1, p16.2)
      else none
    else none
  else none
def X7_rain_j34 (a0 : Nat) (a1 : Int32) (h2 : AH) (j7 : Int32) : Option (Int32 × AH) :=
  if ¬ j7 = a1 then
    bnd (fX7_remembers a0 h2) fun p9 =>
    if gS p9 a0 = 7 then
      bnd (gR p9 a0 16) fun x11 =>
      if a1 = 0 then
        X7_rain_j63 a0 p9 x11 0
      else
        X7_rain_j63 a0 p9 x11 1
    else none
  else
    bnd (fX7_denied a0 5 h2) fun p19 =>
    if p19.1 = 0 ∨ p19.1 = 1 then
      some (p19.1, p19.2)
    else none
def fX7_rain (a0 : Nat) (a1 : Int32) (h0 : AH) : Option (Int32 × AH) :=
  if gS h0 a0 = 7 then
    lt (uI h0 a0 0 0) fun h2 =>
    ons (gR h2 a0 3) (
      bnd (fX7_denied a0 1 h2) fun p22 =>
      if p22.1 = 0 ∨ p22.1 = 1 then
        some (p22.1, p22.2)
      else none
    ) fun x3 =>
    bnd (gR h2 a0 16) fun x4 =>
    if gS h2 x4 = 101 then
      if inb 17 (gN h2 x4) then
        if ¬ (gI h2 x4 (ix 17)) = 1 then
          X7_rain_j34 a0 a1 h2 0
        else
          X7_rain_j34 a0 a1 h2 1
      else none
    else none
  else none
def X7_reach_j109 (s7v : Int32 × Int32) (j11 : Int32) : Option ((Int32 × Int32) ⊕ (Int32)) :=
  some (Sum.inl (j11, s7v.2 + 1))
def X7_reach_L34 (a0 : Nat) (h2 : AH) (s7v : Int32 × Int32) : Option ((Int32 × Int32) ⊕ (Int32)) :=
  if 36 ≤ s7v.2 then
    some (Sum.inr s7v.1)
  else
    bnd (gR h2 a0 3) fun x9 =>
    if gS h2 x9 = 19 then
      if (gI h2 x9 4) ≤ (s7v.2 / 6) then
        X7_reach_j109 s7v s7v.1
      else
        bnd (gR h2 a0 3) fun x13 =>
        if gS h2 x13 = 19 then
          if (gI h2 x13 4) ≤ (s7v.2 - s7v.2 / 6 * 6) then
            X7_reach_j109 s7v s7v.1
          else
            bnd (fX7_bit s7v.1 (s7v.2 / 6) h2) fun p16 =>
            if p16 = 0 then
              X7_reach_j109 s7v s7v.1
            else
              bnd (gR h2 a0 3) fun x18 =>
              if gS h2 x18 = 19 then
                bnd (gR h2 x18 14) fun x20 =>
                if gS h2 x20 = 101 then
                  if inb s7v.2 (gN h2 x20) then
                    if (gI h2 x20 (ix s7v.2)) = (-1) then
                      X7_reach_j109 s7v s7v.1
                    else
                      X7_reach_j109 s7v (s7v.1 ||| (1 <<< ((s7v.2 - s7v.2 / 6 * 6) &&& 31)))
                  else none
                else none
              else none
        else none
    else none
def X7_reach_L25 (a0 : Nat) (h2 : AH) (s5v : Int32 × Int32) : Option ((Int32 × Int32) ⊕ (Int32)) :=
  if 6 ≤ s5v.2 then
    some (Sum.inr s5v.1)
  else
    bnd (iter (X7_reach_L34 a0 h2) FU (s5v.1, 0)) fun r7v =>
    some (Sum.inl (r7v, s5v.2 + 1))
def fX7_reach (a0 : Nat) (a1 : Int32) (h0 : AH) : Option (Int32 × AH) :=
  if gS h0 a0 = 7 then
    lt (uI h0 a0 0 0) fun h2 =>
    bnd (fX7_isCity a0 a1 h2) fun p3 =>
    if ¬ p3 = 0 then
      bnd (iter (X7_reach_L25 a0 h2) FU (1 <<< (a1 &&& 31), 0)) fun r5v =>
      bnd (fX7_good a0 r5v h2) fun p24 =>
      some (p24.1, p24.2)
    else
      bnd (fX7_refused a0 1 h2) fun p25 =>
      some (p25.1, p25.2)
  else none
def fX7_gameOf (a0 : Nat) (a1 : Int32) (a2 : Int32) (a3 : Int32) (h0 : AH) : Option (Int64) :=
  if ¬ a2 = a3 then
    if gS h0 a0 = 7 then
      bnd (fX7_worthIn a0 a1 a2 h0) fun p2 =>
      some p2
    else none
  else
    if gS h0 a0 = 7 then
      bnd (fX7_worthBy a0 a1 0 0 h0) fun p4 =>
      some p4
    else none
def X7_isRest_L3 (a0 : Nat) (a1 : Int32) (a2 : Int32) (a3 : Int32) (h0 : AH) (s1v : Int32) : Option ((Int32) ⊕ (Int32)) :=
  if gS h0 a0 = 7 then
    bnd (gR h0 a0 3) fun x3 =>
    if gS h0 x3 = 19 then
      if (gI h0 x3 0) ≤ s1v then
        some (Sum.inr 1)
      else
        bnd (fX7_gameOf a0 a1 s1v a3 h0) fun p6 =>
        bnd (fX7_gameOf a0 a1 a2 a3 h0) fun p7 =>
        if p6 ≤ p7 then
          bnd (fX7_gameOf a0 a1 a2 s1v h0) fun p9 =>
          bnd (fX7_gameOf a0 a1 a2 a3 h0) fun p10 =>
          if p10 ≤ p9 then
            some (Sum.inl (s1v + 1))
          else
            some (Sum.inr 0)
        else
          some (Sum.inr 0)
    else none
  else none
def fX7_isRest (a0 : Nat) (a1 : Int32) (a2 : Int32) (a3 : Int32) (h0 : AH) : Option (Int32) :=
  iter (X7_isRest_L3 a0 a1 a2 a3 h0) FU 0
def X7_rest_L34 (a0 : Nat) (a1 : Int32) (h2 : AH) (s5v : Int32) (s10v : Int32) : Option ((Int32) ⊕ ((Int32) ⊕ (Int32 × AH))) :=
  bnd (gR h2 a0 3) fun x11 =>
  if gS h2 x11 = 19 then
    if (gI h2 x11 0) ≤ s10v then
      some (Sum.inr (Sum.inl (s5v + 1)))
    else
      bnd (fX7_isRest a0 a1 s5v s10v h2) fun p14 =>
      if p14 = 0 then
        some (Sum.inl (s10v + 1))
      else
        bnd (fX7_good a0 ((10 * s5v) + s10v) h2) fun p16 =>
        some (Sum.inr (Sum.inr (p16.1, p16.2)))
  else none
def X7_rest_L21 (a0 : Nat) (a1 : Int32) (h2 : AH) (s5v : Int32) : Option ((Int32) ⊕ (Int32 × AH)) :=
  bnd (gR h2 a0 3) fun x6 =>
  if gS h2 x6 = 19 then
    if (gI h2 x6 0) ≤ s5v then
      bnd (fX7_good a0 (-2) h2) fun p9 =>
      some (Sum.inr (p9.1, p9.2))
    else
      iter (X7_rest_L34 a0 a1 h2 s5v) FU 0
  else none
def fX7_rest (a0 : Nat) (a1 : Int32) (h0 : AH) : Option (Int32 × AH) :=
  if gS h0 a0 = 7 then
    lt (uI h0 a0 0 0) fun h2 =>
    bnd (fX7_isBeast a0 a1 h2) fun p3 =>
    if ¬ p3 = 0 then
      iter (X7_rest_L21 a0 a1 h2) FU 0
    else
      bnd (fX7_refused a0 1 h2) fun p17 =>
      some (p17.1, p17.2)
  else none
def X7_rests_j66 (s9v : Int32 × Int32) (j14 : Int32) : Option ((Int32 × Int32) ⊕ (Int32)) :=
  some (Sum.inl (s9v.1 + j14, s9v.2 + 1))
def X7_rests_L37 (a0 : Nat) (a1 : Int32) (h2 : AH) (s5v : Int32 × Int32) (s9v : Int32 × Int32) : Option ((Int32 × Int32) ⊕ (Int32)) :=
  bnd (gR h2 a0 3) fun x10 =>
  if gS h2 x10 = 19 then
    if (gI h2 x10 0) ≤ s9v.2 then
      some (Sum.inr s9v.1)
    else
      bnd (fX7_isRest a0 a1 s5v.2 s9v.2 h2) fun p13 =>
      if p13 = 0 then
        X7_rests_j66 s9v 0
      else
        X7_rests_j66 s9v 1
  else none
def X7_rests_L23 (a0 : Nat) (a1 : Int32) (h2 : AH) (s5v : Int32 × Int32) : Option ((Int32 × Int32) ⊕ (Int32)) :=
  bnd (gR h2 a0 3) fun x6 =>
  if gS h2 x6 = 19 then
    if (gI h2 x6 0) ≤ s5v.2 then
      some (Sum.inr s5v.1)
    else
      bnd (iter (X7_rests_L37 a0 a1 h2 s5v) FU (s5v.1, 0)) fun r9v =>
      some (Sum.inl (r9v, s5v.2 + 1))
  else none
def fX7_rests (a0 : Nat) (a1 : Int32) (h0 : AH) : Option (Int32 × AH) :=
  if gS h0 a0 = 7 then
    lt (uI h0 a0 0 0) fun h2 =>
    bnd (fX7_isBeast a0 a1 h2) fun p3 =>
    if ¬ p3 = 0 then
      bnd (iter (X7_rests_L23 a0 a1 h2) FU (0, 0)) fun r5v =>
      bnd (fX7_good a0 r5v h2) fun p16 =>
      some (p16.1, p16.2)
    else
      bnd (fX7_refused a0 1 h2) fun p17 =>
      some (p17.1, p17.2)
  else none
def X7_bits_L4 (s1v : Int32 × Int32) : Option ((Int32 × Int32) ⊕ (Int32)) :=
  if s1v.2 = 0 then
    some (Sum.inr s1v.1)
  else
    some (Sum.inl (s1v.1 + 1, s1v.2 &&& (s1v.2 - 1)))
def fX7_bits (a0 : Int32) (h0 : AH) : Option (Int32) :=
  bnd (iter (X7_bits_L4) FU (0, a0)) fun r1v =>
  some r1v
def X7_priceOf_j37 (s1v : Int32 × Int32) (j7 : Int32) : Option ((Int32 × Int32) ⊕ (Int32)) :=
  some (Sum.inl (s1v.1 + j7, s1v.2 + 1))
def X7_priceOf_L4 (a0 : Nat) (a1 : Int32) (h0 : AH) (s1v : Int32 × Int32) : Option ((Int32 × Int32) ⊕ (Int32)) :=
  if gS h0 a0 = 7 then
    bnd (gR h0 a0 3) fun x3 =>
    if gS h0 x3 = 19 then
      if (gI h0 x3 3) ≤ s1v.2 then
        some (Sum.inr s1v.1)
      else
        bnd (fX7_bit a1 s1v.2 h0) fun p6 =>
        if p6 = 0 then
          X7_priceOf_j37 s1v 0
        else
          bnd (gR h0 a0 3) fun x9 =>
          if gS h0 x9 = 19 then
            bnd (gR h0 x9 13) fun x11 =>
            if gS h0 x11 = 101 then
              if inb s1v.2 (gN h0 x11) then
                X7_priceOf_j37 s1v (gI h0 x11 (ix s1v.2))
              else none
            else none
          else none
    else none
  else none
def fX7_priceOf (a0 : Nat) (a1 : Int32) (h0 : AH) : Option (Int32) :=
  bnd (iter (X7_priceOf_L4 a0 a1 h0) FU (0, 0)) fun r1v =>
  some r1v
def X7_sold_j58 (s1v : Int32 × Int32) (j9 : Int32) : Option ((Int32 × Int32) ⊕ (Int32)) :=
  some (Sum.inl (j9, s1v.2 + 1))
def X7_sold_j56 (s1v : Int32 × Int32) : Option ((Int32 × Int32) ⊕ (Int32)) :=
  X7_sold_j58 s1v s1v.2
def X7_sold_L5 (a0 : Nat) (a1 : Int32) (h0 : AH) (s1v : Int32 × Int32) : Option ((Int32 × Int32) ⊕ (Int32)) :=
  if gS h0 a0 = 7 then
    bnd (gR h0 a0 3) fun x3 =>
    if gS h0 x3 = 19 then
      if (1 <<< ((gI h0 x3 3) &&& 31)) ≤ s1v.2 then
        some (Sum.inr s1v.1)
      else
        bnd (gR h0 a0 16) fun x6 =>
        if gS h0 x6 = 101 then
          if inb 10 (gN h0 x6) then
            if ¬ (s1v.2 &&& (gI h0 x6 (ix 10))) = 0 then
              X7_sold_j58 s1v s1v.1
            else
              bnd (fX7_priceOf a0 s1v.2 h0) fun p11 =>
              if p11 < a1 then
                X7_sold_j58 s1v s1v.1
              else
                if s1v.1 = (-2) then
                  X7_sold_j56 s1v 
                else
                  bnd (fX7_bits s1v.2 h0) fun p14 =>
                  bnd (fX7_bits s1v.1 h0) fun p15 =>
                  if p15 ≤ p14 then
                    X7_sold_j58 s1v s1v.1
                  else
                    X7_sold_j56 s1v 
          else none
        else none
    else none
  else none
def fX7_sold (a0 : Nat) (a1 : Int32) (h0 : AH) : Option (Int32) :=
  bnd (iter (X7_sold_L5 a0 a1 h0) FU ((-2), 0)) fun r1v =>
  some r1v
def fX7_sale (a0 : Nat) (a1 : Int32) (h0 : AH) : Option (Int32 × AH) :=
  if gS h0 a0 = 7 then
    lt (uI h0 a0 0 0) fun h2 =>
    ons (gR h2 a0 3) (
      bnd (fX7_refused a0 1 h2) fun p9 =>
      some (p9.1, p9.2)
    ) fun x3 =>
    bnd (fX7_in a1 0 500 h2) fun p4 =>
    if p4 = 0 then
      bnd (fX7_refused a0 2 h2) fun p6 =>
      some (p6.1, p6.2)
    else
      bnd (fX7_sold a0 a1 h2) fun p7 =>
      bnd (fX7_good a0 p7 h2) fun p8 =>
      some (p8.1, p8.2)
  else none
def fX7_saleOver (a0 : Nat) (a1 : Int32) (h0 : AH) : Option (Int32 × AH) :=
  if gS h0 a0 = 7 then
    lt (uI h0 a0 0 0) fun h2 =>
    ons (gR h2 a0 3) (
      bnd (fX7_refused a0 1 h2) fun p12 =>
      some (p12.1, p12.2)
    ) fun x3 =>
    bnd (fX7_in a1 0 500 h2) fun p4 =>
    if ¬ p4 = 0 then
      bnd (fX7_sold a0 a1 h2) fun p6 =>
      if ¬ p6 = (-2) then
        bnd (fX7_priceOf a0 p6 h2) fun p8 =>
        bnd (fX7_good a0 (p8 - a1) h2) fun p9 =>
        some (p9.1, p9.2)
      else
        bnd (fX7_refused a0 6 h2) fun p10 =>
        some (p10.1, p10.2)
    else
      bnd (fX7_refused a0 2 h2) fun p11 =>
      some (p11.1, p11.2)
  else none
def fX7_seed (a0 : Nat) (a1 : Int32) (h0 : AH) : Option (Int32 × AH) :=
  if gS h0 a0 = 7 then
    lt (uI h0 a0 0 0) fun h2 =>
    ons (gR h2 a0 3) (
      bnd (fX7_denied a0 1 h2) fun p14 =>
      if p14.1 = 0 ∨ p14.1 = 1 then
        some (p14.1, p14.2)
      else none
    ) fun x3 =>
    bnd (fX7_in a1 0 65536 h2) fun p4 =>
    if ¬ p4 = 0 then
      bnd (gR h2 a0 16) fun x6 =>
      if gS h2 x6 = 101 then
        if inb 18 (gN h2 x6) then
          lt (uI h2 x6 (ix 18) a1) fun h9 =>
          bnd (fX7_granted a0 h9) fun p10 =>
          if p10.1 = 0 ∨ p10.1 = 1 then
            some (p10.1, p10.2)
          else none
        else none
      else none
    else
      bnd (fX7_denied a0 2 h2) fun p12 =>
      if p12.1 = 0 ∨ p12.1 = 1 then
        some (p12.1, p12.2)
      else none
  else none
def X7_setOut_j67 (s5v : Int32 × AH) (p9 : AH) : Option ((Int32 × AH) ⊕ (Int32 × AH)) :=
  some (Sum.inl (s5v.1 + 1, p9))
def X7_setOut_L29 (a0 : Nat) (a1 : Int32) (a2 : Int32) (a3 : Int32) (s5v : Int32 × AH) : Option ((Int32 × AH) ⊕ (Int32 × AH)) :=
  if 999 < s5v.1 then
    if gS s5v.2 a0 = 7 then
      bnd (fX7_good a0 (-2) s5v.2) fun p7 =>
      some (Sum.inr (p7.1, p7.2))
    else none
  else
    if gS s5v.2 a0 = 7 then
      bnd (fX7_marches a0 a1 a2 s5v.1 s5v.2) fun p9 =>
      if gS p9 a0 = 7 then
        if (gI p9 a0 28) ≤ 0 then
          X7_setOut_j67 s5v p9 
        else
          if (gI p9 a0 29) < a3 then
            X7_setOut_j67 s5v p9 
          else
            bnd (fX7_good a0 s5v.1 p9) fun p14 =>
            some (Sum.inr (p14.1, p14.2))
      else none
    else none
def fX7_setOut (a0 : Nat) (a1 : Int32) (a2 : Int32) (a3 : Int32) (h0 : AH) : Option (Int32 × AH) :=
  if gS h0 a0 = 7 then
    lt (uI h0 a0 0 0) fun h2 =>
    bnd (fX7_refusesMarch a0 a1 a2 a3 h2) fun p3 =>
    if p3 ≤ 0 then
      iter (X7_setOut_L29 a0 a1 a2 a3) FU (0, h2)
    else
      bnd (fX7_refused a0 p3 h2) fun p15 =>
      some (p15.1, p15.2)
  else none
def fX7_size (a0 : Nat) (a1 : Int32) (h0 : AH) : Option (Int32 × AH) :=
  if gS h0 a0 = 7 then
    lt (uI h0 a0 0 0) fun h2 =>
    if ¬ a1 = 11 then
      bnd (fX7_in a1 0 10 h2) fun p4 =>
      if ¬ p4 = 0 then
        ons (gR h2 a0 3) (
          some (0, h2)
        ) fun x6 =>
        if a1 < 0 ∨ 9 < a1 then
          some (gI h2 a0 21, h2)
        else if a1 = 0 then
          bnd (gR h2 a0 3) fun x9 =>
          if gS h2 x9 = 19 then
            some (gI h2 x9 0, h2)
          else none
        else if a1 = 1 then
          bnd (gR h2 a0 3) fun x12 =>
          if gS h2 x12 = 19 then
            some (gI h2 x12 1, h2)
          else none
        else if a1 = 2 then
          bnd (gR h2 a0 3) fun x15 =>
          if gS h2 x15 = 19 then
            some (gI h2 x15 2, h2)
          else none
        else if a1 = 3 then
          bnd (gR h2 a0 3) fun x18 =>
          if gS h2 x18 = 19 then
            some (gI h2 x18 3, h2)
          else none
        else if a1 = 4 then
          bnd (gR h2 a0 3) fun x21 =>
          if gS h2 x21 = 19 then
            some (gI h2 x21 4, h2)
          else none
        else if a1 = 5 then
          bnd (gR h2 a0 3) fun x24 =>
          if gS h2 x24 = 19 then
            some (gI h2 x24 5, h2)
          else none
        else if a1 = 6 then
          bnd (gR h2 a0 3) fun x27 =>
          if gS h2 x27 = 19 then
            bnd (fX7_bits (gI h2 x27 6) h2) fun p29 =>
            some (p29, h2)
          else none
        else if a1 = 7 then
          bnd (gR h2 a0 16) fun x31 =>
          if gS h2 x31 = 101 then
            if inb 17 (gN h2 x31) then
              some (gI h2 x31 (ix 17), h2)
            else none
          else none
        else if a1 = 8 then
          bnd (gR h2 a0 16) fun x35 =>
          if gS h2 x35 = 101 then
            if inb 18 (gN h2 x35) then
              some (gI h2 x35 (ix 18), h2)
            else none
          else none
        else if a1 = 9 then
          some (gI h2 a0 20, h2)
        else none
      else
        some ((-1), h2)
    else
      some (gI h2 a0 6, h2)
  else none
def X7_surely_j65 (s5v : Int32 × Int32) (j10 : Int32) : Option ((Int32 × Int32) ⊕ (Int32)) :=
  some (Sum.inl (s5v.1 ||| j10, s5v.2 + 1))
def X7_surely_j64 (s5v : Int32 × Int32) : Option ((Int32 × Int32) ⊕ (Int32)) :=
  X7_surely_j65 s5v 0
def X7_surely_L26 (a0 : Nat) (p4 : AH) (s5v : Int32 × Int32) : Option ((Int32 × Int32) ⊕ (Int32)) :=
  if gS p4 a0 = 7 then
    bnd (gR p4 a0 3) fun x7 =>
    if gS p4 x7 = 19 then
      if (gI p4 x7 3) ≤ s5v.2 then
        some (Sum.inr s5v.1)
      else
        if (gI p4 a0 31) ≤ 0 then
          X7_surely_j64 s5v 
        else
          bnd (gR p4 a0 30) fun x12 =>
          if gS p4 x12 = 101 then
            if inb s5v.2 (gN p4 x12) then
              if ¬ (gI p4 x12 (ix s5v.2)) = (gI p4 a0 31) then
                X7_surely_j64 s5v 
              else
                X7_surely_j65 s5v (1 <<< (s5v.2 &&& 31))
            else none
          else none
    else none
  else none
def fX7_surely (a0 : Nat) (h0 : AH) : Option (Int32 × AH) :=
  if gS h0 a0 = 7 then
    lt (uI h0 a0 0 0) fun h2 =>
    ons (gR h2 a0 3) (
      bnd (fX7_refused a0 1 h2) fun p18 =>
      some (p18.1, p18.2)
    ) fun x3 =>
    bnd (fX7_trumpets a0 h2) fun p4 =>
    bnd (iter (X7_surely_L26 a0 p4) FU (0, 0)) fun r5v =>
    if gS p4 a0 = 7 then
      bnd (fX7_good a0 r5v p4) fun p16 =>
      some (p16.1, p16.2)
    else none
  else none
def X7_teach_j98 (a0 : Nat) (a1 : Int32) (p13 : AH) (x15 : Nat) (j19 : Int32) : Option (Int32 × AH) :=
  if gS p13 x15 = 101 then
    if inb (11 + a1) (gN p13 x15) then
      lt (uI p13 x15 (ix (11 + a1)) j19) fun h22 =>
      bnd (gR h22 a0 16) fun x23 =>
      if gS h22 x23 = 101 then
        if inb (11 + a1) (gN h22 x23) then
          bnd (fX7_good a0 (gI h22 x23 (ix (11 + a1))) h22) fun p26 =>
          some (p26.1, p26.2)
        else none
      else none
    else none
  else none
def fX7_teach (a0 : Nat) (a1 : Int32) (a2 : Int32) (h0 : AH) : Option (Int32 × AH) :=
  if gS h0 a0 = 7 then
    lt (uI h0 a0 0 0) fun h2 =>
    bnd (fX7_isLane a0 a1 h2) fun p3 =>
    if ¬ p3 = 0 then
      bnd (fX7_in a2 1 30 h2) fun p5 =>
      if ¬ p5 = 0 then
        bnd (gR h2 a0 3) fun x7 =>
        if gS h2 x7 = 19 then
          bnd (gR h2 x7 8) fun x9 =>
          if gS h2 x9 = 101 then
            if inb a1 (gN h2 x9) then
              if (gI h2 x9 (ix a1)) = 3 then
                bnd (fX7_remembers a0 h2) fun p13 =>
                if gS p13 a0 = 7 then
                  bnd (gR p13 a0 16) fun x15 =>
                  bnd (gR p13 a0 16) fun x16 =>
                  if gS p13 x16 = 101 then
                    if inb (11 + a1) (gN p13 x16) then
                      if 30 ≤ ((gI p13 x16 (ix (11 + a1))) + a2) then
                        X7_teach_j98 a0 a1 p13 x15 30
                      else
                        bnd (gR p13 a0 16) fun x28 =>
                        if gS p13 x28 = 101 then
                          if inb (11 + a1) (gN p13 x28) then
                            X7_teach_j98 a0 a1 p13 x15 ((gI p13 x28 (ix (11 + a1))) + a2)
                          else none
                        else none
                    else none
                  else none
                else none
              else
                bnd (fX7_refused a0 5 h2) fun p31 =>
                some (p31.1, p31.2)
            else none
          else none
        else none
      else
        bnd (fX7_refused a0 2 h2) fun p32 =>
        some (p32.1, p32.2)
    else
      bnd (fX7_refused a0 1 h2) fun p33 =>
      some (p33.1, p33.2)
  else none
def fX7_thrown (a0 : Nat) (h0 : AH) : Option (Int32) :=
  if gS h0 a0 = 7 then
    some (gI h0 a0 0)
  else none
def X7_toHammer_j71 (s4v : Int32 × Int64 × Int32) (j12 : Int32) (j13 : Int64) : Option ((Int32 × Int64 × Int32) ⊕ (Int32)) :=
  some (Sum.inl (j12, j13, s4v.2.2 + 1))
def X7_toHammer_L26 (a0 : Nat) (h2 : AH) (s4v : Int32 × Int64 × Int32) : Option ((Int32 × Int64 × Int32) ⊕ (Int32)) :=
  bnd (gR h2 a0 3) fun x5 =>
  if gS h2 x5 = 19 then
    if (gI h2 x5 3) ≤ s4v.2.2 then
      some (Sum.inr s4v.1)
    else
      bnd (gR h2 a0 16) fun x8 =>
      if gS h2 x8 = 101 then
        if inb (0 + s4v.2.2) (gN h2 x8) then
          bnd (fX7_worthIn a0 s4v.2.2 (gI h2 x8 (ix (0 + s4v.2.2))) h2) fun p11 =>
          if p11 < s4v.2.1 then
            X7_toHammer_j71 s4v s4v.2.2 p11
          else
            X7_toHammer_j71 s4v s4v.1 s4v.2.1
        else none
      else none
  else none
def fX7_toHammer (a0 : Nat) (h0 : AH) : Option (Int32 × AH) :=
  if gS h0 a0 = 7 then
    lt (uI h0 a0 0 0) fun h2 =>
    ons (gR h2 a0 3) (
      bnd (fX7_refused a0 1 h2) fun p16 =>
      some (p16.1, p16.2)
    ) fun x3 =>
    bnd (iter (X7_toHammer_L26 a0 h2) FU ((-2), 0, 0)) fun r4v =>
    bnd (fX7_good a0 r4v h2) fun p15 =>
    some (p15.1, p15.2)
  else none
def X7_sumOpen_j57 (s1v : Int64 × Int32) (j9 : Int64) : Option ((Int64 × Int32) ⊕ (Int64)) :=
  some (Sum.inl (s1v.1 + j9, s1v.2 + 1))
def X7_sumOpen_L5 (a0 : Nat) (a1 : Int32) (h0 : AH) (s1v : Int64 × Int32) : Option ((Int64 × Int32) ⊕ (Int64)) :=
  if gS h0 a0 = 7 then
    bnd (gR h0 a0 3) fun x3 =>
    if gS h0 x3 = 19 then
      if (gI h0 x3 3) ≤ s1v.2 then
        some (Sum.inr s1v.1)
      else
        bnd (gR h0 a0 16) fun x6 =>
        if gS h0 x6 = 101 then
          if inb (0 + s1v.2) (gN h0 x6) then
            if ¬ (gI h0 x6 (ix (0 + s1v.2))) = a1 then
              bnd (gR h0 a0 16) fun x11 =>
              if gS h0 x11 = 101 then
                if inb (0 + s1v.2) (gN h0 x11) then
                  bnd (fX7_worthIn a0 s1v.2 (gI h0 x11 (ix (0 + s1v.2))) h0) fun p14 =>
                  X7_sumOpen_j57 s1v p14
                else none
              else none
            else
              bnd (fX7_worthBy a0 s1v.2 0 0 h0) fun p15 =>
              X7_sumOpen_j57 s1v p15
          else none
        else none
    else none
  else none
def fX7_sumOpen (a0 : Nat) (a1 : Int32) (h0 : AH) : Option (Int64) :=
  bnd (iter (X7_sumOpen_L5 a0 a1 h0) FU (0, 0)) fun r1v =>
  some r1v
def X7_toOpen_j66 (s5v : Int32 × Int64 × Int32) (j10 : Int32) (j11 : Int64) : Option ((Int32 × Int64 × Int32) ⊕ (Int32)) :=
  some (Sum.inl (j10, j11, s5v.2.2 + 1))
def X7_toOpen_L30 (a0 : Nat) (h2 : AH) (s5v : Int32 × Int64 × Int32) : Option ((Int32 × Int64 × Int32) ⊕ (Int32)) :=
  bnd (gR h2 a0 3) fun x6 =>
  if gS h2 x6 = 19 then
    if (gI h2 x6 0) ≤ s5v.2.2 then
      some (Sum.inr s5v.1)
    else
      bnd (fX7_sumOpen a0 s5v.2.2 h2) fun p9 =>
      if p9 < s5v.2.1 then
        bnd (fX7_sumOpen a0 s5v.2.2 h2) fun p13 =>
        X7_toOpen_j66 s5v s5v.2.2 p13
      else
        X7_toOpen_j66 s5v s5v.1 s5v.2.1
  else none
def fX7_toOpen (a0 : Nat) (h0 : AH) : Option (Int32 × AH) :=
  if gS h0 a0 = 7 then
    lt (uI h0 a0 0 0) fun h2 =>
    ons (gR h2 a0 3) (
      bnd (fX7_refused a0 1 h2) fun p15 =>
      some (p15.1, p15.2)
    ) fun x3 =>
    bnd (fX7_sumOpen a0 (-1) h2) fun p4 =>
    bnd (iter (X7_toOpen_L30 a0 h2) FU ((-2), p4, 0)) fun r5v =>
    bnd (fX7_good a0 r5v h2) fun p14 =>
    some (p14.1, p14.2)
  else none
def fX7_trouble (a0 : Nat) (h0 : AH) : Option (Int32 × AH) :=
  if gS h0 a0 = 7 then
    lt (uI h0 a0 0 0) fun h2 =>
    some (gI h2 a0 1, h2)
  else none
def fX7_turnedBy (a0 : Nat) (a1 : Int32) (h0 : AH) : Option (Int32 × AH) :=
  if gS h0 a0 = 7 then
    lt (uI h0 a0 0 0) fun h2 =>
    bnd (fX7_isBeast a0 a1 h2) fun p3 =>
    if p3 = 0 then
      bnd (fX7_refused a0 1 h2) fun p5 =>
      some (p5.1, p5.2)
    else
      bnd (fX7_turnedOf a0 a1 h2) fun p6 =>
      bnd (fX7_good a0 p6 h2) fun p7 =>
      some (p7.1, p7.2)
  else none
def X7_undo_L38 (a0 : Nat) (s6v : Int32 × AH) : Option ((Int32 × AH) ⊕ (AH)) :=
  if 19 ≤ s6v.1 then
    some (Sum.inr s6v.2)
  else
    if gS s6v.2 a0 = 7 then
      bnd (gR s6v.2 a0 16) fun x9 =>
      bnd (gR s6v.2 a0 18) fun x10 =>
      if gS s6v.2 x10 = 101 then
        if inb ((19 * (gI s6v.2 a0 20)) + s6v.1) (gN s6v.2 x10) then
          if gS s6v.2 x9 = 101 then
            if inb s6v.1 (gN s6v.2 x9) then
              lt (uI s6v.2 x9 (ix s6v.1) (gI s6v.2 x10 (ix ((19 * (gI s6v.2 a0 20)) + s6v.1)))) fun h15 =>
              some (Sum.inl (s6v.1 + 1, h15))
            else none
          else none
        else none
      else none
    else none
def fX7_undo (a0 : Nat) (h0 : AH) : Option (Int32 × AH) :=
  if gS h0 a0 = 7 then
    lt (uI h0 a0 0 0) fun h2 =>
    ons (gR h2 a0 3) (
      bnd (fX7_denied a0 6 h2) fun p21 =>
      if p21.1 = 0 ∨ p21.1 = 1 then
        some (p21.1, p21.2)
      else none
    ) fun x3 =>
    if ¬ (gI h2 a0 20) = 0 then
      lt (uI h2 a0 20 ((gI h2 a0 20) - 1)) fun h5 =>
      bnd (iter (X7_undo_L38 a0) FU (0, h5)) fun r6v =>
      if gS r6v a0 = 7 then
        bnd (fX7_granted a0 r6v) fun p16 =>
        if p16.1 = 0 ∨ p16.1 = 1 then
          some (p16.1, p16.2)
        else none
      else none
    else
      bnd (fX7_denied a0 6 h2) fun p19 =>
      if p19.1 = 0 ∨ p19.1 = 1 then
        some (p19.1, p19.2)
      else none
  else none
def fX7_byteAt (a0 : Nat) (a1 : Int32) (h0 : AH) : Option (Int32) :=
  if gS h0 a0 = 7 then
    if (gI h0 a0 7) ≤ a1 then
      some (-1)
    else
      bnd (gR h0 a0 5) fun x3 =>
      if gS h0 x3 = 102 then
        if inb a1 (gN h0 x3) then
          some ((gI h0 x3 (ix a1)) &&& 255)
        else none
      else none
  else none
def fX7_isDigit (a0 : Int32) (h0 : AH) : Option (Int32) :=
  if a0 < 48 then
    some 0
  else
    if 57 < a0 then
      some 0
    else
      some 1
def fX7_isLetter (a0 : Int32) (h0 : AH) : Option (Int32) :=
  if a0 < 97 then
    some 0
  else
    if 122 < a0 then
      some 0
    else
      some 1
def X7_goesOn_L9 (a0 : Nat) (s3v : AH) : Option ((AH) ⊕ (AH)) :=
  if gS s3v a0 = 7 then
    bnd (fX7_byteAt a0 (gI s3v a0 8) s3v) fun p5 =>
    if ¬ p5 = 32 then
      some (Sum.inr s3v)
    else
      lt (uI s3v a0 8 ((gI s3v a0 8) + 1)) fun h7 =>
      some (Sum.inl h7)
  else none
def X7_goesOn_j215 (a0 : Nat) (s21v : Int32 × AH) (h26 : AH) : Option ((Int32 × AH) ⊕ (Int32 × AH)) :=
  if gS h26 a0 = 7 then
    lt (uI h26 a0 8 ((gI h26 a0 8) + 1)) fun h28 =>
    some (Sum.inl (s21v.1 + 1, h28))
  else none
def X7_goesOn_L173 (a0 : Nat) (s21v : Int32 × AH) : Option ((Int32 × AH) ⊕ (Int32 × AH)) :=
  if gS s21v.2 a0 = 7 then
    bnd (fX7_byteAt a0 (gI s21v.2 a0 8) s21v.2) fun p23 =>
    bnd (fX7_isDigit p23 s21v.2) fun p24 =>
    if p24 = 0 then
      some (Sum.inr (s21v.1, s21v.2))
    else
      if 3 ≤ s21v.1 then
        X7_goesOn_j215 a0 s21v s21v.2
      else
        bnd (fX7_byteAt a0 (gI s21v.2 a0 8) s21v.2) fun p30 =>
        lt (uI s21v.2 a0 11 (((10 * (gI s21v.2 a0 11)) + p30) - 48)) fun h31 =>
        X7_goesOn_j215 a0 s21v h31
  else none
def X7_goesOn_j131 (a0 : Nat) (s36v : Int32 × AH) (h41 : AH) : Option ((Int32 × AH) ⊕ (Int32 × AH)) :=
  if gS h41 a0 = 7 then
    lt (uI h41 a0 8 ((gI h41 a0 8) + 1)) fun h43 =>
    some (Sum.inl (s36v.1 + 1, h43))
  else none
def X7_goesOn_L84 (a0 : Nat) (s36v : Int32 × AH) : Option ((Int32 × AH) ⊕ (Int32 × AH)) :=
  if gS s36v.2 a0 = 7 then
    bnd (fX7_byteAt a0 (gI s36v.2 a0 8) s36v.2) fun p38 =>
    bnd (fX7_isLetter p38 s36v.2) fun p39 =>
    if p39 = 0 then
      some (Sum.inr (s36v.1, s36v.2))
    else
      if 8 ≤ s36v.1 then
        X7_goesOn_j131 a0 s36v s36v.2
      else
        bnd (fX7_byteAt a0 (gI s36v.2 a0 8) s36v.2) fun p45 =>
        lt (uL s36v.2 a0 15 ((32 * (gL s36v.2 a0 15)) + (((p45 - 97) + 1).toInt64))) fun h46 =>
        X7_goesOn_j131 a0 s36v h46
  else none
def fX7_goesOn (a0 : Nat) (h0 : AH) : Option (AH) :=
  if gS h0 a0 = 7 then
    if ¬ (gI h0 a0 9) = 5 then
      bnd (iter (X7_goesOn_L9 a0) FU h0) fun r3v =>
      if gS r3v a0 = 7 then
        lt (uI r3v a0 10 (gI r3v a0 8)) fun h9 =>
        lt (uI h9 a0 9 0) fun h10 =>
        bnd (fX7_byteAt a0 (gI h10 a0 8) h10) fun p11 =>
        if ¬ p11 = (-1) then
          bnd (fX7_isLetter p11 h10) fun p13 =>
          if p13 = 0 then
            bnd (fX7_isDigit p11 h10) fun p15 =>
            if p15 = 0 then
              if ¬ p11 = 59 then
                some h10
              else
                lt (uI h10 a0 9 4) fun h18 =>
                lt (uI h18 a0 8 ((gI h18 a0 8) + 1)) fun h19 =>
                some h19
            else
              lt (uI h10 a0 11 0) fun h20 =>
              bnd (iter (X7_goesOn_L173 a0) FU (0, h20)) fun r21v =>
              if 3 < r21v.1 then
                some r21v.2
              else
                if gS r21v.2 a0 = 7 then
                  lt (uI r21v.2 a0 9 3) fun h34 =>
                  some h34
                else none
          else
            lt (uL h10 a0 15 0) fun h35 =>
            bnd (iter (X7_goesOn_L84 a0) FU (0, h35)) fun r36v =>
            if 8 < r36v.1 then
              some r36v.2
            else
              if gS r36v.2 a0 = 7 then
                lt (uI r36v.2 a0 9 2) fun h49 =>
                some h49
              else none
        else
          lt (uI h10 a0 9 1) fun h50 =>
          some h50
      else none
    else
      some h0
  else none
def X7_eatsSemicolon_j13 (a0 : Nat) (h0 : AH) (j2 : Int32) : Option (Int32 × AH) :=
  if j2 = 0 then
    if j2 = 0 ∨ j2 = 1 then
      some (j2, h0)
    else none
  else
    bnd (fX7_goesOn a0 h0) fun p5 =>
    if j2 = 0 ∨ j2 = 1 then
      some (j2, p5)
    else none
def fX7_eatsSemicolon (a0 : Nat) (h0 : AH) : Option (Int32 × AH) :=
  if gS h0 a0 = 7 then
    if ¬ (gI h0 a0 9) = 4 then
      X7_eatsSemicolon_j13 a0 h0 0
    else
      X7_eatsSemicolon_j13 a0 h0 1
  else none
def fX7_flaw (a0 : Nat) (a1 : Int32) (h0 : AH) : Option (AH) :=
  if gS h0 a0 = 7 then
    if ¬ (gI h0 a0 9) = 5 then
      lt (uI h0 a0 12 a1) fun h3 =>
      lt (uI h3 a0 13 (gI h3 a0 10)) fun h4 =>
      lt (uI h4 a0 9 5) fun h5 =>
      some h5
    else
      some h0
  else none
def fJ4_checkIndex (a0 : Int32) (a1 : Int32) (h0 : AH) : Option (Int32) :=
  if a0 < 0 then
    none
  else
    if a0 < a1 then
      some a0
    else
      none
def fJ3_checkIndex (a0 : Int32) (a1 : Int32) (h0 : AH) : Option (Unit) :=
  ons (gK h0 102) (
    bnd (fJ4_checkIndex a0 a1 h0) fun p2 =>
    some ()
  ) fun x1 =>
  bnd (fJ4_checkIndex a0 a1 h0) fun p3 =>
  some ()
def fJ6_charAt (a0 : Nat) (a1 : Int32) (h0 : AH) : Option (Int32) :=
  if gS h0 a0 = 102 ∨ gS h0 a0 = 201 then
    bnd (fJ3_checkIndex a1 (Int32.ofNat (gN h0 a0)) h0) fun p2 =>
    if inb a1 (gN h0 a0) then
      some ((((gI h0 a0 (ix a1)) &&& 255).toUInt32 % 65536).toInt32)
    else none
  else none
def fJ3_charAt (a0 : Nat) (a1 : Int32) (h0 : AH) : Option (Int32) :=
  if gS h0 a0 = 9 ∨ gS h0 a0 = 200 then
    bnd (fJ3_isLatin1 a0 h0) fun p1 =>
    if p1 = 0 then
      bnd (gR h0 a0 0) fun x4 =>
      none
    else
      bnd (gR h0 a0 0) fun x5 =>
      bnd (fJ6_charAt x5 a1 h0) fun p6 =>
      if (p6.toUInt32 % 65536).toInt32 = p6 then
        some p6
      else none
  else none
def fJ3_coder (a0 : Nat) (h0 : AH) : Option (Int32) :=
  if gS h0 a0 = 9 ∨ gS h0 a0 = 200 then
    if (gI h0 a0 1).toInt8.toInt32 = (gI h0 a0 1) then
      some (gI h0 a0 1)
    else none
  else none
def fJ3_length (a0 : Nat) (h0 : AH) : Option (Int32) :=
  if gS h0 a0 = 9 ∨ gS h0 a0 = 200 then
    bnd (gR h0 a0 0) fun x2 =>
    if gS h0 x2 = 102 ∨ gS h0 x2 = 201 then
      bnd (fJ3_coder a0 h0) fun p4 =>
      some ((Int32.ofNat (gN h0 x2)) >>> (p4 &&& 31))
    else none
  else none
def X7_packed_L4 (a0 : Nat) (h0 : AH) (s1v : Int64 × Int32) : Option ((Int64 × Int32) ⊕ (Int64)) :=
  if gS h0 a0 = 9 ∨ gS h0 a0 = 200 then
    bnd (fJ3_length a0 h0) fun p2 =>
    if p2 ≤ s1v.2 then
      some (Sum.inr s1v.1)
    else
      bnd (fJ3_charAt a0 s1v.2 h0) fun p5 =>
      some (Sum.inl ((32 * s1v.1) + (((p5 - 97) + 1).toInt64), s1v.2 + 1))
  else none
def fX7_packed (a0 : Nat) (h0 : AH) : Option (Int64) :=
  bnd (iter (X7_packed_L4 a0 h0) FU (0, 0)) fun r1v =>
  some r1v
def fX7_isWord (a0 : Nat) (a1 : Nat) (h0 : AH) : Option (Int32) :=
  if gS h0 a0 = 7 then
    if ¬ (gI h0 a0 9) = 2 then
      some 0
    else
      bnd (fX7_packed a1 h0) fun p3 =>
      if ¬ (gL h0 a0 15) = p3 then
        some 0
      else
        some 1
  else none
def X7_lineBegins_j26 (a0 : Nat) (h5 : AH) : Option (AH) :=
  if gS h5 a0 = 7 then
    bnd (fX7_goesOn a0 h5) fun p6 =>
    some p6
  else none
def X7_lineBegins_j10 (a0 : Nat) (h1 : AH) : Option (AH) :=
  if gS h1 a0 = 7 then
    bnd (gR h1 a0 4) fun x3 =>
    if gS h1 x3 = 19 then
      if ¬ (gI h1 x3 0) = 0 then
        X7_lineBegins_j26 a0 h1
      else
        bnd (fX7_flaw a0 6 h1) fun p9 =>
        X7_lineBegins_j26 a0 p9
    else none
  else none
def fX7_lineBegins (a0 : Nat) (a1 : Int32) (a2 : Int32) (h0 : AH) : Option (AH) :=
  if ¬ a1 = a2 then
    X7_lineBegins_j10 a0 h0
  else
    if gS h0 a0 = 7 then
      bnd (fX7_flaw a0 5 h0) fun p11 =>
      X7_lineBegins_j10 a0 p11
    else none
def fX7_names (a0 : Nat) (a1 : Int64) (a2 : Int32) (a3 : Int32) (h0 : AH) : Option (AH) :=
  if gS h0 a0 = 7 then
    bnd (gR h0 a0 4) fun x2 =>
    if gS h0 x2 = 19 then
      bnd (gR h0 x2 15) fun x4 =>
      bnd (gR h0 a0 4) fun x5 =>
      if gS h0 x5 = 19 then
        if gS h0 x4 = 104 then
          if inb (gI h0 x5 7) (gN h0 x4) then
            lt (uL h0 x4 (ix (gI h0 x5 7)) a1) fun h9 =>
            bnd (gR h9 a0 4) fun x10 =>
            if gS h9 x10 = 19 then
              bnd (gR h9 x10 16) fun x12 =>
              bnd (gR h9 a0 4) fun x13 =>
              if gS h9 x13 = 19 then
                if gS h9 x12 = 101 then
                  if inb (gI h9 x13 7) (gN h9 x12) then
                    lt (uI h9 x12 (ix (gI h9 x13 7)) a2) fun h17 =>
                    bnd (gR h17 a0 4) fun x18 =>
                    if gS h17 x18 = 19 then
                      bnd (gR h17 x18 17) fun x20 =>
                      bnd (gR h17 a0 4) fun x21 =>
                      if gS h17 x21 = 19 then
                        if gS h17 x20 = 101 then
                          if inb (gI h17 x21 7) (gN h17 x20) then
                            lt (uI h17 x20 (ix (gI h17 x21 7)) a3) fun h25 =>
                            bnd (gR h25 a0 4) fun x26 =>
                            if gS h25 x26 = 19 then
                              lt (uI h25 x26 7 ((gI h25 x26 7) + 1)) fun h28 =>
                              some h28
                            else none
                          else none
                        else none
                      else none
                    else none
                  else none
                else none
              else none
            else none
          else none
        else none
      else none
    else none
  else none
def fX7_isName (a0 : Nat) (h0 : AH) : Option (Int32) :=
  if gS h0 a0 = 7 then
    if ¬ (gI h0 a0 9) = 2 then
      some 0
    else
      bnd (gK h0 1) fun x3 =>
      bnd (fX7_isWord a0 x3 h0) fun p4 =>
      if ¬ p4 = 0 then
        some 0
      else
        bnd (gK h0 2) fun x6 =>
        bnd (fX7_isWord a0 x6 h0) fun p7 =>
        if ¬ p7 = 0 then
          some 0
        else
          bnd (gK h0 3) fun x9 =>
          bnd (fX7_isWord a0 x9 h0) fun p10 =>
          if p10 = 0 then
            bnd (gK h0 4) fun x12 =>
            bnd (fX7_isWord a0 x12 h0) fun p13 =>
            if ¬ p13 = 0 then
              some 0
            else
              bnd (gK h0 5) fun x15 =>
              bnd (fX7_isWord a0 x15 h0) fun p16 =>
              if ¬ p16 = 0 then
                some 0
              else
                bnd (gK h0 6) fun x18 =>
                bnd (fX7_isWord a0 x18 h0) fun p19 =>
                if ¬ p19 = 0 then
                  some 0
                else
                  some 1
          else
            some 0
  else none
def X20_find_L2 (a0 : Nat) (a1 : Int64) (h0 : AH) (s1v : Int32) : Option ((Int32) ⊕ (Int32)) :=
  if gS h0 a0 = 19 then
    if (gI h0 a0 7) ≤ s1v then
      some (Sum.inr (-1))
    else
      bnd (gR h0 a0 15) fun x4 =>
      if gS h0 x4 = 104 then
        if inb s1v (gN h0 x4) then
          if ¬ (gL h0 x4 (ix s1v)) = a1 then
            some (Sum.inl (s1v + 1))
          else
            some (Sum.inr s1v)
        else none
      else none
  else none
def fX20_find (a0 : Nat) (a1 : Int64) (h0 : AH) : Option (Int32) :=
  iter (X20_find_L2 a0 a1 h0) FU 0
def X7_readFresh_j32 (a0 : Nat) (h8 : AH) : Option (Int64 × AH) :=
  if gS h8 a0 = 7 then
    bnd (fX7_goesOn a0 h8) fun p10 =>
    some (gL h8 a0 15, p10)
  else none
def X7_readFresh_j12 (a0 : Nat) (h3 : AH) : Option (Int64 × AH) :=
  if gS h3 a0 = 7 then
    bnd (gR h3 a0 4) fun x5 =>
    if gS h3 x5 = 19 then
      bnd (fX20_find x5 (gL h3 a0 15) h3) fun p6 =>
      if p6 = (-1) then
        X7_readFresh_j32 a0 h3
      else
        bnd (fX7_flaw a0 3 h3) fun p12 =>
        X7_readFresh_j32 a0 p12
    else none
  else none
def fX7_readFresh (a0 : Nat) (h0 : AH) : Option (Int64 × AH) :=
  if gS h0 a0 = 7 then
    bnd (fX7_isName a0 h0) fun p1 =>
    if ¬ p1 = 0 then
      X7_readFresh_j12 a0 h0
    else
      bnd (fX7_flaw a0 1 h0) fun p14 =>
      X7_readFresh_j12 a0 p14
  else none
def X7_needs_j13 (a0 : Nat) (h3 : AH) : Option (AH) :=
  if gS h3 a0 = 7 then
    bnd (fX7_goesOn a0 h3) fun p4 =>
    some p4
  else none
def fX7_needs (a0 : Nat) (a1 : Nat) (h0 : AH) : Option (AH) :=
  if gS h0 a0 = 7 then
    bnd (fX7_isWord a0 a1 h0) fun p1 =>
    if ¬ p1 = 0 then
      X7_needs_j13 a0 h0
    else
      bnd (fX7_flaw a0 1 h0) fun p7 =>
      X7_needs_j13 a0 p7
  else none
def X7_bounded_j33 (a0 : Nat) (a1 : Int32) (h2 : AH) : Option (Int32 × AH) :=
  if gS h2 a0 = 7 then
    if ¬ (gI h2 a0 9) = 5 then
      some (gI h2 a0 11, h2)
    else
      some (a1, h2)
  else none
def fX7_bounded (a0 : Nat) (a1 : Int32) (a2 : Int32) (h0 : AH) : Option (Int32 × AH) :=
  if gS h0 a0 = 7 then
    if (gI h0 a0 9) = 3 then
      bnd (fX7_in (gI h0 a0 11) a1 a2 h0) fun p6 =>
      if ¬ p6 = 0 then
        X7_bounded_j33 a0 a1 h0
      else
        bnd (fX7_flaw a0 4 h0) fun p8 =>
        X7_bounded_j33 a0 a1 p8
    else
      bnd (fX7_flaw a0 1 h0) fun p9 =>
      X7_bounded_j33 a0 a1 p9
  else none
def fX7_readWhole (a0 : Nat) (a1 : Int32) (a2 : Int32) (h0 : AH) : Option (Int32 × AH) :=
  if gS h0 a0 = 7 then
    bnd (fX7_bounded a0 a1 a2 h0) fun p1 =>
    if gS p1.2 a0 = 7 then
      bnd (fX7_goesOn a0 p1.2) fun p3 =>
      some (p1.1, p3)
    else none
  else none
def fX7_readPart (a0 : Nat) (a1 : Nat) (a2 : Int32) (a3 : Int32) (h0 : AH) : Option (Int32 × AH) :=
  if gS h0 a0 = 7 then
    bnd (fX7_needs a0 a1 h0) fun p1 =>
    if gS p1 a0 = 7 then
      bnd (fX7_readWhole a0 a2 a3 p1) fun p3 =>
      some (p3.1, p3.2)
    else none
  else none
def X7_readBeast_j84 (a0 : Nat) (p5 : Int64 × AH) (j10 : Int32) (h11 : AH) : Option (AH) :=
  if gS h11 a0 = 7 then
    bnd (fX7_goesOn a0 h11) fun p12 =>
    bnd (gK p12 17) fun x14 =>
    if gS p12 a0 = 7 then
      bnd (gR p12 a0 4) fun x16 =>
      if gS p12 x16 = 19 then
        bnd (fX7_readPart a0 x14 0 ((gI p12 x16 0) - 1) p12) fun p18 =>
        bnd (gK p18.2 18) fun x19 =>
        if gS p18.2 a0 = 7 then
          bnd (fX7_readPart a0 x19 0 100 p18.2) fun p20 =>
          bnd (gK p20.2 19) fun x22 =>
          if gS p20.2 a0 = 7 then
            bnd (fX7_readPart a0 x22 1 99 p20.2) fun p23 =>
            if gS p23.2 a0 = 7 then
              if ¬ (gI p23.2 a0 9) = 5 then
                bnd (gR p23.2 a0 4) fun x27 =>
                if gS p23.2 x27 = 19 then
                  bnd (fX7_names a0 p5.1 0 (gI p23.2 x27 3) p23.2) fun p29 =>
                  if gS p29 a0 = 7 then
                    bnd (gR p29 a0 4) fun x31 =>
                    if gS p29 x31 = 19 then
                      bnd (gR p29 x31 10) fun x33 =>
                      if gS p29 x33 = 101 then
                        if inb (gI p23.2 x27 3) (gN p29 x33) then
                          lt (uI p29 x33 (ix (gI p23.2 x27 3)) j10) fun h36 =>
                          bnd (gR h36 a0 4) fun x37 =>
                          if gS h36 x37 = 19 then
                            bnd (gR h36 x37 11) fun x39 =>
                            if gS h36 x39 = 101 then
                              if inb (gI p23.2 x27 3) (gN h36 x39) then
                                lt (uI h36 x39 (ix (gI p23.2 x27 3)) p18.1) fun h42 =>
                                bnd (gR h42 a0 4) fun x43 =>
                                if gS h42 x43 = 19 then
                                  bnd (gR h42 x43 12) fun x45 =>
                                  if gS h42 x45 = 101 then
                                    if inb (gI p23.2 x27 3) (gN h42 x45) then
                                      lt (uI h42 x45 (ix (gI p23.2 x27 3)) p20.1) fun h48 =>
                                      bnd (gR h48 a0 4) fun x49 =>
                                      if gS h48 x49 = 19 then
                                        bnd (gR h48 x49 13) fun x51 =>
                                        if gS h48 x51 = 101 then
                                          if inb (gI p23.2 x27 3) (gN h48 x51) then
                                            lt (uI h48 x51 (ix (gI p23.2 x27 3)) p23.1) fun h54 =>
                                            bnd (gR h54 a0 4) fun x55 =>
                                            if gS h54 x55 = 19 then
                                              lt (uI h54 x55 3 ((gI h54 x55 3) + 1)) fun h57 =>
                                              some h57
                                            else none
                                          else none
                                        else none
                                      else none
                                    else none
                                  else none
                                else none
                              else none
                            else none
                          else none
                        else none
                      else none
                    else none
                  else none
                else none
              else
                some p23.2
            else none
          else none
        else none
      else none
    else none
  else none
def X7_readBeast_j73 (a0 : Nat) (p5 : Int64 × AH) (j10 : Int32) : Option (AH) :=
  if ¬ j10 = (-1) then
    X7_readBeast_j84 a0 p5 j10 p5.2
  else
    bnd (fX7_flaw a0 1 p5.2) fun p59 =>
    X7_readBeast_j84 a0 p5 j10 p59
def fX7_readBeast (a0 : Nat) (h0 : AH) : Option (AH) :=
  if gS h0 a0 = 7 then
    bnd (gR h0 a0 4) fun x2 =>
    if gS h0 x2 = 19 then
      bnd (fX7_lineBegins a0 (gI h0 x2 3) 5 h0) fun p4 =>
      if gS p4 a0 = 7 then
        bnd (fX7_readFresh a0 p4) fun p5 =>
        bnd (gK p5.2 13) fun x7 =>
        if gS p5.2 a0 = 7 then
          bnd (fX7_isWord a0 x7 p5.2) fun p8 =>
          if p8 = 0 then
            bnd (gK p5.2 14) fun x61 =>
            bnd (fX7_isWord a0 x61 p5.2) fun p62 =>
            if p62 = 0 then
              bnd (gK p5.2 15) fun x64 =>
              bnd (fX7_isWord a0 x64 p5.2) fun p65 =>
              if p65 = 0 then
                bnd (gK p5.2 16) fun x67 =>
                bnd (fX7_isWord a0 x67 p5.2) fun p68 =>
                if p68 = 0 then
                  X7_readBeast_j73 a0 p5 (-1)
                else
                  X7_readBeast_j73 a0 p5 3
              else
                X7_readBeast_j73 a0 p5 2
            else
              X7_readBeast_j73 a0 p5 1
          else
            X7_readBeast_j73 a0 p5 0
        else none
      else none
    else none
  else none
def X7_readCity_L42 (a0 : Nat) (s12v : Int32 × AH) : Option ((Int32 × AH) ⊕ (AH)) :=
  if 6 ≤ s12v.1 then
    some (Sum.inr s12v.2)
  else
    if gS s12v.2 a0 = 7 then
      bnd (gR s12v.2 a0 4) fun x15 =>
      if gS s12v.2 x15 = 19 then
        bnd (gR s12v.2 x15 14) fun x17 =>
        bnd (gR s12v.2 a0 4) fun x18 =>
        if gS s12v.2 x18 = 19 then
          if gS s12v.2 x17 = 101 then
            if inb ((6 * (gI s12v.2 x18 4)) + s12v.1) (gN s12v.2 x17) then
              lt (uI s12v.2 x17 (ix ((6 * (gI s12v.2 x18 4)) + s12v.1)) (-1)) fun h22 =>
              bnd (gR h22 a0 4) fun x23 =>
              if gS h22 x23 = 19 then
                bnd (gR h22 x23 14) fun x25 =>
                bnd (gR h22 a0 4) fun x26 =>
                if gS h22 x26 = 19 then
                  if gS h22 x25 = 101 then
                    if inb ((6 * s12v.1) + (gI h22 x26 4)) (gN h22 x25) then
                      lt (uI h22 x25 (ix ((6 * s12v.1) + (gI h22 x26 4))) (-1)) fun h30 =>
                      some (Sum.inl (s12v.1 + 1, h30))
                    else none
                  else none
                else none
              else none
            else none
          else none
        else none
      else none
    else none
def fX7_readCity (a0 : Nat) (h0 : AH) : Option (AH) :=
  if gS h0 a0 = 7 then
    bnd (gR h0 a0 4) fun x2 =>
    if gS h0 x2 = 19 then
      bnd (fX7_lineBegins a0 (gI h0 x2 4) 6 h0) fun p4 =>
      if gS p4 a0 = 7 then
        bnd (fX7_readFresh a0 p4) fun p5 =>
        if gS p5.2 a0 = 7 then
          if ¬ (gI p5.2 a0 9) = 5 then
            bnd (gR p5.2 a0 4) fun x9 =>
            if gS p5.2 x9 = 19 then
              bnd (fX7_names a0 p5.1 1 (gI p5.2 x9 4) p5.2) fun p11 =>
              bnd (iter (X7_readCity_L42 a0) FU (0, p11)) fun r12v =>
              if gS r12v a0 = 7 then
                bnd (gR r12v a0 4) fun x32 =>
                if gS r12v x32 = 19 then
                  lt (uI r12v x32 4 ((gI r12v x32 4) + 1)) fun h34 =>
                  some h34
                else none
              else none
            else none
          else
            some p5.2
        else none
      else none
    else none
  else none
def X7_readField_j15 (a0 : Nat) (h4 : AH) : Option (AH) :=
  if gS h4 a0 = 7 then
    bnd (fX7_goesOn a0 h4) fun p5 =>
    bnd (gK p5 7) fun x7 =>
    if gS p5 a0 = 7 then
      bnd (fX7_readPart a0 x7 2 6 p5) fun p8 =>
      bnd (gK p8.2 8) fun x10 =>
      if gS p8.2 a0 = 7 then
        bnd (fX7_readPart a0 x10 1 5 p8.2) fun p11 =>
        if gS p11.2 a0 = 7 then
          if ¬ (gI p11.2 a0 9) = 5 then
            bnd (gR p11.2 a0 4) fun x15 =>
            if gS p11.2 x15 = 19 then
              lt (uI p11.2 x15 0 p8.1) fun h17 =>
              bnd (gR h17 a0 4) fun x18 =>
              if gS h17 x18 = 19 then
                lt (uI h17 x18 1 p11.1) fun h20 =>
                some h20
              else none
            else none
          else
            some p11.2
        else none
      else none
    else none
  else none
def fX7_readField (a0 : Nat) (h0 : AH) : Option (AH) :=
  if gS h0 a0 = 7 then
    bnd (gR h0 a0 4) fun x2 =>
    if gS h0 x2 = 19 then
      if (gI h0 x2 0) ≤ 0 then
        X7_readField_j15 a0 h0
      else
        bnd (fX7_flaw a0 3 h0) fun p22 =>
        X7_readField_j15 a0 p22
    else none
  else none
def X7_readLane_j148 (a0 : Nat) (p6 : Int32 × AH) (j14 : Int32) (j18 : Int32) (h19 : AH) : Option (AH) :=
  if gS h19 a0 = 7 then
    if ¬ (gI h19 a0 9) = 5 then
      bnd (gR h19 a0 4) fun x22 =>
      if gS h19 x22 = 19 then
        bnd (gR h19 x22 8) fun x24 =>
        if gS h19 x24 = 101 then
          if inb p6.1 (gN h19 x24) then
            lt (uI h19 x24 (ix p6.1) j14) fun h27 =>
            bnd (gR h27 a0 4) fun x28 =>
            if gS h27 x28 = 19 then
              bnd (gR h27 x28 9) fun x30 =>
              if gS h27 x30 = 101 then
                if inb p6.1 (gN h27 x30) then
                  lt (uI h27 x30 (ix p6.1) j18) fun h33 =>
                  lt (uI h33 a0 14 ((gI h33 a0 14) ||| (1 <<< (p6.1 &&& 31)))) fun h34 =>
                  bnd (gR h34 a0 4) fun x35 =>
                  if gS h34 x35 = 19 then
                    lt (uI h34 x35 2 ((gI h34 x35 2) + 1)) fun h37 =>
                    some h37
                  else none
                else none
              else none
            else none
          else none
        else none
      else none
    else
      some h19
  else none
def X7_readLane_j113 (a0 : Nat) (p6 : Int32 × AH) (j14 : Int32) (h15 : AH) : Option (AH) :=
  if gS h15 a0 = 7 then
    bnd (fX7_goesOn a0 h15) fun p16 =>
    if ¬ j14 = 2 then
      if ¬ j14 = 3 then
        X7_readLane_j148 a0 p6 j14 0 p16
      else
        if gS p16 a0 = 7 then
          bnd (fX7_readWhole a0 0 30 p16) fun p40 =>
          X7_readLane_j148 a0 p6 j14 p40.1 p40.2
        else none
    else
      if gS p16 a0 = 7 then
        bnd (fX7_readWhole a0 0 60 p16) fun p42 =>
        X7_readLane_j148 a0 p6 j14 p42.1 p42.2
      else none
  else none
def X7_readLane_j102 (a0 : Nat) (p6 : Int32 × AH) (p9 : AH) (j14 : Int32) : Option (AH) :=
  if ¬ j14 = (-1) then
    X7_readLane_j113 a0 p6 j14 p9
  else
    bnd (fX7_flaw a0 1 p9) fun p45 =>
    X7_readLane_j113 a0 p6 j14 p45
def X7_readLane_j45 (a0 : Nat) (p6 : Int32 × AH) (h8 : AH) : Option (AH) :=
  if gS h8 a0 = 7 then
    bnd (fX7_goesOn a0 h8) fun p9 =>
    bnd (gK p9 9) fun x11 =>
    if gS p9 a0 = 7 then
      bnd (fX7_isWord a0 x11 p9) fun p12 =>
      if p12 = 0 then
        bnd (gK p9 10) fun x47 =>
        bnd (fX7_isWord a0 x47 p9) fun p48 =>
        if p48 = 0 then
          bnd (gK p9 11) fun x50 =>
          bnd (fX7_isWord a0 x50 p9) fun p51 =>
          if p51 = 0 then
            bnd (gK p9 12) fun x53 =>
            bnd (fX7_isWord a0 x53 p9) fun p54 =>
            if p54 = 0 then
              X7_readLane_j102 a0 p6 p9 (-1)
            else
              X7_readLane_j102 a0 p6 p9 3
          else
            X7_readLane_j102 a0 p6 p9 2
        else
          X7_readLane_j102 a0 p6 p9 1
      else
        X7_readLane_j102 a0 p6 p9 0
    else none
  else none
def fX7_readLane (a0 : Nat) (h0 : AH) : Option (AH) :=
  if gS h0 a0 = 7 then
    bnd (fX7_lineBegins a0 0 1 h0) fun p1 =>
    if gS p1 a0 = 7 then
      bnd (gR p1 a0 4) fun x4 =>
      if gS p1 x4 = 19 then
        bnd (fX7_bounded a0 0 ((gI p1 x4 0) - 1) p1) fun p6 =>
        if gS p6.2 a0 = 7 then
          if (gI p6.2 a0 9) = 5 then
            X7_readLane_j45 a0 p6 p6.2
          else
            bnd (fX7_bit (gI p6.2 a0 14) p6.1 p6.2) fun p57 =>
            if p57 = 0 then
              X7_readLane_j45 a0 p6 p6.2
            else
              bnd (fX7_flaw a0 3 p6.2) fun p59 =>
              X7_readLane_j45 a0 p6 p59
        else none
      else none
    else none
  else none
def X7_knownOne_j47 (a0 : Nat) (p6 : Int32) (h8 : AH) : Option (Int32 × AH) :=
  if gS h8 a0 = 7 then
    if ¬ (gI h8 a0 9) = 5 then
      bnd (gR h8 a0 4) fun x11 =>
      if gS h8 x11 = 19 then
        bnd (gR h8 x11 17) fun x13 =>
        if gS h8 x13 = 101 then
          if inb p6 (gN h8 x13) then
            some (gI h8 x13 (ix p6), h8)
          else none
        else none
      else none
    else
      some (0, h8)
  else none
def X7_knownOne_j42 (a0 : Nat) (h3 : AH) (p6 : Int32) : Option (Int32 × AH) :=
  bnd (fX7_flaw a0 2 h3) fun p16 =>
  X7_knownOne_j47 a0 p6 p16
def X7_knownOne_j12 (a0 : Nat) (a1 : Int32) (h3 : AH) : Option (Int32 × AH) :=
  if gS h3 a0 = 7 then
    bnd (gR h3 a0 4) fun x5 =>
    if gS h3 x5 = 19 then
      bnd (fX20_find x5 (gL h3 a0 15) h3) fun p6 =>
      if p6 = (-1) then
        X7_knownOne_j42 a0 h3 p6 
      else
        bnd (gR h3 a0 4) fun x18 =>
        if gS h3 x18 = 19 then
          bnd (gR h3 x18 16) fun x20 =>
          if gS h3 x20 = 101 then
            if inb p6 (gN h3 x20) then
              if (gI h3 x20 (ix p6)) = a1 then
                X7_knownOne_j47 a0 p6 h3
              else
                X7_knownOne_j42 a0 h3 p6 
            else none
          else none
        else none
    else none
  else none
def fX7_knownOne (a0 : Nat) (a1 : Int32) (h0 : AH) : Option (Int32 × AH) :=
  if gS h0 a0 = 7 then
    bnd (fX7_isName a0 h0) fun p1 =>
    if ¬ p1 = 0 then
      X7_knownOne_j12 a0 a1 h0
    else
      bnd (fX7_flaw a0 1 h0) fun p25 =>
      X7_knownOne_j12 a0 a1 p25
  else none
def X7_readPass_j65 (a0 : Nat) (p5 : Int32 × AH) (p9 : Int32 × AH) (h12 : AH) : Option (AH) :=
  if gS h12 a0 = 7 then
    bnd (fX7_goesOn a0 h12) fun p13 =>
    bnd (gK p13 20) fun x15 =>
    if gS p13 a0 = 7 then
      bnd (fX7_readPart a0 x15 0 99 p13) fun p16 =>
      if gS p16.2 a0 = 7 then
        if ¬ (gI p16.2 a0 9) = 5 then
          bnd (gR p16.2 a0 4) fun x20 =>
          if gS p16.2 x20 = 19 then
            bnd (gR p16.2 x20 14) fun x22 =>
            if gS p16.2 x22 = 101 then
              if inb ((6 * p5.1) + p9.1) (gN p16.2 x22) then
                lt (uI p16.2 x22 (ix ((6 * p5.1) + p9.1)) p16.1) fun h25 =>
                bnd (gR h25 a0 4) fun x26 =>
                if gS h25 x26 = 19 then
                  bnd (gR h25 x26 14) fun x28 =>
                  if gS h25 x28 = 101 then
                    if inb ((6 * p9.1) + p5.1) (gN h25 x28) then
                      lt (uI h25 x28 (ix ((6 * p9.1) + p5.1)) p16.1) fun h31 =>
                      bnd (gR h31 a0 4) fun x32 =>
                      if gS h31 x32 = 19 then
                        lt (uI h31 x32 5 ((gI h31 x32 5) + 1)) fun h34 =>
                        some h34
                      else none
                    else none
                  else none
                else none
              else none
            else none
          else none
        else
          some p16.2
      else none
    else none
  else none
def X7_readPass_j60 (a0 : Nat) (p5 : Int32 × AH) (p9 : Int32 × AH) : Option (AH) :=
  bnd (fX7_flaw a0 3 p9.2) fun p36 =>
  X7_readPass_j65 a0 p5 p9 p36
def fX7_readPass (a0 : Nat) (h0 : AH) : Option (AH) :=
  if gS h0 a0 = 7 then
    bnd (gR h0 a0 4) fun x2 =>
    if gS h0 x2 = 19 then
      bnd (fX7_lineBegins a0 (gI h0 x2 5) 9 h0) fun p4 =>
      if gS p4 a0 = 7 then
        bnd (fX7_knownOne a0 1 p4) fun p5 =>
        if gS p5.2 a0 = 7 then
          bnd (fX7_goesOn a0 p5.2) fun p7 =>
          if gS p7 a0 = 7 then
            bnd (fX7_knownOne a0 1 p7) fun p9 =>
            if gS p9.2 a0 = 7 then
              if (gI p9.2 a0 9) = 5 then
                X7_readPass_j65 a0 p5 p9 p9.2
              else
                if p5.1 = p9.1 then
                  X7_readPass_j60 a0 p5 p9 
                else
                  bnd (gR p9.2 a0 4) fun x38 =>
                  if gS p9.2 x38 = 19 then
                    bnd (gR p9.2 x38 14) fun x40 =>
                    if gS p9.2 x40 = 101 then
                      if inb ((6 * p5.1) + p9.1) (gN p9.2 x40) then
                        if (gI p9.2 x40 (ix ((6 * p5.1) + p9.1))) = (-1) then
                          X7_readPass_j65 a0 p5 p9 p9.2
                        else
                          X7_readPass_j60 a0 p5 p9 
                      else none
                    else none
                  else none
            else none
          else none
        else none
      else none
    else none
  else none
def X7_readTurned_j39 (a0 : Nat) (p3 : Int32 × AH) (h6 : AH) : Option (AH) :=
  if gS h6 a0 = 7 then
    bnd (fX7_goesOn a0 h6) fun p7 =>
    if gS p7 a0 = 7 then
      if (gI p7 a0 9) = 5 then
        some p7
      else
        bnd (gR p7 a0 4) fun x11 =>
        if gS p7 x11 = 19 then
          lt (uI p7 x11 6 ((gI p7 x11 6) ||| (1 <<< (p3.1 &&& 31)))) fun h13 =>
          some h13
        else none
    else none
  else none
def fX7_readTurned (a0 : Nat) (h0 : AH) : Option (AH) :=
  if gS h0 a0 = 7 then
    bnd (fX7_lineBegins a0 0 1 h0) fun p1 =>
    if gS p1 a0 = 7 then
      bnd (fX7_knownOne a0 0 p1) fun p3 =>
      if gS p3.2 a0 = 7 then
        if (gI p3.2 a0 9) = 5 then
          X7_readTurned_j39 a0 p3 p3.2
        else
          bnd (gR p3.2 a0 4) fun x15 =>
          if gS p3.2 x15 = 19 then
            bnd (fX7_bit (gI p3.2 x15 6) p3.1 p3.2) fun p17 =>
            if p17 = 0 then
              X7_readTurned_j39 a0 p3 p3.2
            else
              bnd (fX7_flaw a0 3 p3.2) fun p19 =>
              X7_readTurned_j39 a0 p3 p19
          else none
      else none
    else none
  else none
def fX7_readLine (a0 : Nat) (h0 : AH) : Option (AH) :=
  bnd (gK h0 1) fun x1 =>
  if gS h0 a0 = 7 then
    bnd (fX7_isWord a0 x1 h0) fun p2 =>
    if p2 = 0 then
      bnd (gK h0 2) fun x5 =>
      bnd (fX7_isWord a0 x5 h0) fun p6 =>
      if p6 = 0 then
        bnd (gK h0 3) fun x8 =>
        bnd (fX7_isWord a0 x8 h0) fun p9 =>
        if p9 = 0 then
          bnd (gK h0 4) fun x11 =>
          bnd (fX7_isWord a0 x11 h0) fun p12 =>
          if p12 = 0 then
            bnd (gK h0 5) fun x14 =>
            bnd (fX7_isWord a0 x14 h0) fun p15 =>
            if p15 = 0 then
              bnd (gK h0 6) fun x17 =>
              bnd (fX7_isWord a0 x17 h0) fun p18 =>
              if p18 = 0 then
                bnd (fX7_flaw a0 1 h0) fun p20 =>
                some p20
              else
                bnd (fX7_readTurned a0 h0) fun p21 =>
                some p21
            else
              bnd (fX7_readPass a0 h0) fun p22 =>
              some p22
          else
            bnd (fX7_readCity a0 h0) fun p23 =>
            some p23
        else
          bnd (fX7_readBeast a0 h0) fun p24 =>
          some p24
      else
        bnd (fX7_readLane a0 h0) fun p25 =>
        some p25
    else
      bnd (fX7_readField a0 h0) fun p26 =>
      some p26
  else none
def X7_readAll_L7 (a0 : Nat) (s3v : Int32 × AH) : Option ((Int32 × AH) ⊕ (AH)) :=
  if s3v.1 = 0 then
    some (Sum.inr s3v.2)
  else
    if gS s3v.2 a0 = 7 then
      bnd (fX7_readLine a0 s3v.2) fun p5 =>
      if gS p5 a0 = 7 then
        bnd (fX7_eatsSemicolon a0 p5) fun p7 =>
        some (Sum.inl (p7.1, p7.2))
      else none
    else none
def X7_readAll_j36 (a0 : Nat) (h10 : AH) : Option (AH) :=
  if gS h10 a0 = 7 then
    bnd (gR h10 a0 4) fun x12 =>
    if gS h10 x12 = 19 then
      if ¬ (gI h10 x12 3) = 0 then
        some h10
      else
        bnd (fX7_flaw a0 6 h10) fun p15 =>
        some p15
    else none
  else none
def fX7_readAll (a0 : Nat) (h0 : AH) : Option (AH) :=
  if gS h0 a0 = 7 then
    lt (uI h0 a0 14 0) fun h2 =>
    bnd (iter (X7_readAll_L7 a0) FU (1, h2)) fun r3v =>
    if gS r3v a0 = 7 then
      if (gI r3v a0 9) = 1 then
        X7_readAll_j36 a0 r3v
      else
        bnd (fX7_flaw a0 1 r3v) fun p17 =>
        X7_readAll_j36 a0 p17
    else none
  else none
def fX20_init (a0 : Nat) (h0 : AH) : Option (AH) :=
  lt (nC h0 101 (ix 6)) fun h1 =>
  if gS h1 a0 = 19 then
    lt (uR h1 a0 8 (some (gZ h0))) fun h3 =>
    lt (nC h3 101 (ix 6)) fun h4 =>
    if gS h4 a0 = 19 then
      lt (uR h4 a0 9 (some (gZ h3))) fun h6 =>
      lt (nC h6 101 (ix 5)) fun h7 =>
      if gS h7 a0 = 19 then
        lt (uR h7 a0 10 (some (gZ h6))) fun h9 =>
        lt (nC h9 101 (ix 5)) fun h10 =>
        if gS h10 a0 = 19 then
          lt (uR h10 a0 11 (some (gZ h9))) fun h12 =>
          lt (nC h12 101 (ix 5)) fun h13 =>
          if gS h13 a0 = 19 then
            lt (uR h13 a0 12 (some (gZ h12))) fun h15 =>
            lt (nC h15 101 (ix 5)) fun h16 =>
            if gS h16 a0 = 19 then
              lt (uR h16 a0 13 (some (gZ h15))) fun h18 =>
              lt (nC h18 101 (ix 36)) fun h19 =>
              if gS h19 a0 = 19 then
                lt (uR h19 a0 14 (some (gZ h18))) fun h21 =>
                lt (nC h21 104 (ix 11)) fun h22 =>
                if gS h22 a0 = 19 then
                  lt (uR h22 a0 15 (some (gZ h21))) fun h24 =>
                  lt (nC h24 101 (ix 11)) fun h25 =>
                  if gS h25 a0 = 19 then
                    lt (uR h25 a0 16 (some (gZ h24))) fun h27 =>
                    lt (nC h27 101 (ix 11)) fun h28 =>
                    if gS h28 a0 = 19 then
                      lt (uR h28 a0 17 (some (gZ h27))) fun h30 =>
                      some h30
                    else none
                  else none
                else none
              else none
            else none
          else none
        else none
      else none
    else none
  else none
def X7_war_j17 (a0 : Nat) (h2 : AH) : Option (Int32 × AH) :=
  bnd (fX7_refused a0 2 h2) fun p3 =>
  some (p3.1, p3.2)
def X7_war_L99 (a0 : Nat) (s22v : Int32 × AH) : Option ((Int32 × AH) ⊕ (AH)) :=
  if 19 ≤ s22v.1 then
    some (Sum.inr s22v.2)
  else
    if gS s22v.2 a0 = 7 then
      bnd (gR s22v.2 a0 16) fun x25 =>
      if gS s22v.2 x25 = 101 then
        if inb s22v.1 (gN s22v.2 x25) then
          lt (uI s22v.2 x25 (ix s22v.1) 0) fun h28 =>
          some (Sum.inl (s22v.1 + 1, h28))
        else none
      else none
    else none
def X7_war_L120 (a0 : Nat) (s29v : Int32 × AH) : Option ((Int32 × AH) ⊕ (AH)) :=
  if gS s29v.2 a0 = 7 then
    bnd (gR s29v.2 a0 3) fun x31 =>
    if gS s29v.2 x31 = 19 then
      if (gI s29v.2 x31 3) ≤ s29v.1 then
        some (Sum.inr s29v.2)
      else
        bnd (gR s29v.2 a0 16) fun x34 =>
        bnd (gR s29v.2 a0 3) fun x35 =>
        if gS s29v.2 x35 = 19 then
          bnd (gR s29v.2 x35 11) fun x37 =>
          if gS s29v.2 x37 = 101 then
            if inb s29v.1 (gN s29v.2 x37) then
              if gS s29v.2 x34 = 101 then
                if inb (0 + s29v.1) (gN s29v.2 x34) then
                  lt (uI s29v.2 x34 (ix (0 + s29v.1)) (gI s29v.2 x37 (ix s29v.1))) fun h42 =>
                  some (Sum.inl (s29v.1 + 1, h42))
                else none
              else none
            else none
          else none
        else none
    else none
  else none
def X7_war_L156 (a0 : Nat) (s43v : Int32 × AH) : Option ((Int32 × AH) ⊕ (AH)) :=
  if gS s43v.2 a0 = 7 then
    bnd (gR s43v.2 a0 3) fun x45 =>
    if gS s43v.2 x45 = 19 then
      if (gI s43v.2 x45 0) ≤ s43v.1 then
        some (Sum.inr s43v.2)
      else
        bnd (gR s43v.2 a0 16) fun x48 =>
        bnd (gR s43v.2 a0 3) fun x49 =>
        if gS s43v.2 x49 = 19 then
          bnd (gR s43v.2 x49 9) fun x51 =>
          if gS s43v.2 x51 = 101 then
            if inb s43v.1 (gN s43v.2 x51) then
              if gS s43v.2 x48 = 101 then
                if inb (11 + s43v.1) (gN s43v.2 x48) then
                  lt (uI s43v.2 x48 (ix (11 + s43v.1)) (gI s43v.2 x51 (ix s43v.1))) fun h56 =>
                  some (Sum.inl (s43v.1 + 1, h56))
                else none
              else none
            else none
          else none
        else none
    else none
  else none
def fX7_war (a0 : Nat) (a1 : Int32) (h0 : AH) : Option (Int32 × AH) :=
  if gS h0 a0 = 7 then
    lt (uI h0 a0 0 0) fun h2 =>
    if a1 < 0 then
      X7_war_j17 a0 h2 
    else
      if a1 ≤ (gI h2 a0 6) then
        lt (uI h2 a0 7 a1) fun h6 =>
        lt (uI h6 a0 6 0) fun h7 =>
        lt (uI h7 a0 8 0) fun h8 =>
        lt (uI h8 a0 12 0) fun h9 =>
        lt (nC h9 19 18) fun h10 =>
        bnd (fX20_init (gZ h9) h10) fun p11 =>
        if gS p11 a0 = 7 then
          lt (uR p11 a0 4 (some (gZ h9))) fun h13 =>
          lt (uI h13 a0 9 0) fun h14 =>
          bnd (fX7_goesOn a0 h14) fun p15 =>
          if gS p15 a0 = 7 then
            bnd (fX7_readAll a0 p15) fun p16 =>
            if gS p16 a0 = 7 then
              if (gI p16 a0 12) ≤ 0 then
                bnd (gR p16 a0 4) fun x20 =>
                lt (uR p16 a0 3 (some x20)) fun h21 =>
                bnd (iter (X7_war_L99 a0) FU (0, h21)) fun r22v =>
                bnd (iter (X7_war_L120 a0) FU (0, r22v)) fun r29v =>
                bnd (iter (X7_war_L156 a0) FU (0, r29v)) fun r43v =>
                if gS r43v a0 = 7 then
                  lt (uI r43v a0 20 0) fun h58 =>
                  lt (uI h58 a0 21 0) fun h59 =>
                  bnd (gR h59 a0 3) fun x60 =>
                  if gS h59 x60 = 19 then
                    bnd (fX7_good a0 (gI h59 x60 3) h59) fun p62 =>
                    some (p62.1, p62.2)
                  else none
                else none
              else
                lt (uI p16 a0 1 4) fun h63 =>
                lt (uI h63 a0 2 (gI h63 a0 13)) fun h64 =>
                some ((-1), h64)
            else none
          else none
        else none
      else
        X7_war_j17 a0 h2 
  else none
def X7_weeks_j94 (s14v : Int32 × Int32) (j18 : Int32) : Option ((Int32 × Int32) ⊕ (Int32)) :=
  some (Sum.inl (j18, s14v.2 + 1))
def X7_weeks_j93 (s14v : Int32 × Int32) : Option ((Int32 × Int32) ⊕ (Int32)) :=
  X7_weeks_j94 s14v 0
def X7_weeks_j89 (s14v : Int32 × Int32) : Option ((Int32 × Int32) ⊕ (Int32)) :=
  X7_weeks_j94 s14v 1
def X7_weeks_L51 (a0 : Nat) (h2 : AH) (s11v : Int32) (s14v : Int32 × Int32) : Option ((Int32 × Int32) ⊕ (Int32)) :=
  bnd (gR h2 a0 3) fun x15 =>
  if gS h2 x15 = 19 then
    if (gI h2 x15 3) ≤ s14v.2 then
      some (Sum.inr s14v.1)
    else
      if s14v.1 = 0 then
        X7_weeks_j93 s14v 
      else
        bnd (fX7_isDead a0 s14v.2 h2) fun p20 =>
        if ¬ p20 = 0 then
          X7_weeks_j89 s14v 
        else
          bnd (fX7_worthBy a0 s14v.2 3 s11v h2) fun p22 =>
          if 0 < p22 then
            X7_weeks_j93 s14v 
          else
            X7_weeks_j89 s14v 
  else none
def X7_weeks_L40 (a0 : Nat) (h2 : AH) (s11v : Int32) : Option ((Int32) ⊕ (Int32 × AH)) :=
  if 30 < s11v then
    bnd (fX7_good a0 (-2) h2) fun p13 =>
    some (Sum.inr (p13.1, p13.2))
  else
    bnd (iter (X7_weeks_L51 a0 h2 s11v) FU (1, 0)) fun r14v =>
    if r14v = 0 then
      some (Sum.inl (s11v + 1))
    else
      bnd (fX7_good a0 s11v h2) fun p25 =>
      some (Sum.inr (p25.1, p25.2))
def fX7_weeks (a0 : Nat) (a1 : Int32) (h0 : AH) : Option (Int32 × AH) :=
  if gS h0 a0 = 7 then
    lt (uI h0 a0 0 0) fun h2 =>
    bnd (fX7_isLane a0 a1 h2) fun p3 =>
    if ¬ p3 = 0 then
      bnd (gR h2 a0 3) fun x5 =>
      if gS h2 x5 = 19 then
        bnd (gR h2 x5 8) fun x7 =>
        if gS h2 x7 = 101 then
          if inb a1 (gN h2 x7) then
            if (gI h2 x7 (ix a1)) = 3 then
              iter (X7_weeks_L40 a0 h2) FU 0
            else
              bnd (fX7_refused a0 5 h2) fun p26 =>
              some (p26.1, p26.2)
          else none
        else none
      else none
    else
      bnd (fX7_refused a0 1 h2) fun p27 =>
      some (p27.1, p27.2)
  else none
def fX7_where (a0 : Nat) (h0 : AH) : Option (Int32 × AH) :=
  if gS h0 a0 = 7 then
    lt (uI h0 a0 0 0) fun h2 =>
    some (gI h2 a0 2, h2)
  else none
def fX7_won (a0 : Nat) (a1 : Int32) (a2 : Int32) (h0 : AH) : Option (Int32 × AH) :=
  if gS h0 a0 = 7 then
    lt (uI h0 a0 0 0) fun h2 =>
    ons (gR h2 a0 3) (
      bnd (fX7_refusesBattles a0 0 a1 a2 h2) fun p10 =>
      if p10 ≤ 0 then
        bnd (fX7_fightsAll a0 a1 a2 0 h2) fun p12 =>
        if gS p12 a0 = 7 then
          bnd (fX7_good a0 (gI p12 a0 37) p12) fun p14 =>
          some (p14.1, p14.2)
        else none
      else
        bnd (fX7_refused a0 p10 h2) fun p15 =>
        some (p15.1, p15.2)
    ) fun x3 =>
    bnd (fX7_refusesBattles a0 1 a1 a2 h2) fun p4 =>
    if p4 ≤ 0 then
      bnd (fX7_fightsAll a0 a1 a2 0 h2) fun p6 =>
      if gS p6 a0 = 7 then
        bnd (fX7_good a0 (gI p6 a0 37) p6) fun p8 =>
        some (p8.1, p8.2)
      else none
    else
      bnd (fX7_refused a0 p4 h2) fun p9 =>
      some (p9.1, p9.2)
  else none
def X7_worst_j64 (s4v : Int32 × Int64 × Int32) (j9 : Int32) (j10 : Int64) : Option ((Int32 × Int64 × Int32) ⊕ (Int32)) :=
  some (Sum.inl (j9, j10, s4v.2.2 + 1))
def X7_worst_L26 (a0 : Nat) (h2 : AH) (s4v : Int32 × Int64 × Int32) : Option ((Int32 × Int64 × Int32) ⊕ (Int32)) :=
  bnd (gR h2 a0 3) fun x5 =>
  if gS h2 x5 = 19 then
    if (gI h2 x5 3) ≤ s4v.2.2 then
      some (Sum.inr s4v.1)
    else
      bnd (fX7_meanNow a0 s4v.2.2 1 h2) fun p8 =>
      if s4v.2.1 < p8 then
        bnd (fX7_meanNow a0 s4v.2.2 1 h2) fun p12 =>
        X7_worst_j64 s4v s4v.2.2 p12
      else
        X7_worst_j64 s4v s4v.1 s4v.2.1
  else none
def fX7_worst (a0 : Nat) (h0 : AH) : Option (Int32 × AH) :=
  if gS h0 a0 = 7 then
    lt (uI h0 a0 0 0) fun h2 =>
    ons (gR h2 a0 3) (
      bnd (fX7_refused a0 1 h2) fun p14 =>
      some (p14.1, p14.2)
    ) fun x3 =>
    bnd (iter (X7_worst_L26 a0 h2) FU ((-2), 0, 0)) fun r4v =>
    bnd (fX7_good a0 r4v h2) fun p13 =>
    some (p13.1, p13.2)
  else none
def X7_worstPass_j129 (s6v : Int32 × Int32 × Int32 × Int32) (p20 : Int32) (j21 : Int32) (j22 : Int32) : Option ((Int32 × Int32 × Int32 × Int32) ⊕ (Int32)) :=
  some (Sum.inl (j21, j22, p20, s6v.2.2.2 + 1))
def X7_worstPass_L46 (a0 : Nat) (p5 : AH) (s6v : Int32 × Int32 × Int32 × Int32) : Option ((Int32 × Int32 × Int32 × Int32) ⊕ (Int32)) :=
  if gS p5 a0 = 7 then
    if (gI p5 a0 28) ≤ s6v.2.2.2 then
      some (Sum.inr s6v.1)
    else
      bnd (gR p5 a0 3) fun x9 =>
      if gS p5 x9 = 19 then
        bnd (gR p5 x9 14) fun x11 =>
        bnd (gR p5 a0 26) fun x12 =>
        if gS p5 x12 = 101 then
          if inb (s6v.2.2.2 - 1) (gN p5 x12) then
            bnd (gR p5 a0 26) fun x15 =>
            if gS p5 x15 = 101 then
              if inb s6v.2.2.2 (gN p5 x15) then
                if gS p5 x11 = 101 then
                  if inb ((6 * (gI p5 x12 (ix (s6v.2.2.2 - 1)))) + (gI p5 x15 (ix s6v.2.2.2))) (gN p5 x11) then
                    bnd (fX7_over s6v.2.2.1 (gI p5 x11 (ix ((6 * (gI p5 x12 (ix (s6v.2.2.2 - 1)))) + (gI p5 x15 (ix s6v.2.2.2))))) p5) fun p20 =>
                    if (s6v.2.2.1 - p20) ≤ s6v.2.1 then
                      X7_worstPass_j129 s6v p20 s6v.1 s6v.2.1
                    else
                      bnd (gR p5 a0 26) fun x24 =>
                      if gS p5 x24 = 101 then
                        if inb (s6v.2.2.2 - 1) (gN p5 x24) then
                          bnd (gR p5 a0 26) fun x27 =>
                          if gS p5 x27 = 101 then
                            if inb s6v.2.2.2 (gN p5 x27) then
                              X7_worstPass_j129 s6v p20 ((10 * (gI p5 x24 (ix (s6v.2.2.2 - 1)))) + (gI p5 x27 (ix s6v.2.2.2))) (s6v.2.2.1 - p20)
                            else none
                          else none
                        else none
                      else none
                  else none
                else none
              else none
            else none
          else none
        else none
      else none
  else none
def fX7_worstPass (a0 : Nat) (a1 : Int32) (a2 : Int32) (a3 : Int32) (h0 : AH) : Option (Int32 × AH) :=
  if gS h0 a0 = 7 then
    lt (uI h0 a0 0 0) fun h2 =>
    bnd (fX7_refusesMarch a0 a1 a2 a3 h2) fun p3 =>
    if p3 ≤ 0 then
      bnd (fX7_marches a0 a1 a2 a3 h2) fun p5 =>
      bnd (iter (X7_worstPass_L46 a0 p5) FU ((-2), 0, a3, 1)) fun r6v =>
      if gS p5 a0 = 7 then
        bnd (fX7_good a0 r6v p5) fun p30 =>
        some (p30.1, p30.2)
      else none
    else
      bnd (fX7_refused a0 p3 h2) fun p32 =>
      some (p32.1, p32.2)
  else none
def X7_worth_j39 (a0 : Nat) (h2 : AH) : Option (Int64 × AH) :=
  bnd (fX7_lost a0 1 h2) fun p4 =>
  some (p4.1, p4.2)
def fX7_worth (a0 : Nat) (a1 : Int32) (a2 : Int32) (a3 : Int32) (h0 : AH) : Option (Int64 × AH) :=
  if gS h0 a0 = 7 then
    lt (uI h0 a0 0 0) fun h2 =>
    bnd (fX7_isBeast a0 a1 h2) fun p3 =>
    if p3 = 0 then
      X7_worth_j39 a0 h2 
    else
      bnd (fX7_isLane a0 a2 h2) fun p6 =>
      if p6 = 0 then
        X7_worth_j39 a0 h2 
      else
        bnd (fX7_worthIn a0 a1 a2 h2) fun p8 =>
        bnd (fX7_whole a0 h2) fun p9 =>
        bnd (fX7_fraction a0 p8 p9 a3 h2) fun p10 =>
        some (p10.1, p10.2)
  else none
def X7_worthIf_j21 (a0 : Nat) (h2 : AH) : Option (Int64 × AH) :=
  bnd (fX7_lost a0 1 h2) fun p4 =>
  some (p4.1, p4.2)
def fX7_worthIf (a0 : Nat) (a1 : Int32) (a2 : Int32) (a3 : Int32) (a4 : Int32) (h0 : AH) : Option (Int64 × AH) :=
  if gS h0 a0 = 7 then
    lt (uI h0 a0 0 0) fun h2 =>
    bnd (fX7_isBeast a0 a1 h2) fun p3 =>
    if p3 = 0 then
      X7_worthIf_j21 a0 h2 
    else
      bnd (fX7_isLane a0 a2 h2) fun p6 =>
      if ¬ p6 = 0 then
        bnd (gR h2 a0 3) fun x8 =>
        if gS h2 x8 = 19 then
          bnd (gR h2 x8 12) fun x10 =>
          if gS h2 x10 = 101 then
            if inb a1 (gN h2 x10) then
              bnd (fX7_holdBy a0 a1 (gI h2 x10 (ix a1)) a3 h2) fun p13 =>
              bnd (fX7_worthHeld a0 a1 a2 p13 h2) fun p14 =>
              bnd (fX7_whole a0 h2) fun p15 =>
              bnd (fX7_fraction a0 p14 p15 a4 h2) fun p16 =>
              some (p16.1, p16.2)
            else none
          else none
        else none
      else
        X7_worthIf_j21 a0 h2 
  else none
def fX7_wound (a0 : Nat) (a1 : Int32) (a2 : Int32) (h0 : AH) : Option (Int32 × AH) :=
  if gS h0 a0 = 7 then
    lt (uI h0 a0 0 0) fun h2 =>
    bnd (fX7_isBeast a0 a1 h2) fun p3 =>
    if ¬ p3 = 0 then
      bnd (fX7_in a2 1 30 h2) fun p5 =>
      if ¬ p5 = 0 then
        bnd (fX7_isDead a0 a1 h2) fun p7 =>
        if p7 = 0 then
          bnd (fX7_remembers a0 h2) fun p9 =>
          if gS p9 a0 = 7 then
            bnd (gR p9 a0 16) fun x11 =>
            if gS p9 x11 = 101 then
              if inb (5 + a1) (gN p9 x11) then
                if inb (5 + a1) (gN p9 x11) then
                  lt (uI p9 x11 (ix (5 + a1)) ((gI p9 x11 (ix (5 + a1))) + a2)) fun h15 =>
                  bnd (fX7_forceOf a0 a1 h15) fun p16 =>
                  bnd (fX7_good a0 p16 h15) fun p17 =>
                  some (p17.1, p17.2)
                else none
              else none
            else none
          else none
        else
          bnd (fX7_refused a0 5 h2) fun p18 =>
          some (p18.1, p18.2)
      else
        bnd (fX7_refused a0 2 h2) fun p19 =>
        some (p19.1, p19.2)
    else
      bnd (fX7_refused a0 1 h2) fun p20 =>
      some (p20.1, p20.2)
  else none
def L_law_j2028 (s6v : Int32 × AH) (h9 : AH) : Option ((Int32 × AH) ⊕ (Int32 × AH)) :=
  some (Sum.inl (s6v.1 + 6, h9))
def L_law_j503 (xs : Nat → Int32) (p2 : AH) (s6v : Int32 × AH) (p71 : Int64 × AH) (j75 : Int32) : Option ((Int32 × AH) ⊕ (Int32 × AH)) :=
  if gS p71.2 (gZ p2) = 7 then
    bnd (fX7_across (gZ p2) (xs (ix (s6v.1 + 1))) j75 p71.2) fun p76 =>
    if p71.1 = p76.1 then
      L_law_j2028 s6v p76.2
    else
      some (Sum.inr (0, p76.2))
  else none
def L_law_j479 (h0 : AH) (xs : Nat → Int32) (xn : Nat) (p2 : AH) (s6v : Int32 × AH) (j70 : Int32) : Option ((Int32 × AH) ⊕ (Int32 × AH)) :=
  if gS s6v.2 (gZ h0) = 1 then
    bnd (fX1_across (gZ h0) (xs (ix (s6v.1 + 1))) j70 s6v.2) fun p71 =>
    if inb (s6v.1 + 1) xn then
      if inb (s6v.1 + 2) xn then
        if (xs (ix (s6v.1 + 2))) = 0 then
          L_law_j503 xs p2 s6v p71 0
        else
          L_law_j503 xs p2 s6v p71 1
      else none
    else none
  else none
def L_law_j569 (xs : Nat → Int32) (p2 : AH) (s6v : Int32 × AH) (p86 : Int32 × AH) (j91 : Int32) : Option ((Int32 × AH) ⊕ (Int32 × AH)) :=
  if gS p86.2 (gZ p2) = 7 then
    bnd (fX7_meets (gZ p2) (xs (ix (s6v.1 + 1))) (xs (ix (s6v.1 + 2))) j91 p86.2) fun p92 =>
    if p86.1 = p92.1 then
      L_law_j2028 s6v p92.2
    else
      some (Sum.inr (0, p92.2))
  else none
def L_law_j539 (h0 : AH) (xs : Nat → Int32) (xn : Nat) (p2 : AH) (s6v : Int32 × AH) (j85 : Int32) : Option ((Int32 × AH) ⊕ (Int32 × AH)) :=
  if gS s6v.2 (gZ h0) = 1 then
    bnd (fX1_meets (gZ h0) (xs (ix (s6v.1 + 1))) (xs (ix (s6v.1 + 2))) j85 s6v.2) fun p86 =>
    if inb (s6v.1 + 1) xn then
      if inb (s6v.1 + 2) xn then
        if inb (s6v.1 + 3) xn then
          if (xs (ix (s6v.1 + 3))) = 0 then
            L_law_j569 xs p2 s6v p86 0
          else
            L_law_j569 xs p2 s6v p86 1
        else none
      else none
    else none
  else none
def L_law_j662 (xs : Nat → Int32) (p2 : AH) (s6v : Int32 × AH) (p104 : Int64 × AH) (j109 : Int32) (j111 : Int32) : Option ((Int32 × AH) ⊕ (Int32 × AH)) :=
  if gS p104.2 (gZ p2) = 7 then
    bnd (fX7_mean (gZ p2) (xs (ix (s6v.1 + 1))) (xs (ix (s6v.1 + 2))) j109 j111 p104.2) fun p112 =>
    if p104.1 = p112.1 then
      L_law_j2028 s6v p112.2
    else
      some (Sum.inr (0, p112.2))
  else none
def L_law_j648 (xs : Nat → Int32) (xn : Nat) (p2 : AH) (s6v : Int32 × AH) (p104 : Int64 × AH) (j109 : Int32) : Option ((Int32 × AH) ⊕ (Int32 × AH)) :=
  if inb (s6v.1 + 4) xn then
    if (xs (ix (s6v.1 + 4))) = 0 then
      L_law_j662 xs p2 s6v p104 j109 0
    else
      L_law_j662 xs p2 s6v p104 j109 1
  else none
def L_law_j618 (h0 : AH) (xs : Nat → Int32) (xn : Nat) (p2 : AH) (s6v : Int32 × AH) (j101 : Int32) (j103 : Int32) : Option ((Int32 × AH) ⊕ (Int32 × AH)) :=
  if gS s6v.2 (gZ h0) = 1 then
    bnd (fX1_mean (gZ h0) (xs (ix (s6v.1 + 1))) (xs (ix (s6v.1 + 2))) j101 j103 s6v.2) fun p104 =>
    if inb (s6v.1 + 1) xn then
      if inb (s6v.1 + 2) xn then
        if inb (s6v.1 + 3) xn then
          if (xs (ix (s6v.1 + 3))) = 0 then
            L_law_j648 xs xn p2 s6v p104 0
          else
            L_law_j648 xs xn p2 s6v p104 1
        else none
      else none
    else none
  else none
def L_law_j604 (h0 : AH) (xs : Nat → Int32) (xn : Nat) (p2 : AH) (s6v : Int32 × AH) (j101 : Int32) : Option ((Int32 × AH) ⊕ (Int32 × AH)) :=
  if inb (s6v.1 + 4) xn then
    if (xs (ix (s6v.1 + 4))) = 0 then
      L_law_j618 h0 xs xn p2 s6v j101 0
    else
      L_law_j618 h0 xs xn p2 s6v j101 1
  else none
def L_law_j728 (xs : Nat → Int32) (p2 : AH) (s6v : Int32 × AH) (p124 : Int64 × AH) (j129 : Int32) : Option ((Int32 × AH) ⊕ (Int32 × AH)) :=
  if gS p124.2 (gZ p2) = 7 then
    bnd (fX7_worth (gZ p2) (xs (ix (s6v.1 + 1))) (xs (ix (s6v.1 + 2))) j129 p124.2) fun p130 =>
    if p124.1 = p130.1 then
      L_law_j2028 s6v p130.2
    else
      some (Sum.inr (0, p130.2))
  else none
def L_law_j698 (h0 : AH) (xs : Nat → Int32) (xn : Nat) (p2 : AH) (s6v : Int32 × AH) (j123 : Int32) : Option ((Int32 × AH) ⊕ (Int32 × AH)) :=
  if gS s6v.2 (gZ h0) = 1 then
    bnd (fX1_worth (gZ h0) (xs (ix (s6v.1 + 1))) (xs (ix (s6v.1 + 2))) j123 s6v.2) fun p124 =>
    if inb (s6v.1 + 1) xn then
      if inb (s6v.1 + 2) xn then
        if inb (s6v.1 + 3) xn then
          if (xs (ix (s6v.1 + 3))) = 0 then
            L_law_j728 xs p2 s6v p124 0
          else
            L_law_j728 xs p2 s6v p124 1
        else none
      else none
    else none
  else none
def L_law_j823 (p2 : AH) (s6v : Int32 × AH) (p148 : Int64 × AH) (j151 : Int32) (j153 : Int32) : Option ((Int32 × AH) ⊕ (Int32 × AH)) :=
  if gS p148.2 (gZ p2) = 7 then
    bnd (fX7_all (gZ p2) j151 j153 p148.2) fun p154 =>
    if p148.1 = p154.1 then
      L_law_j2028 s6v p154.2
    else
      some (Sum.inr (0, p154.2))
  else none
def L_law_j809 (xs : Nat → Int32) (xn : Nat) (p2 : AH) (s6v : Int32 × AH) (p148 : Int64 × AH) (j151 : Int32) : Option ((Int32 × AH) ⊕ (Int32 × AH)) :=
  if inb (s6v.1 + 2) xn then
    if (xs (ix (s6v.1 + 2))) = 0 then
      L_law_j823 p2 s6v p148 j151 0
    else
      L_law_j823 p2 s6v p148 j151 1
  else none
def L_law_j791 (h0 : AH) (xs : Nat → Int32) (xn : Nat) (p2 : AH) (s6v : Int32 × AH) (j145 : Int32) (j147 : Int32) : Option ((Int32 × AH) ⊕ (Int32 × AH)) :=
  if gS s6v.2 (gZ h0) = 1 then
    bnd (fX1_all (gZ h0) j145 j147 s6v.2) fun p148 =>
    if inb (s6v.1 + 1) xn then
      if (xs (ix (s6v.1 + 1))) = 0 then
        L_law_j809 xs xn p2 s6v p148 0
      else
        L_law_j809 xs xn p2 s6v p148 1
    else none
  else none
def L_law_j777 (h0 : AH) (xs : Nat → Int32) (xn : Nat) (p2 : AH) (s6v : Int32 × AH) (j145 : Int32) : Option ((Int32 × AH) ⊕ (Int32 × AH)) :=
  if inb (s6v.1 + 2) xn then
    if (xs (ix (s6v.1 + 2))) = 0 then
      L_law_j791 h0 xs xn p2 s6v j145 0
    else
      L_law_j791 h0 xs xn p2 s6v j145 1
  else none
def L_law_j930 (xs : Nat → Int32) (p2 : AH) (s6v : Int32 × AH) (p174 : Int64 × AH) (j179 : Int32) (j181 : Int32) : Option ((Int32 × AH) ⊕ (Int32 × AH)) :=
  if gS p174.2 (gZ p2) = 7 then
    bnd (fX7_worthIf (gZ p2) (xs (ix (s6v.1 + 1))) (xs (ix (s6v.1 + 2))) j179 j181 p174.2) fun p182 =>
    if p174.1 = p182.1 then
      L_law_j2028 s6v p182.2
    else
      some (Sum.inr (0, p182.2))
  else none
def L_law_j916 (xs : Nat → Int32) (xn : Nat) (p2 : AH) (s6v : Int32 × AH) (p174 : Int64 × AH) (j179 : Int32) : Option ((Int32 × AH) ⊕ (Int32 × AH)) :=
  if inb (s6v.1 + 4) xn then
    if (xs (ix (s6v.1 + 4))) = 0 then
      L_law_j930 xs p2 s6v p174 j179 0
    else
      L_law_j930 xs p2 s6v p174 j179 1
  else none
def L_law_j886 (h0 : AH) (xs : Nat → Int32) (xn : Nat) (p2 : AH) (s6v : Int32 × AH) (j171 : Int32) (j173 : Int32) : Option ((Int32 × AH) ⊕ (Int32 × AH)) :=
  if gS s6v.2 (gZ h0) = 1 then
    bnd (fX1_worthIf (gZ h0) (xs (ix (s6v.1 + 1))) (xs (ix (s6v.1 + 2))) j171 j173 s6v.2) fun p174 =>
    if inb (s6v.1 + 1) xn then
      if inb (s6v.1 + 2) xn then
        if inb (s6v.1 + 3) xn then
          if (xs (ix (s6v.1 + 3))) = 0 then
            L_law_j916 xs xn p2 s6v p174 0
          else
            L_law_j916 xs xn p2 s6v p174 1
        else none
      else none
    else none
  else none
def L_law_j872 (h0 : AH) (xs : Nat → Int32) (xn : Nat) (p2 : AH) (s6v : Int32 × AH) (j171 : Int32) : Option ((Int32 × AH) ⊕ (Int32 × AH)) :=
  if inb (s6v.1 + 4) xn then
    if (xs (ix (s6v.1 + 4))) = 0 then
      L_law_j886 h0 xs xn p2 s6v j171 0
    else
      L_law_j886 h0 xs xn p2 s6v j171 1
  else none
def L_law_j1047 (p2 : AH) (s6v : Int32 × AH) (p216 : Int64 × AH) (j219 : Int32) : Option ((Int32 × AH) ⊕ (Int32 × AH)) :=
  if gS p216.2 (gZ p2) = 7 then
    bnd (fX7_placed (gZ p2) j219 p216.2) fun p220 =>
    if p216.1 = p220.1 then
      L_law_j2028 s6v p220.2
    else
      some (Sum.inr (0, p220.2))
  else none
def L_law_j1029 (h0 : AH) (xs : Nat → Int32) (xn : Nat) (p2 : AH) (s6v : Int32 × AH) (j215 : Int32) : Option ((Int32 × AH) ⊕ (Int32 × AH)) :=
  if gS s6v.2 (gZ h0) = 1 then
    bnd (fX1_placed (gZ h0) j215 s6v.2) fun p216 =>
    if inb (s6v.1 + 1) xn then
      if (xs (ix (s6v.1 + 1))) = 0 then
        L_law_j1047 p2 s6v p216 0
      else
        L_law_j1047 p2 s6v p216 1
    else none
  else none
def L_law_j1574 (xs : Nat → Int32) (p2 : AH) (s6v : Int32 × AH) (p372 : Int32 × AH) (j377 : Int32) : Option ((Int32 × AH) ⊕ (Int32 × AH)) :=
  if gS p372.2 (gZ p2) = 7 then
    bnd (fX7_battles (gZ p2) (xs (ix (s6v.1 + 1))) (xs (ix (s6v.1 + 2))) j377 p372.2) fun p378 =>
    if p372.1 = p378.1 then
      L_law_j2028 s6v p378.2
    else
      some (Sum.inr (0, p378.2))
  else none
def L_law_j1544 (h0 : AH) (xs : Nat → Int32) (xn : Nat) (p2 : AH) (s6v : Int32 × AH) (j371 : Int32) : Option ((Int32 × AH) ⊕ (Int32 × AH)) :=
  if gS s6v.2 (gZ h0) = 1 then
    bnd (fX1_battles (gZ h0) (xs (ix (s6v.1 + 1))) (xs (ix (s6v.1 + 2))) j371 s6v.2) fun p372 =>
    if inb (s6v.1 + 1) xn then
      if inb (s6v.1 + 2) xn then
        if inb (s6v.1 + 3) xn then
          if (xs (ix (s6v.1 + 3))) = 0 then
            L_law_j1574 xs p2 s6v p372 0
          else
            L_law_j1574 xs p2 s6v p372 1
        else none
      else none
    else none
  else none
def L_law_j1837 (p2 : AH) (s6v : Int32 × AH) (p446 : Int32 × AH) (j449 : Int32) : Option ((Int32 × AH) ⊕ (Int32 × AH)) :=
  if gS p446.2 (gZ p2) = 7 then
    bnd (fX7_rain (gZ p2) j449 p446.2) fun p450 =>
    if p446.1 = p450.1 then
      L_law_j2028 s6v p450.2
    else
      some (Sum.inr (0, p450.2))
  else none
def L_law_j1819 (h0 : AH) (xs : Nat → Int32) (xn : Nat) (p2 : AH) (s6v : Int32 × AH) (j445 : Int32) : Option ((Int32 × AH) ⊕ (Int32 × AH)) :=
  if gS s6v.2 (gZ h0) = 1 then
    bnd (fX1_rain (gZ h0) j445 s6v.2) fun p446 =>
    if inb (s6v.1 + 1) xn then
      if (xs (ix (s6v.1 + 1))) = 0 then
        L_law_j1837 p2 s6v p446 0
      else
        L_law_j1837 p2 s6v p446 1
    else none
  else none
def L_law_j1987 (s6v : Int32 × AH) (p493 : Int32 × AH) : Option ((Int32 × AH) ⊕ (Int32 × AH)) :=
  L_law_j2028 s6v p493.2
def L_law_L23 (h0 : AH) (xs : Nat → Int32) (xn : Nat) (p2 : AH) (p4 : AH) (s6v : Int32 × AH) : Option ((Int32 × AH) ⊕ (Int32 × AH)) :=
  if ((Int32.ofNat xn) - 6) < s6v.1 then
    some (Sum.inr (1, s6v.2))
  else
    if inb s6v.1 xn then
      if ((xs (ix s6v.1)) &&& 63) < 0 ∨ 50 < ((xs (ix s6v.1)) &&& 63) then
        L_law_j2028 s6v s6v.2
      else if ((xs (ix s6v.1)) &&& 63) = 0 then
        if inb (s6v.1 + 1) xn then
          if inb (s6v.1 + 2) xn then
            if inb (s6v.1 + 3) xn then
              if inb (s6v.1 + 4) xn then
                if inb (s6v.1 + 5) xn then
                  if gS s6v.2 (gZ h0) = 1 then
                    bnd (fX1_feed (gZ h0) (xs (ix (s6v.1 + 1))) (xs (ix (s6v.1 + 2))) (xs (ix (s6v.1 + 3))) (xs (ix (s6v.1 + 4))) (xs (ix (s6v.1 + 5))) s6v.2) fun p17 =>
                    if inb (s6v.1 + 1) xn then
                      if inb (s6v.1 + 2) xn then
                        if inb (s6v.1 + 3) xn then
                          if inb (s6v.1 + 4) xn then
                            if inb (s6v.1 + 5) xn then
                              if gS p17.2 (gZ p2) = 7 then
                                bnd (fX7_feed (gZ p2) (xs (ix (s6v.1 + 1))) (xs (ix (s6v.1 + 2))) (xs (ix (s6v.1 + 3))) (xs (ix (s6v.1 + 4))) (xs (ix (s6v.1 + 5))) p17.2) fun p24 =>
                                if p17.1 = p24.1 then
                                  L_law_j2028 s6v p24.2
                                else
                                  some (Sum.inr (0, p24.2))
                              else none
                            else none
                          else none
                        else none
                      else none
                    else none
                  else none
                else none
              else none
            else none
          else none
        else none
      else if ((xs (ix s6v.1)) &&& 63) = 1 then
        if inb (s6v.1 + 1) xn then
          if gS s6v.2 (gZ h0) = 1 then
            bnd (fX1_war (gZ h0) (xs (ix (s6v.1 + 1))) s6v.2) fun p29 =>
            if inb (s6v.1 + 1) xn then
              if gS p29.2 (gZ p2) = 7 then
                bnd (fX7_war (gZ p2) (xs (ix (s6v.1 + 1))) p29.2) fun p32 =>
                if p29.1 = p32.1 then
                  L_law_j2028 s6v p32.2
                else
                  some (Sum.inr (0, p32.2))
              else none
            else none
          else none
        else none
      else if ((xs (ix s6v.1)) &&& 63) = 2 then
        if gS s6v.2 (gZ h0) = 1 then
          bnd (fX1_fault (gZ h0) s6v.2) fun p36 =>
          if gS s6v.2 (gZ p2) = 7 then
            bnd (fX7_fault (gZ p2) s6v.2) fun p38 =>
            if p36 = p38.1 then
              L_law_j2028 s6v p38.2
            else
              some (Sum.inr (0, p38.2))
          else none
        else none
      else if ((xs (ix s6v.1)) &&& 63) = 3 then
        if gS s6v.2 (gZ h0) = 1 then
          bnd (fX1_where (gZ h0) s6v.2) fun p42 =>
          if gS s6v.2 (gZ p2) = 7 then
            bnd (fX7_where (gZ p2) s6v.2) fun p44 =>
            if p42 = p44.1 then
              L_law_j2028 s6v p44.2
            else
              some (Sum.inr (0, p44.2))
          else none
        else none
      else if ((xs (ix s6v.1)) &&& 63) = 4 then
        if inb (s6v.1 + 1) xn then
          if inb (s6v.1 + 2) xn then
            if gS s6v.2 (gZ h0) = 1 then
              bnd (fX1_lane (gZ h0) (xs (ix (s6v.1 + 1))) (xs (ix (s6v.1 + 2))) s6v.2) fun p50 =>
              if inb (s6v.1 + 1) xn then
                if inb (s6v.1 + 2) xn then
                  if gS p50.2 (gZ p2) = 7 then
                    bnd (fX7_lane (gZ p2) (xs (ix (s6v.1 + 1))) (xs (ix (s6v.1 + 2))) p50.2) fun p54 =>
                    if p50.1 = p54.1 then
                      L_law_j2028 s6v p54.2
                    else
                      some (Sum.inr (0, p54.2))
                  else none
                else none
              else none
            else none
          else none
        else none
      else if ((xs (ix s6v.1)) &&& 63) = 5 then
        if inb (s6v.1 + 1) xn then
          if inb (s6v.1 + 2) xn then
            if gS s6v.2 (gZ h0) = 1 then
              bnd (fX1_beast (gZ h0) (xs (ix (s6v.1 + 1))) (xs (ix (s6v.1 + 2))) s6v.2) fun p60 =>
              if inb (s6v.1 + 1) xn then
                if inb (s6v.1 + 2) xn then
                  if gS p60.2 (gZ p2) = 7 then
                    bnd (fX7_beast (gZ p2) (xs (ix (s6v.1 + 1))) (xs (ix (s6v.1 + 2))) p60.2) fun p64 =>
                    if p60.1 = p64.1 then
                      L_law_j2028 s6v p64.2
                    else
                      some (Sum.inr (0, p64.2))
                  else none
                else none
              else none
            else none
          else none
        else none
      else if ((xs (ix s6v.1)) &&& 63) = 6 then
        if inb (s6v.1 + 1) xn then
          if inb (s6v.1 + 2) xn then
            if (xs (ix (s6v.1 + 2))) = 0 then
              L_law_j479 h0 xs xn p2 s6v 0
            else
              L_law_j479 h0 xs xn p2 s6v 1
          else none
        else none
      else if ((xs (ix s6v.1)) &&& 63) = 7 then
        if inb (s6v.1 + 1) xn then
          if inb (s6v.1 + 2) xn then
            if inb (s6v.1 + 3) xn then
              if (xs (ix (s6v.1 + 3))) = 0 then
                L_law_j539 h0 xs xn p2 s6v 0
              else
                L_law_j539 h0 xs xn p2 s6v 1
            else none
          else none
        else none
      else if ((xs (ix s6v.1)) &&& 63) = 8 then
        if inb (s6v.1 + 1) xn then
          if inb (s6v.1 + 2) xn then
            if inb (s6v.1 + 3) xn then
              if (xs (ix (s6v.1 + 3))) = 0 then
                L_law_j604 h0 xs xn p2 s6v 0
              else
                L_law_j604 h0 xs xn p2 s6v 1
            else none
          else none
        else none
      else if ((xs (ix s6v.1)) &&& 63) = 9 then
        if inb (s6v.1 + 1) xn then
          if inb (s6v.1 + 2) xn then
            if inb (s6v.1 + 3) xn then
              if (xs (ix (s6v.1 + 3))) = 0 then
                L_law_j698 h0 xs xn p2 s6v 0
              else
                L_law_j698 h0 xs xn p2 s6v 1
            else none
          else none
        else none
      else if ((xs (ix s6v.1)) &&& 63) = 10 then
        if inb (s6v.1 + 1) xn then
          if gS s6v.2 (gZ h0) = 1 then
            bnd (fX1_bestLane (gZ h0) (xs (ix (s6v.1 + 1))) s6v.2) fun p137 =>
            if inb (s6v.1 + 1) xn then
              if gS p137.2 (gZ p2) = 7 then
                bnd (fX7_bestLane (gZ p2) (xs (ix (s6v.1 + 1))) p137.2) fun p140 =>
                if p137.1 = p140.1 then
                  L_law_j2028 s6v p140.2
                else
                  some (Sum.inr (0, p140.2))
              else none
            else none
          else none
        else none
      else if ((xs (ix s6v.1)) &&& 63) = 11 then
        if inb (s6v.1 + 1) xn then
          if (xs (ix (s6v.1 + 1))) = 0 then
            L_law_j777 h0 xs xn p2 s6v 0
          else
            L_law_j777 h0 xs xn p2 s6v 1
        else none
      else if ((xs (ix s6v.1)) &&& 63) = 12 then
        if gS s6v.2 (gZ h0) = 1 then
          bnd (fX1_worst (gZ h0) s6v.2) fun p162 =>
          if gS p162.2 (gZ p2) = 7 then
            bnd (fX7_worst (gZ p2) p162.2) fun p164 =>
            if p162.1 = p164.1 then
              L_law_j2028 s6v p164.2
            else
              some (Sum.inr (0, p164.2))
          else none
        else none
      else if ((xs (ix s6v.1)) &&& 63) = 13 then
        if inb (s6v.1 + 1) xn then
          if inb (s6v.1 + 2) xn then
            if inb (s6v.1 + 3) xn then
              if (xs (ix (s6v.1 + 3))) = 0 then
                L_law_j872 h0 xs xn p2 s6v 0
              else
                L_law_j872 h0 xs xn p2 s6v 1
            else none
          else none
        else none
      else if ((xs (ix s6v.1)) &&& 63) = 14 then
        if inb (s6v.1 + 1) xn then
          if inb (s6v.1 + 2) xn then
            if gS s6v.2 (gZ h0) = 1 then
              bnd (fX1_moodFor (gZ h0) (xs (ix (s6v.1 + 1))) (xs (ix (s6v.1 + 2))) s6v.2) fun p192 =>
              if inb (s6v.1 + 1) xn then
                if inb (s6v.1 + 2) xn then
                  if gS p192.2 (gZ p2) = 7 then
                    bnd (fX7_moodFor (gZ p2) (xs (ix (s6v.1 + 1))) (xs (ix (s6v.1 + 2))) p192.2) fun p196 =>
                    if p192.1 = p196.1 then
                      L_law_j2028 s6v p196.2
                    else
                      some (Sum.inr (0, p196.2))
                  else none
                else none
              else none
            else none
          else none
        else none
      else if ((xs (ix s6v.1)) &&& 63) = 15 then
        if gS s6v.2 (gZ h0) = 1 then
          bnd (fX1_toHammer (gZ h0) s6v.2) fun p200 =>
          if gS p200.2 (gZ p2) = 7 then
            bnd (fX7_toHammer (gZ p2) p200.2) fun p202 =>
            if p200.1 = p202.1 then
              L_law_j2028 s6v p202.2
            else
              some (Sum.inr (0, p202.2))
          else none
        else none
      else if ((xs (ix s6v.1)) &&& 63) = 16 then
        if inb (s6v.1 + 1) xn then
          if gS s6v.2 (gZ h0) = 1 then
            bnd (fX1_place (gZ h0) (xs (ix (s6v.1 + 1))) s6v.2) fun p207 =>
            if inb (s6v.1 + 1) xn then
              if gS p207.2 (gZ p2) = 7 then
                bnd (fX7_place (gZ p2) (xs (ix (s6v.1 + 1))) p207.2) fun p210 =>
                if p207.1 = p210.1 then
                  L_law_j2028 s6v p210.2
                else
                  some (Sum.inr (0, p210.2))
              else none
            else none
          else none
        else none
      else if ((xs (ix s6v.1)) &&& 63) = 17 then
        if inb (s6v.1 + 1) xn then
          if (xs (ix (s6v.1 + 1))) = 0 then
            L_law_j1029 h0 xs xn p2 s6v 0
          else
            L_law_j1029 h0 xs xn p2 s6v 1
        else none
      else if ((xs (ix s6v.1)) &&& 63) = 18 then
        if gS s6v.2 (gZ h0) = 1 then
          bnd (fX1_out (gZ h0) s6v.2) fun p226 =>
          if gS p226.2 (gZ p2) = 7 then
            bnd (fX7_out (gZ p2) p226.2) fun p228 =>
            if p226.1 = p228.1 then
              L_law_j2028 s6v p228.2
            else
              some (Sum.inr (0, p228.2))
          else none
        else none
      else if ((xs (ix s6v.1)) &&& 63) = 19 then
        if gS s6v.2 (gZ h0) = 1 then
          bnd (fX1_toOpen (gZ h0) s6v.2) fun p232 =>
          if gS p232.2 (gZ p2) = 7 then
            bnd (fX7_toOpen (gZ p2) p232.2) fun p234 =>
            if p232.1 = p234.1 then
              L_law_j2028 s6v p234.2
            else
              some (Sum.inr (0, p234.2))
          else none
        else none
      else if ((xs (ix s6v.1)) &&& 63) = 20 then
        if inb (s6v.1 + 1) xn then
          if gS s6v.2 (gZ h0) = 1 then
            bnd (fX1_rests (gZ h0) (xs (ix (s6v.1 + 1))) s6v.2) fun p239 =>
            if inb (s6v.1 + 1) xn then
              if gS p239.2 (gZ p2) = 7 then
                bnd (fX7_rests (gZ p2) (xs (ix (s6v.1 + 1))) p239.2) fun p242 =>
                if p239.1 = p242.1 then
                  L_law_j2028 s6v p242.2
                else
                  some (Sum.inr (0, p242.2))
              else none
            else none
          else none
        else none
      else if ((xs (ix s6v.1)) &&& 63) = 21 then
        if inb (s6v.1 + 1) xn then
          if gS s6v.2 (gZ h0) = 1 then
            bnd (fX1_rest (gZ h0) (xs (ix (s6v.1 + 1))) s6v.2) fun p247 =>
            if inb (s6v.1 + 1) xn then
              if gS p247.2 (gZ p2) = 7 then
                bnd (fX7_rest (gZ p2) (xs (ix (s6v.1 + 1))) p247.2) fun p250 =>
                if p247.1 = p250.1 then
                  L_law_j2028 s6v p250.2
                else
                  some (Sum.inr (0, p250.2))
              else none
            else none
          else none
        else none
      else if ((xs (ix s6v.1)) &&& 63) = 22 then
        if inb (s6v.1 + 1) xn then
          if gS s6v.2 (gZ h0) = 1 then
            bnd (fX1_weeks (gZ h0) (xs (ix (s6v.1 + 1))) s6v.2) fun p255 =>
            if inb (s6v.1 + 1) xn then
              if gS p255.2 (gZ p2) = 7 then
                bnd (fX7_weeks (gZ p2) (xs (ix (s6v.1 + 1))) p255.2) fun p258 =>
                if p255.1 = p258.1 then
                  L_law_j2028 s6v p258.2
                else
                  some (Sum.inr (0, p258.2))
              else none
            else none
          else none
        else none
      else if ((xs (ix s6v.1)) &&& 63) = 23 then
        if inb (s6v.1 + 1) xn then
          if gS s6v.2 (gZ h0) = 1 then
            bnd (fX1_sale (gZ h0) (xs (ix (s6v.1 + 1))) s6v.2) fun p263 =>
            if inb (s6v.1 + 1) xn then
              if gS p263.2 (gZ p2) = 7 then
                bnd (fX7_sale (gZ p2) (xs (ix (s6v.1 + 1))) p263.2) fun p266 =>
                if p263.1 = p266.1 then
                  L_law_j2028 s6v p266.2
                else
                  some (Sum.inr (0, p266.2))
              else none
            else none
          else none
        else none
      else if ((xs (ix s6v.1)) &&& 63) = 24 then
        if inb (s6v.1 + 1) xn then
          if gS s6v.2 (gZ h0) = 1 then
            bnd (fX1_saleOver (gZ h0) (xs (ix (s6v.1 + 1))) s6v.2) fun p271 =>
            if inb (s6v.1 + 1) xn then
              if gS p271.2 (gZ p2) = 7 then
                bnd (fX7_saleOver (gZ p2) (xs (ix (s6v.1 + 1))) p271.2) fun p274 =>
                if p271.1 = p274.1 then
                  L_law_j2028 s6v p274.2
                else
                  some (Sum.inr (0, p274.2))
              else none
            else none
          else none
        else none
      else if ((xs (ix s6v.1)) &&& 63) = 25 then
        if inb (s6v.1 + 1) xn then
          if inb (s6v.1 + 2) xn then
            if inb (s6v.1 + 3) xn then
              if gS s6v.2 (gZ h0) = 1 then
                bnd (fX1_march (gZ h0) (xs (ix (s6v.1 + 1))) (xs (ix (s6v.1 + 2))) (xs (ix (s6v.1 + 3))) s6v.2) fun p281 =>
                if inb (s6v.1 + 1) xn then
                  if inb (s6v.1 + 2) xn then
                    if inb (s6v.1 + 3) xn then
                      if gS p281.2 (gZ p2) = 7 then
                        bnd (fX7_march (gZ p2) (xs (ix (s6v.1 + 1))) (xs (ix (s6v.1 + 2))) (xs (ix (s6v.1 + 3))) p281.2) fun p286 =>
                        if p281.1 = p286.1 then
                          L_law_j2028 s6v p286.2
                        else
                          some (Sum.inr (0, p286.2))
                      else none
                    else none
                  else none
                else none
              else none
            else none
          else none
        else none
      else if ((xs (ix s6v.1)) &&& 63) = 26 then
        if inb (s6v.1 + 1) xn then
          if inb (s6v.1 + 2) xn then
            if inb (s6v.1 + 3) xn then
              if inb (s6v.1 + 4) xn then
                if gS s6v.2 (gZ h0) = 1 then
                  bnd (fX1_marchAt (gZ h0) (xs (ix (s6v.1 + 1))) (xs (ix (s6v.1 + 2))) (xs (ix (s6v.1 + 3))) (xs (ix (s6v.1 + 4))) s6v.2) fun p294 =>
                  if inb (s6v.1 + 1) xn then
                    if inb (s6v.1 + 2) xn then
                      if inb (s6v.1 + 3) xn then
                        if inb (s6v.1 + 4) xn then
                          if gS p294.2 (gZ p2) = 7 then
                            bnd (fX7_marchAt (gZ p2) (xs (ix (s6v.1 + 1))) (xs (ix (s6v.1 + 2))) (xs (ix (s6v.1 + 3))) (xs (ix (s6v.1 + 4))) p294.2) fun p300 =>
                            if p294.1 = p300.1 then
                              L_law_j2028 s6v p300.2
                            else
                              some (Sum.inr (0, p300.2))
                          else none
                        else none
                      else none
                    else none
                  else none
                else none
              else none
            else none
          else none
        else none
      else if ((xs (ix s6v.1)) &&& 63) = 27 then
        if inb (s6v.1 + 1) xn then
          if gS s6v.2 (gZ h0) = 1 then
            bnd (fX1_reach (gZ h0) (xs (ix (s6v.1 + 1))) s6v.2) fun p305 =>
            if inb (s6v.1 + 1) xn then
              if gS p305.2 (gZ p2) = 7 then
                bnd (fX7_reach (gZ p2) (xs (ix (s6v.1 + 1))) p305.2) fun p308 =>
                if p305.1 = p308.1 then
                  L_law_j2028 s6v p308.2
                else
                  some (Sum.inr (0, p308.2))
              else none
            else none
          else none
        else none
      else if ((xs (ix s6v.1)) &&& 63) = 28 then
        if inb (s6v.1 + 1) xn then
          if inb (s6v.1 + 2) xn then
            if inb (s6v.1 + 3) xn then
              if gS s6v.2 (gZ h0) = 1 then
                bnd (fX1_worstPass (gZ h0) (xs (ix (s6v.1 + 1))) (xs (ix (s6v.1 + 2))) (xs (ix (s6v.1 + 3))) s6v.2) fun p315 =>
                if inb (s6v.1 + 1) xn then
                  if inb (s6v.1 + 2) xn then
                    if inb (s6v.1 + 3) xn then
                      if gS p315.2 (gZ p2) = 7 then
                        bnd (fX7_worstPass (gZ p2) (xs (ix (s6v.1 + 1))) (xs (ix (s6v.1 + 2))) (xs (ix (s6v.1 + 3))) p315.2) fun p320 =>
                        if p315.1 = p320.1 then
                          L_law_j2028 s6v p320.2
                        else
                          some (Sum.inr (0, p320.2))
                      else none
                    else none
                  else none
                else none
              else none
            else none
          else none
        else none
      else if ((xs (ix s6v.1)) &&& 63) = 29 then
        if inb (s6v.1 + 1) xn then
          if inb (s6v.1 + 2) xn then
            if inb (s6v.1 + 3) xn then
              if gS s6v.2 (gZ h0) = 1 then
                bnd (fX1_setOut (gZ h0) (xs (ix (s6v.1 + 1))) (xs (ix (s6v.1 + 2))) (xs (ix (s6v.1 + 3))) s6v.2) fun p327 =>
                if inb (s6v.1 + 1) xn then
                  if inb (s6v.1 + 2) xn then
                    if inb (s6v.1 + 3) xn then
                      if gS p327.2 (gZ p2) = 7 then
                        bnd (fX7_setOut (gZ p2) (xs (ix (s6v.1 + 1))) (xs (ix (s6v.1 + 2))) (xs (ix (s6v.1 + 3))) p327.2) fun p332 =>
                        if p327.1 = p332.1 then
                          L_law_j2028 s6v p332.2
                        else
                          some (Sum.inr (0, p332.2))
                      else none
                    else none
                  else none
                else none
              else none
            else none
          else none
        else none
      else if ((xs (ix s6v.1)) &&& 63) = 30 then
        if gS s6v.2 (gZ h0) = 1 then
          bnd (fX1_fits (gZ h0) s6v.2) fun p336 =>
          if gS p336.2 (gZ p2) = 7 then
            bnd (fX7_fits (gZ p2) p336.2) fun p338 =>
            if p336.1 = p338.1 then
              L_law_j2028 s6v p338.2
            else
              some (Sum.inr (0, p338.2))
          else none
        else none
      else if ((xs (ix s6v.1)) &&& 63) = 31 then
        if gS s6v.2 (gZ h0) = 1 then
          bnd (fX1_could (gZ h0) s6v.2) fun p342 =>
          if gS p342.2 (gZ p2) = 7 then
            bnd (fX7_could (gZ p2) p342.2) fun p344 =>
            if p342.1 = p344.1 then
              L_law_j2028 s6v p344.2
            else
              some (Sum.inr (0, p344.2))
          else none
        else none
      else if ((xs (ix s6v.1)) &&& 63) = 32 then
        if gS s6v.2 (gZ h0) = 1 then
          bnd (fX1_surely (gZ h0) s6v.2) fun p348 =>
          if gS p348.2 (gZ p2) = 7 then
            bnd (fX7_surely (gZ p2) p348.2) fun p350 =>
            if p348.1 = p350.1 then
              L_law_j2028 s6v p350.2
            else
              some (Sum.inr (0, p350.2))
          else none
        else none
      else if ((xs (ix s6v.1)) &&& 63) = 33 then
        if gS s6v.2 (gZ h0) = 1 then
          bnd (fX1_ask (gZ h0) s6v.2) fun p354 =>
          if gS p354.2 (gZ p2) = 7 then
            bnd (fX7_ask (gZ p2) p354.2) fun p356 =>
            if p354.1 = p356.1 then
              L_law_j2028 s6v p356.2
            else
              some (Sum.inr (0, p356.2))
          else none
        else none
      else if ((xs (ix s6v.1)) &&& 63) = 34 then
        if inb (s6v.1 + 1) xn then
          if gS s6v.2 (gZ h0) = 1 then
            bnd (fX1_turnedBy (gZ h0) (xs (ix (s6v.1 + 1))) s6v.2) fun p361 =>
            if inb (s6v.1 + 1) xn then
              if gS p361.2 (gZ p2) = 7 then
                bnd (fX7_turnedBy (gZ p2) (xs (ix (s6v.1 + 1))) p361.2) fun p364 =>
                if p361.1 = p364.1 then
                  L_law_j2028 s6v p364.2
                else
                  some (Sum.inr (0, p364.2))
              else none
            else none
          else none
        else none
      else if ((xs (ix s6v.1)) &&& 63) = 35 then
        if inb (s6v.1 + 1) xn then
          if inb (s6v.1 + 2) xn then
            if inb (s6v.1 + 3) xn then
              if (xs (ix (s6v.1 + 3))) = 0 then
                L_law_j1544 h0 xs xn p2 s6v 0
              else
                L_law_j1544 h0 xs xn p2 s6v 1
            else none
          else none
        else none
      else if ((xs (ix s6v.1)) &&& 63) = 36 then
        if inb (s6v.1 + 1) xn then
          if inb (s6v.1 + 2) xn then
            if gS s6v.2 (gZ h0) = 1 then
              bnd (fX1_won (gZ h0) (xs (ix (s6v.1 + 1))) (xs (ix (s6v.1 + 2))) s6v.2) fun p386 =>
              if inb (s6v.1 + 1) xn then
                if inb (s6v.1 + 2) xn then
                  if gS p386.2 (gZ p2) = 7 then
                    bnd (fX7_won (gZ p2) (xs (ix (s6v.1 + 1))) (xs (ix (s6v.1 + 2))) p386.2) fun p390 =>
                    if p386.1 = p390.1 then
                      L_law_j2028 s6v p390.2
                    else
                      some (Sum.inr (0, p390.2))
                  else none
                else none
              else none
            else none
          else none
        else none
      else if ((xs (ix s6v.1)) &&& 63) = 37 then
        if inb (s6v.1 + 1) xn then
          if inb (s6v.1 + 2) xn then
            if inb (s6v.1 + 3) xn then
              if gS s6v.2 (gZ h0) = 1 then
                bnd (fX1_acrossIn (gZ h0) (xs (ix (s6v.1 + 1))) (xs (ix (s6v.1 + 2))) (xs (ix (s6v.1 + 3))) s6v.2) fun p397 =>
                if inb (s6v.1 + 1) xn then
                  if inb (s6v.1 + 2) xn then
                    if inb (s6v.1 + 3) xn then
                      if gS p397.2 (gZ p2) = 7 then
                        bnd (fX7_acrossIn (gZ p2) (xs (ix (s6v.1 + 1))) (xs (ix (s6v.1 + 2))) (xs (ix (s6v.1 + 3))) p397.2) fun p402 =>
                        if p397.1 = p402.1 then
                          L_law_j2028 s6v p402.2
                        else
                          some (Sum.inr (0, p402.2))
                      else none
                    else none
                  else none
                else none
              else none
            else none
          else none
        else none
      else if ((xs (ix s6v.1)) &&& 63) = 38 then
        if inb (s6v.1 + 1) xn then
          if inb (s6v.1 + 2) xn then
            if gS s6v.2 (gZ h0) = 1 then
              bnd (fX1_move (gZ h0) (xs (ix (s6v.1 + 1))) (xs (ix (s6v.1 + 2))) s6v.2) fun p408 =>
              if inb (s6v.1 + 1) xn then
                if inb (s6v.1 + 2) xn then
                  if gS p408.2 (gZ p2) = 7 then
                    bnd (fX7_move (gZ p2) (xs (ix (s6v.1 + 1))) (xs (ix (s6v.1 + 2))) p408.2) fun p412 =>
                    if p408.1 = p412.1 then
                      L_law_j2028 s6v p412.2
                    else
                      some (Sum.inr (0, p412.2))
                  else none
                else none
              else none
            else none
          else none
        else none
      else if ((xs (ix s6v.1)) &&& 63) = 39 then
        if inb (s6v.1 + 1) xn then
          if inb (s6v.1 + 2) xn then
            if gS s6v.2 (gZ h0) = 1 then
              bnd (fX1_wound (gZ h0) (xs (ix (s6v.1 + 1))) (xs (ix (s6v.1 + 2))) s6v.2) fun p418 =>
              if inb (s6v.1 + 1) xn then
                if inb (s6v.1 + 2) xn then
                  if gS p418.2 (gZ p2) = 7 then
                    bnd (fX7_wound (gZ p2) (xs (ix (s6v.1 + 1))) (xs (ix (s6v.1 + 2))) p418.2) fun p422 =>
                    if p418.1 = p422.1 then
                      L_law_j2028 s6v p422.2
                    else
                      some (Sum.inr (0, p422.2))
                  else none
                else none
              else none
            else none
          else none
        else none
      else if ((xs (ix s6v.1)) &&& 63) = 40 then
        if inb (s6v.1 + 1) xn then
          if gS s6v.2 (gZ h0) = 1 then
            bnd (fX1_hammer (gZ h0) (xs (ix (s6v.1 + 1))) s6v.2) fun p427 =>
            if inb (s6v.1 + 1) xn then
              if gS p427.2 (gZ p2) = 7 then
                bnd (fX7_hammer (gZ p2) (xs (ix (s6v.1 + 1))) p427.2) fun p430 =>
                if p427.1 = p430.1 then
                  L_law_j2028 s6v p430.2
                else
                  some (Sum.inr (0, p430.2))
              else none
            else none
          else none
        else none
      else if ((xs (ix s6v.1)) &&& 63) = 41 then
        if inb (s6v.1 + 1) xn then
          if inb (s6v.1 + 2) xn then
            if gS s6v.2 (gZ h0) = 1 then
              bnd (fX1_teach (gZ h0) (xs (ix (s6v.1 + 1))) (xs (ix (s6v.1 + 2))) s6v.2) fun p436 =>
              if inb (s6v.1 + 1) xn then
                if inb (s6v.1 + 2) xn then
                  if gS p436.2 (gZ p2) = 7 then
                    bnd (fX7_teach (gZ p2) (xs (ix (s6v.1 + 1))) (xs (ix (s6v.1 + 2))) p436.2) fun p440 =>
                    if p436.1 = p440.1 then
                      L_law_j2028 s6v p440.2
                    else
                      some (Sum.inr (0, p440.2))
                  else none
                else none
              else none
            else none
          else none
        else none
      else if ((xs (ix s6v.1)) &&& 63) = 42 then
        if inb (s6v.1 + 1) xn then
          if (xs (ix (s6v.1 + 1))) = 0 then
            L_law_j1819 h0 xs xn p2 s6v 0
          else
            L_law_j1819 h0 xs xn p2 s6v 1
        else none
      else if ((xs (ix s6v.1)) &&& 63) = 43 then
        if gS s6v.2 (gZ h0) = 1 then
          bnd (fX1_battle (gZ h0) s6v.2) fun p456 =>
          if gS p456.2 (gZ p2) = 7 then
            bnd (fX7_battle (gZ p2) p456.2) fun p458 =>
            if p456.1 = p458.1 then
              L_law_j2028 s6v p458.2
            else
              some (Sum.inr (0, p458.2))
          else none
        else none
      else if ((xs (ix s6v.1)) &&& 63) = 44 then
        if inb (s6v.1 + 1) xn then
          if gS s6v.2 (gZ h0) = 1 then
            bnd (fX1_seed (gZ h0) (xs (ix (s6v.1 + 1))) s6v.2) fun p463 =>
            if inb (s6v.1 + 1) xn then
              if gS p463.2 (gZ p2) = 7 then
                bnd (fX7_seed (gZ p2) (xs (ix (s6v.1 + 1))) p463.2) fun p466 =>
                if p463.1 = p466.1 then
                  L_law_j2028 s6v p466.2
                else
                  some (Sum.inr (0, p466.2))
              else none
            else none
          else none
        else none
      else if ((xs (ix s6v.1)) &&& 63) = 45 then
        if gS s6v.2 (gZ h0) = 1 then
          bnd (fX1_undo (gZ h0) s6v.2) fun p470 =>
          if gS p470.2 (gZ p2) = 7 then
            bnd (fX7_undo (gZ p2) p470.2) fun p472 =>
            if p470.1 = p472.1 then
              L_law_j2028 s6v p472.2
            else
              some (Sum.inr (0, p472.2))
          else none
        else none
      else if ((xs (ix s6v.1)) &&& 63) = 46 then
        if gS s6v.2 (gZ h0) = 1 then
          bnd (fX1_mark (gZ h0) s6v.2) fun p476 =>
          if gS p476.2 (gZ p2) = 7 then
            bnd (fX7_mark (gZ p2) p476.2) fun p478 =>
            if p476.1 = p478.1 then
              L_law_j2028 s6v p478.2
            else
              some (Sum.inr (0, p478.2))
          else none
        else none
      else if ((xs (ix s6v.1)) &&& 63) = 47 then
        if inb (s6v.1 + 1) xn then
          if gS s6v.2 (gZ h0) = 1 then
            bnd (fX1_back (gZ h0) (xs (ix (s6v.1 + 1))) s6v.2) fun p483 =>
            if inb (s6v.1 + 1) xn then
              if gS p483.2 (gZ p2) = 7 then
                bnd (fX7_back (gZ p2) (xs (ix (s6v.1 + 1))) p483.2) fun p486 =>
                if p483.1 = p486.1 then
                  L_law_j2028 s6v p486.2
                else
                  some (Sum.inr (0, p486.2))
              else none
            else none
          else none
        else none
      else if ((xs (ix s6v.1)) &&& 63) = 48 then
        if inb (s6v.1 + 1) xn then
          bnd (fX0_led (gZ h0) (xs (ix (s6v.1 + 1))) (gZ p4) s6v.2) fun p491 =>
          if inb (s6v.1 + 1) xn then
            if gS p491.2 (gZ p2) = 7 then
              bnd (fX7_led (gZ p2) (xs (ix (s6v.1 + 1))) p491.2) fun p493 =>
              if gS p493.2 (gZ p2) = 7 then
                bnd (fX7_thrown (gZ p2) p493.2) fun p495 =>
                if p495 = p491.1 then
                  if ¬ p491.1 = 0 then
                    L_law_j1987 s6v p493 
                  else
                    if gS p493.2 (gZ p4) = 104 then
                      if inb 0 (gN p493.2 (gZ p4)) then
                        if (gL p493.2 (gZ p4) (ix 0)) = p493.1.toInt64 then
                          L_law_j1987 s6v p493 
                        else
                          some (Sum.inr (0, p493.2))
                      else none
                    else none
                else
                  some (Sum.inr (0, p493.2))
              else none
            else none
          else none
        else none
      else if ((xs (ix s6v.1)) &&& 63) = 49 then
        if inb (s6v.1 + 1) xn then
          if gS s6v.2 (gZ h0) = 1 then
            bnd (fX1_size (gZ h0) (xs (ix (s6v.1 + 1))) s6v.2) fun p504 =>
            if inb (s6v.1 + 1) xn then
              if gS s6v.2 (gZ p2) = 7 then
                bnd (fX7_size (gZ p2) (xs (ix (s6v.1 + 1))) s6v.2) fun p507 =>
                if p504 = p507.1 then
                  L_law_j2028 s6v p507.2
                else
                  some (Sum.inr (0, p507.2))
              else none
            else none
          else none
        else none
      else if ((xs (ix s6v.1)) &&& 63) = 50 then
        if gS s6v.2 (gZ h0) = 1 then
          bnd (fX1_trouble (gZ h0) s6v.2) fun p511 =>
          if gS s6v.2 (gZ p2) = 7 then
            bnd (fX7_trouble (gZ p2) s6v.2) fun p513 =>
            if p511 = p513.1 then
              L_law_j2028 s6v p513.2
            else
              some (Sum.inr (0, p513.2))
          else none
        else none
      else none
    else none
def fL_law (xs : Nat → Int32) (xn : Nat) (h0 : AH) : Option (Int32 × AH) :=
  lt (nC h0 1 24) fun h1 =>
  bnd (fX1_init (gZ h0) h1) fun p2 =>
  lt (nC p2 7 39) fun h3 =>
  bnd (fX7_init (gZ p2) h3) fun p4 =>
  lt (nC p4 104 (ix 1)) fun h5 =>
  iter (L_law_L23 h0 xs xn p2 p4) FU (0, h5)
