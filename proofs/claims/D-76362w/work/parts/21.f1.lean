/-! what the mills and the ways compute -/
def b_X1_begins_74 (b0 : Nat) (k74 : Int32 → GM → Option GM) (x18 : Int32) (g19 : GM) : Option GM :=
  if 6 ≤ x18 then (some g19)
  else (bd (stI g19 (b0 + 4) 6 x18 x18) fun g22 =>
  k74 (x18 + 1) g22)
def l_X1_begins_74 (b0 : Nat) : Nat → Int32 → GM → Option GM
  | 0, _, _ => none
  | k + 1, x18, g19 => b_X1_begins_74 b0 (l_X1_begins_74 b0 k) x18 g19
def b_X1_begins_46 (b0 : Nat) (k46 : Int32 → GM → Option GM) (x15 : Int32) (g16 : GM) : Option GM :=
  if 8 ≤ x15 then (l_X1_begins_74 b0 fuel 0 g16)
  else (bd (stI g16 (b0 + 2) 8 x15 x15) fun g24 =>
  bd (stI g24 (b0 + 3) 8 x15 5) fun g26 =>
  k46 (x15 + 1) g26)
def l_X1_begins_46 (b0 : Nat) : Nat → Int32 → GM → Option GM
  | 0, _, _ => none
  | k + 1, x15, g16 => b_X1_begins_46 b0 (l_X1_begins_46 b0 k) x15 g16
def f_X1_begins (g : GM) (b0 : Nat) : Option GM :=
  bd (puI g b0 0 0) fun g2 =>
  bd (puI g2 b0 1 0) fun g4 =>
  bd (puI g4 b0 2 0) fun g6 =>
  bd (stI g6 (b0 + 1) 4 0 3) fun g8 =>
  bd (stI g8 (b0 + 1) 4 1 2) fun g10 =>
  bd (stI g10 (b0 + 1) 4 2 4) fun g12 =>
  bd (stI g12 (b0 + 1) 4 3 20) fun g14 =>
  l_X1_begins_46 b0 fuel 0 g14
def f_X1_copy (g : GM) (a0 : Nat) (La0 : Nat) (a1 : Nat) (La1 : Nat) : Option GM :=
  bd (cpI g a0 La0 a1 La1 0 0 (nI La1)) fun g2 =>
  some g2
def f_X1_become (g : GM) (b0 : Nat) (b1 : Nat) : Option GM :=
  bd (puI g b0 0 (g b1 0)) fun g2 =>
  bd (puI g2 b0 1 (g2 b1 1)) fun g4 =>
  bd (puI g4 b0 2 (g4 b1 2)) fun g6 =>
  bd (puI g6 b0 3 (g6 b1 3)) fun g8 =>
  bd (f_X1_copy g8 (b1 + 1) 4 (b0 + 1) 4) fun g10 =>
  bd (f_X1_copy g10 (b1 + 2) 8 (b0 + 2) 8) fun g12 =>
  bd (f_X1_copy g12 (b1 + 3) 8 (b0 + 3) 8) fun g14 =>
  bd (f_X1_copy g14 (b1 + 4) 6 (b0 + 4) 6) fun g16 =>
  bd (f_X1_copy g16 (b1 + 5) 8 (b0 + 5) 8) fun g18 =>
  bd (f_X1_copy g18 (b1 + 6) 8 (b0 + 6) 8) fun g20 =>
  bd (f_X1_copy g20 (b1 + 7) 8 (b0 + 7) 8) fun g22 =>
  bd (f_X1_copy g22 (b1 + 8) 8 (b0 + 8) 8) fun g24 =>
  some g24
def j_X1_hangs_26 (g : GM) (b0 : Nat) (x1 : Int32) : Option GM :=
  bd (puI g b0 2 x1) fun g3 =>
  some g3
def f_X1_hangs (g : GM) (b0 : Nat) (a1 : Int32) (a2 : Int32) : Option GM :=
  if a2 = 0 then (j_X1_hangs_26 g b0 ((g b0 2) &&& ((1 <<< (a1 &&& 31)) ^^^ (-1))))
  else (j_X1_hangs_26 g b0 ((g b0 2) ||| (1 <<< (a1 &&& 31))))
def f_X1_add (g : GM) (b0 : Nat) (a1 : Int32) : Option (Int32 × GM) :=
  bd (stI g (b0 + 5) 8 (g b0 0) a1) fun g2 =>
  bd (stI g2 (b0 + 6) 8 (g b0 0) (-1)) fun g4 =>
  bd (stI g4 (b0 + 7) 8 (g b0 0) 0) fun g6 =>
  bd (stI g6 (b0 + 8) 8 (g b0 0) 0) fun g8 =>
  bd (f_X1_hangs g8 b0 (g b0 0) 0) fun g10 =>
  bd (puI g10 b0 0 ((g10 b0 0) + 1)) fun g12 =>
  some ((g b0 0), g12)
def j_X0_has_14  (x1 : Int32) : Option Int32 :=
  grd (x1 = 0 ∨ x1 = 1) <|
  some x1
def f_X0_has  (a0 : Int32) (a1 : Int32) : Option Int32 :=
  if ((a0 >>> (a1 &&& 31)) &&& 1) = 1 then (j_X0_has_14 1)
  else (j_X0_has_14 0)
def f_X1_isHung (g : GM) (b0 : Nat) (a1 : Int32) : Option Int32 :=
  bd (f_X0_has (g b0 2) a1) fun r2 =>
  grd (r2 = 0 ∨ r2 = 1) <|
  some r2
def j_X1_settles_45 (b0 : Nat) (a1 : Int32) (g4 : GM) (x7 : Int32) : Option GM :=
  bd (stI g4 (b0 + 6) 8 a1 x7) fun g9 =>
  some g9
def f_X1_settles (g : GM) (b0 : Nat) (a1 : Int32) : Option GM :=
  bd (ldI g (b0 + 7) 8 a1) fun v2 =>
  bd (stI g (b0 + 7) 8 a1 (imax 0 (imin 99 v2))) fun g4 =>
  bd (ldI g4 (b0 + 7) 8 a1) fun v6 =>
  if v6 = 0 then (j_X1_settles_45 b0 a1 g4 (-1))
  else (bd (ldI g4 (b0 + 6) 8 a1) fun v12 =>
  j_X1_settles_45 b0 a1 g4 v12)
def f_X1_vatNow (g : GM) (b0 : Nat) : Option Int32 :=
  bd (ldI g (b0 + 4) 6 ((g b0 1) - (g b0 1) / 6 * 6)) fun v2 =>
  some v2
def b_X1_depths_4 (g : GM) (b0 : Nat) (k4 : Int32 → Int32 → Option Int32) (x1 : Int32) (x2 : Int32) : Option Int32 :=
  if (g b0 0) ≤ x2 then (some x1)
  else (bd (ldI g (b0 + 7) 8 x2) fun v5 =>
  k4 (x1 + v5) (x2 + 1))
def l_X1_depths_4 (g : GM) (b0 : Nat) : Nat → Int32 → Int32 → Option Int32
  | 0, _, _ => none
  | k + 1, x1, x2 => b_X1_depths_4 g b0 (l_X1_depths_4 g b0 k) x1 x2
def f_X1_depths (g : GM) (b0 : Nat) : Option Int32 :=
  l_X1_depths_4 g b0 fuel 0 0
def f_X1_draw (g : GM) (b0 : Nat) : Option (Int32 × GM) :=
  bd (puI g b0 3 (((g b0 3) * 1103515245) + 12345)) fun g2 =>
  some (((g2 b0 3).toUInt32 >>> ((16 : Int32).toUInt32 &&& Int32.toUInt32 31)).toInt32, g2)
def j_X1_aboutAny_30 (x1 : Int32) (x2 : Int32) (k4 : Int32 → Int32 → Option Int32) (x6 : Int32) : Option Int32 :=
  k4 (x1 ||| x6) (x2 + 1)
def b_X1_aboutAny_4 (g : GM) (b0 : Nat) (k4 : Int32 → Int32 → Option Int32) (x1 : Int32) (x2 : Int32) : Option Int32 :=
  if (g b0 0) ≤ x2 then (some x1)
  else (bd (ldI g (b0 + 6) 8 x2) fun v5 =>
  if v5 = (-1) then (j_X1_aboutAny_30 x1 x2 k4 0)
  else (j_X1_aboutAny_30 x1 x2 k4 (1 <<< (x2 &&& 31))))
def l_X1_aboutAny_4 (g : GM) (b0 : Nat) : Nat → Int32 → Int32 → Option Int32
  | 0, _, _ => none
  | k + 1, x1, x2 => b_X1_aboutAny_4 g b0 (l_X1_aboutAny_4 g b0 k) x1 x2
def f_X1_aboutAny (g : GM) (b0 : Nat) : Option Int32 :=
  l_X1_aboutAny_4 g b0 fuel 0 0
def j_X1_isAtOdds_56  (x3 : Int32) : Option Int32 :=
  grd (x3 = 0 ∨ x3 = 1) <|
  some x3
def j_X1_isAtOdds_55   : Option Int32 :=
  j_X1_isAtOdds_56 0
def f_X1_isAtOdds (g : GM) (b0 : Nat) (a1 : Int32) (a2 : Int32) : Option Int32 :=
  bd (f_X1_isHung g b0 a1) fun r2 =>
  if r2 = 0 then (bd (f_X1_isHung g b0 a2) fun r7 =>
  if r7 = 0 then (bd (ldI g (b0 + 6) 8 a1) fun v10 =>
  if v10 = (-1) then (j_X1_isAtOdds_55)
  else (bd (ldI g (b0 + 6) 8 a2) fun v13 =>
  if v13 = (-1) then (j_X1_isAtOdds_55)
  else (bd (ldI g (b0 + 6) 8 a1) fun v16 =>
  bd (ldI g (b0 + 6) 8 a2) fun v18 =>
  if v16 = v18 then (j_X1_isAtOdds_55)
  else (j_X1_isAtOdds_56 1))))
  else (j_X1_isAtOdds_55))
  else (j_X1_isAtOdds_55)
def j_X1_atOdds_39 (x4 : Int32) (x5 : Int32) (k16 : Int32 → Int32 → Option Int32) (x9 : Int32) : Option Int32 :=
  k16 (x4 + x9) (x5 + 1)
def b_X1_atOdds_16 (g : GM) (b0 : Nat) (x2 : Int32) (k4 : Int32 → Int32 → Option Int32) (k16 : Int32 → Int32 → Option Int32) (x4 : Int32) (x5 : Int32) : Option Int32 :=
  if (g b0 0) ≤ x5 then (k4 x4 (x2 + 1))
  else (bd (f_X1_isAtOdds g b0 x2 x5) fun r8 =>
  if r8 = 0 then (j_X1_atOdds_39 x4 x5 k16 0)
  else (j_X1_atOdds_39 x4 x5 k16 1))
def l_X1_atOdds_16 (g : GM) (b0 : Nat) (x2 : Int32) (k4 : Int32 → Int32 → Option Int32) : Nat → Int32 → Int32 → Option Int32
  | 0, _, _ => none
  | k + 1, x4, x5 => b_X1_atOdds_16 g b0 x2 k4 (l_X1_atOdds_16 g b0 x2 k4 k) x4 x5
def b_X1_atOdds_4 (g : GM) (b0 : Nat) (k4 : Int32 → Int32 → Option Int32) (x1 : Int32) (x2 : Int32) : Option Int32 :=
  if (g b0 0) ≤ x2 then (some x1)
  else (l_X1_atOdds_16 g b0 x2 k4 fuel x1 (x2 + 1))
def l_X1_atOdds_4 (g : GM) (b0 : Nat) : Nat → Int32 → Int32 → Option Int32
  | 0, _, _ => none
  | k + 1, x1, x2 => b_X1_atOdds_4 g b0 (l_X1_atOdds_4 g b0 k) x1 x2
def f_X1_atOdds (g : GM) (b0 : Nat) : Option Int32 :=
  l_X1_atOdds_4 g b0 fuel 0 0
def j_X1_purposes_35 (x1 : Int32) (x2 : Int32) (k4 : Int32 → Int32 → Option Int32) (x6 : Int32) : Option Int32 :=
  k4 (x1 ||| x6) (x2 + 1)
def b_X1_purposes_4 (g : GM) (b0 : Nat) (k4 : Int32 → Int32 → Option Int32) (x1 : Int32) (x2 : Int32) : Option Int32 :=
  if (g b0 0) ≤ x2 then (some x1)
  else (bd (ldI g (b0 + 6) 8 x2) fun v5 =>
  if v5 = (-1) then (j_X1_purposes_35 x1 x2 k4 0)
  else (bd (ldI g (b0 + 6) 8 x2) fun v9 =>
  j_X1_purposes_35 x1 x2 k4 (1 <<< (v9 &&& 31))))
def l_X1_purposes_4 (g : GM) (b0 : Nat) : Nat → Int32 → Int32 → Option Int32
  | 0, _, _ => none
  | k + 1, x1, x2 => b_X1_purposes_4 g b0 (l_X1_purposes_4 g b0 k) x1 x2
def f_X1_purposes (g : GM) (b0 : Nat) : Option Int32 :=
  l_X1_purposes_4 g b0 fuel 0 0
def f_X10_row (sh : SM) (g : GM) (gr : RM) (b0 : Nat) : Option (Option Nat) :=
  grd (sh b0 = (30, 5)) <|
  if (g b0 4) = 0 then (grd (sh b0 = (30, 5)) <|
  bd (ldF gr b0 0) fun o5 =>
  some o5)
  else if (g b0 4) = 1 then (grd (sh b0 = (30, 5)) <|
  bd (ldF gr b0 1) fun o9 =>
  some o9)
  else if (g b0 4) = 2 then (grd (sh b0 = (30, 5)) <|
  bd (ldF gr b0 2) fun o13 =>
  some o13)
  else if (g b0 4) = 3 then (grd (sh b0 = (30, 5)) <|
  bd (ldF gr b0 3) fun o17 =>
  some o17)
  else (some none)
def f_X2_takes (g : GM) (w0 : Nat) (b1 : Nat) (a2 : Int32) : Option Int32 :=
  bd (ldI g (b1 + 3) 8 a2) fun v2 =>
  bd (ldI g (b1 + 1) 4 0) fun v4 =>
  some (v2 + v4)
def f_X2_fights (g : GM) (w0 : Nat) (b1 : Nat) (a2 : Int32) : Option Int32 :=
  bd (ldI g (b1 + 3) 8 a2) fun v2 =>
  some v2
def f_X22_fades (g : GM) (w0 : Nat) (b1 : Nat) : Option Int32 :=
  bd (ldI g (b1 + 1) 4 1) fun v2 =>
  some v2
def f_X3_takes (g : GM) (w0 : Nat) (b1 : Nat) (a2 : Int32) : Option Int32 :=
  bd (f_X2_takes g w0 b1 a2) fun r2 =>
  some (r2 + 3)
def f_X3_fights (g : GM) (w0 : Nat) (b1 : Nat) (a2 : Int32) : Option Int32 :=
  bd (f_X2_fights g w0 b1 a2) fun r2 =>
  bd (ldI g (b1 + 1) 4 2) fun v4 =>
  some (r2 - v4)
def f_X3_fades (g : GM) (w0 : Nat) (b1 : Nat) : Option Int32 :=
  bd (f_X22_fades g w0 b1) fun r2 =>
  some (r2 - 1)
def f_X4_takes (g : GM) (w0 : Nat) (b1 : Nat) (a2 : Int32) : Option Int32 :=
  bd (f_X2_takes g w0 b1 a2) fun r2 =>
  bd (ldI g (b1 + 1) 4 1) fun v4 =>
  some (r2 - v4)
def f_X4_fights (g : GM) (w0 : Nat) (b1 : Nat) (a2 : Int32) : Option Int32 :=
  bd (f_X2_fights g w0 b1 a2) fun r2 =>
  bd (ldI g (b1 + 1) 4 2) fun v4 =>
  some (r2 + v4)
def f_X4_fades (g : GM) (w0 : Nat) (b1 : Nat) : Option Int32 :=
  bd (f_X22_fades g w0 b1) fun r2 =>
  some (r2 + 1)
def f_X5_takes (g : GM) (w0 : Nat) (b1 : Nat) (a2 : Int32) : Option Int32 :=
  bd (f_X3_takes g w0 b1 a2) fun r2 =>
  some (2 * r2)
def f_X5_fights (g : GM) (w0 : Nat) (b1 : Nat) (a2 : Int32) : Option Int32 :=
  bd (f_X3_fights g w0 b1 a2) fun r2 =>
  bd (ldI g (b1 + 1) 4 0) fun v4 =>
  some (r2 + v4)
def f_X5_fades  (w0 : Nat) (b1 : Nat) : Option Int32 :=
  some 0
def f_X6_takes (g : GM) (w0 : Nat) (b1 : Nat) (a2 : Int32) : Option Int32 :=
  bd (f_X4_takes g w0 b1 a2) fun r2 =>
  bd (ldI g (b1 + 1) 4 2) fun v4 =>
  some (r2 + v4)
def f_X6_fights (g : GM) (w0 : Nat) (b1 : Nat) (a2 : Int32) : Option Int32 :=
  bd (f_X4_fights g w0 b1 a2) fun r2 =>
  some (2 * r2)
def f_X6_fades (g : GM) (w0 : Nat) (b1 : Nat) : Option Int32 :=
  bd (f_X4_fades g w0 b1) fun r2 =>
  some (2 * r2)
def f_X7_takes (g : GM) (w0 : Nat) (b1 : Nat) (a2 : Int32) : Option Int32 :=
  bd (f_X2_takes g w0 b1 a2) fun r2 =>
  some (r2 / 2)
def f_X7_fights (g : GM) (w0 : Nat) (b1 : Nat) (a2 : Int32) : Option Int32 :=
  bd (f_X2_fights g w0 b1 a2) fun r2 =>
  some (r2 + 1)
def f_X7_fades (g : GM) (w0 : Nat) (b1 : Nat) : Option Int32 :=
  bd (f_X22_fades g w0 b1) fun r2 =>
  some (r2 + 3)
def j_X0_in_15  (x1 : Int32) : Option Int32 :=
  grd (x1 = 0 ∨ x1 = 1) <|
  some x1
def j_X0_in_14   : Option Int32 :=
  j_X0_in_15 0
def f_X0_in  (a0 : Int32) (a1 : Int32) (a2 : Int32) : Option Int32 :=
  if a0 < a1 then (j_X0_in_14)
  else (if a2 < a0 then (j_X0_in_14)
  else (j_X0_in_15 1))
def j_X0_mostOf_12  (x1 : Int32) : Option Int32 :=
  some x1
def f_X0_mostOf  (a0 : Int32) : Option Int32 :=
  if a0 = 3 then (j_X0_mostOf_12 99)
  else (j_X0_mostOf_12 9)
/-- the ways' methods, by the way -/
def f_W_takes (g : GM) (w b : Nat) (v : Int32) : Option Int32 := if w = 102 then f_X2_takes g w b v else if w = 103 then f_X3_takes g w b v else if w = 104 then f_X4_takes g w b v else if w = 105 then f_X5_takes g w b v else if w = 106 then f_X6_takes g w b v else if w = 107 then f_X7_takes g w b v else none
def f_W_fights (g : GM) (w b : Nat) (v : Int32) : Option Int32 := if w = 102 then f_X2_fights g w b v else if w = 103 then f_X3_fights g w b v else if w = 104 then f_X4_fights g w b v else if w = 105 then f_X5_fights g w b v else if w = 106 then f_X6_fights g w b v else if w = 107 then f_X7_fights g w b v else none
def f_W_fades (g : GM) (w b : Nat) : Option Int32 := if w = 102 then f_X22_fades g w b else if w = 103 then f_X3_fades g w b else if w = 104 then f_X4_fades g w b else if w = 105 then f_X5_fades w b else if w = 106 then f_X6_fades g w b else if w = 107 then f_X7_fades g w b else none
