/-! what the component computes -/
def b_X0_feed_30 (a1 : Int64) (a3 : Int32) (k30 : Int32 → GM → Option (Int32 × GM)) (x5 : Int32) (g6 : GM) : Option (Int32 × GM) :=
  if a3 ≤ x5 then (some ((g6 64 7), g6))
  else (bd (stI g6 108 200 (g6 64 7) (vp_nar .byte (((a1 >>> ((8 * x5).toInt64 &&& 63)).toInt32).toInt8.toInt32))) fun g9 =>
  bd (puI g9 64 7 ((g9 64 7) + 1)) fun g11 =>
  k30 (x5 + 1) g11)
def l_X0_feed_30 (a1 : Int64) (a3 : Int32) : Nat → Int32 → GM → Option (Int32 × GM)
  | 0, _, _ => none
  | k + 1, x5, g6 => b_X0_feed_30 a1 a3 (l_X0_feed_30 a1 a3 k) x5 g6
def f_X0_feed (g : GM) (a1 : Int64) (a3 : Int32) : Option (Int32 × GM) :=
  bd (f_X0_in a3 1 8) fun r2 =>
  if r2 = 0 then (some ((-1), g))
  else (if ((g 64 7) + a3) ≤ 200 then (l_X0_feed_30 a1 a3 fuel 0 g)
  else (some ((-2), g)))
def f_X0_mill (g : GM) (gr : RM)  : Option ((Int32 × GM × RM) ⊕ (Nat × GM × RM)) :=
  bd (puI g 64 7 0) fun g2 =>
  bd (f_X1_become g2 83 65) fun g4 =>
  bx23 (f_X8_read g4 gr (g 64 7)) (fun ec6 g8 gr10 => if ec6 = 9 then (some (.inl ((-100) - (g8 112 6), g8, gr10)))
  else (none)) fun g7 gr9 =>
  bd (f_X1_become g7 65 83) fun g13 =>
  bd (puI g13 64 10 0) fun g15 =>
  some (.inl ((g15 65 0), g15, gr9))
def j_X0_set_21 (g : GM)  : Option (Int32 × GM) :=
  some ((-1), g)
def f_X0_set (g : GM) (a1 : Int32) (a2 : Int32) : Option (Int32 × GM) :=
  bd (f_X0_in a1 0 3) fun r2 =>
  if r2 = 0 then (j_X0_set_21 g)
  else (bd (f_X0_mostOf a1) fun r5 =>
  bd (f_X0_in a2 0 r5) fun r7 =>
  if r7 = 0 then (j_X0_set_21 g)
  else (bd (ldI g 66 4 a1) fun v10 =>
  bd (stI g 66 4 a1 a2) fun g12 =>
  some (v10, g12)))
def j_X0_lawOf_22  (x3 : Int32) : Option Int32 :=
  some x3
def f_X0_lawOf (g : GM) (a1 : Int32) : Option Int32 :=
  bd (f_X0_in a1 0 3) fun r2 =>
  if r2 = 0 then (j_X0_lawOf_22 (-1))
  else (bd (ldI g 66 4 a1) fun v6 =>
  j_X0_lawOf_22 v6)
def f_X0_isVat  (a0 : Int32) : Option Int32 :=
  bd (f_X0_in a0 0 7) fun r2 =>
  grd (r2 = 0 ∨ r2 = 1) <|
  some r2
def f_X0_becomes (g : GM) (a0 : Nat) (La0 : Nat) (a1 : Int32) (a2 : Int32) : Option (Int32 × GM) :=
  bd (ldI g a0 La0 a1) fun v2 =>
  bd (stI g a0 La0 a1 a2) fun g4 =>
  some (v2, g4)
def j_X0_fill_56  (x3 : Int32) (g4 : GM) : Option (Int32 × GM) :=
  some (x3, g4)
def j_X0_fill_55 (g : GM)  : Option (Int32 × GM) :=
  j_X0_fill_56 (-1) g
def j_X0_fill_47 (g : GM) (a1 : Int32) (a3 : Int32) (x12 : Nat) : Option (Int32 × GM) :=
  bd2 (f_X0_becomes g x12 8 a1 a3) fun r14 g15 =>
  j_X0_fill_56 r14 g15
def f_X0_fill (g : GM) (a1 : Int32) (a2 : Int32) (a3 : Int32) : Option (Int32 × GM) :=
  bd (f_X0_isVat a1) fun r2 =>
  if r2 = 0 then (j_X0_fill_55 g)
  else (bd (f_X0_in a2 0 1) fun r7 =>
  if r7 = 0 then (j_X0_fill_55 g)
  else (bd (f_X0_in a3 0 9) fun r10 =>
  if r10 = 0 then (j_X0_fill_55 g)
  else (if a2 = 0 then (j_X0_fill_47 g a1 a3 67)
  else (j_X0_fill_47 g a1 a3 68))))
def j_X0_vatOf_16   : Option Int32 :=
  some (-1)
def j_X0_vatOf_43  (x7 : Int32) : Option Int32 :=
  some x7
def f_X0_vatOf (g : GM) (a1 : Int32) (a2 : Int32) : Option Int32 :=
  bd (f_X0_isVat a1) fun r2 =>
  if r2 = 0 then (j_X0_vatOf_16)
  else (bd (f_X0_in a2 0 1) fun r5 =>
  if r5 = 0 then (j_X0_vatOf_16)
  else (if a2 = 0 then (bd (ldI g 67 8 a1) fun v12 =>
  j_X0_vatOf_43 v12)
  else (bd (ldI g 68 8 a1) fun v10 =>
  j_X0_vatOf_43 v10)))
def f_X0_isRest  (a0 : Int32) : Option Int32 :=
  bd (f_X0_in a0 0 5) fun r2 =>
  grd (r2 = 0 ∨ r2 = 1) <|
  some r2
def j_X0_roster_35  (x3 : Int32) (g4 : GM) : Option (Int32 × GM) :=
  some (x3, g4)
def j_X0_roster_34 (g : GM)  : Option (Int32 × GM) :=
  j_X0_roster_35 (-1) g
def f_X0_roster (g : GM) (a1 : Int32) (a2 : Int32) : Option (Int32 × GM) :=
  bd (f_X0_isRest a1) fun r2 =>
  if r2 = 0 then (j_X0_roster_34 g)
  else (bd (f_X0_in a2 (-1) 7) fun r7 =>
  if r7 = 0 then (j_X0_roster_34 g)
  else (bd2 (f_X0_becomes g 69 6 a1 a2) fun r10 g11 =>
  j_X0_roster_35 (1 + r10) g11))
def j_X0_rosterOf_22  (x3 : Int32) : Option Int32 :=
  some x3
def f_X0_rosterOf (g : GM) (a1 : Int32) : Option Int32 :=
  bd (f_X0_isRest a1) fun r2 =>
  if r2 = 0 then (j_X0_rosterOf_22 (-1))
  else (bd (ldI g 69 6 a1) fun v6 =>
  j_X0_rosterOf_22 (1 + v6))
def f_X0_isKind  (a0 : Int32) : Option Int32 :=
  bd (f_X0_in a0 0 5) fun r2 =>
  grd (r2 = 0 ∨ r2 = 1) <|
  some r2
def j_X0_cloth_34  (x4 : Int32) (g5 : GM) : Option (Int32 × GM) :=
  some (x4, g5)
def f_X0_cloth (g : GM) (a1 : Int32) : Option (Int32 × GM) :=
  bd (f_X0_isKind a1) fun r2 =>
  if r2 = 0 then (some ((-1), g))
  else (if (g 65 0) = 8 then (j_X0_cloth_34 (-2) g)
  else (bd2 (f_X1_add g 65 a1) fun r8 g9 =>
  j_X0_cloth_34 r8 g9))
def f_X0_isCloth (g : GM) (a1 : Int32) : Option Int32 :=
  bd (f_X0_in a1 0 ((g 65 0) - 1)) fun r2 =>
  grd (r2 = 0 ∨ r2 = 1) <|
  some r2
def j_X0_of_92  (x16 : Int32) : Option Int32 :=
  some x16
def f_X0_of (g : GM) (a1 : Int32) (a2 : Int32) : Option Int32 :=
  bd (f_X0_isCloth g a1) fun r2 =>
  if r2 = 0 then (some (-1))
  else (if a2 = 0 then (bd (ldI g 70 8 a1) fun v6 =>
  some v6)
  else if a2 = 1 then (bd (ldI g 71 8 a1) fun v9 =>
  some (1 + v9))
  else if a2 = 2 then (bd (ldI g 72 8 a1) fun v12 =>
  some v12)
  else if a2 = 3 then (bd (f_X1_isHung g 65 a1) fun r15 =>
  if r15 = 0 then (j_X0_of_92 0)
  else (j_X0_of_92 1))
  else if a2 = 4 then (bd (ldI g 73 8 a1) fun v20 =>
  some v20)
  else (some (-1)))
def f_X0_wayOf (g : GM) (b1 : Nat) (a2 : Int32) : Option Nat :=
  bd (ldI g (b1 + 5) 8 a2) fun v2 =>
  bd (chk 6 v2) fun j4 =>
  some (102 + j4)
def j_X0_does_24   : Option Int32 :=
  some (-1)
def j_X0_does_84  (x12 : Int32) : Option Int32 :=
  some (1000 + x12)
def f_X0_does (g : GM) (a1 : Int32) (a2 : Int32) (a3 : Int32) : Option Int32 :=
  bd (f_X0_isCloth g a1) fun r2 =>
  if r2 = 0 then (j_X0_does_24)
  else (bd (f_X0_isVat a2) fun r5 =>
  if r5 = 0 then (j_X0_does_24)
  else (bd (f_X0_in a3 0 2) fun r8 =>
  if r8 = 0 then (j_X0_does_24)
  else (bd (f_X0_wayOf g 65 a1) fun r11 =>
  if a3 = 0 then (bd (f_W_takes g r11 65 a2) fun r20 =>
  j_X0_does_84 r20)
  else (if a3 = 1 then (bd (f_W_fights g r11 65 a2) fun r18 =>
  j_X0_does_84 r18)
  else (bd (f_W_fades g r11 65) fun r16 =>
  j_X0_does_84 r16)))))
def j_X0_mind_31  (x3 : Int32) (g4 : GM) : Option (Int32 × GM) :=
  some (x3, g4)
def j_X0_mind_30 (g : GM)  : Option (Int32 × GM) :=
  j_X0_mind_31 (-1) g
def f_X0_mind (g : GM) (a1 : Int32) (a2 : Int32) : Option (Int32 × GM) :=
  bd (f_X0_isCloth g a1) fun r2 =>
  if r2 = 0 then (j_X0_mind_30 g)
  else (bd (f_X0_isKind a2) fun r7 =>
  if r7 = 0 then (j_X0_mind_30 g)
  else (bd2 (f_X0_becomes g 70 8 a1 a2) fun r10 g11 =>
  j_X0_mind_31 r10 g11))
def f_X0_isPurpose  (a0 : Int32) : Option Int32 :=
  bd (f_X0_in a0 0 9) fun r2 =>
  grd (r2 = 0 ∨ r2 = 1) <|
  some r2
def j_X0_steep_54 (g : GM)  : Option (Int32 × GM) :=
  some ((-1), g)
def j_X0_steep_39 (g : GM) (a1 : Int32) (a2 : Int32) (a3 : Int32) (x1 : Int32) : Option (Int32 × GM) :=
  bd (f_X0_isCloth g a1) fun r3 =>
  if r3 = 0 then (j_X0_steep_54 g)
  else (if x1 = 0 then (j_X0_steep_54 g)
  else (bd (stI g 72 8 a1 a3) fun g7 =>
  bd2 (f_X0_becomes g7 71 8 a1 a2) fun r9 g10 =>
  some (1 + r9, g10)))
def j_X0_steep_38 (g : GM) (a1 : Int32) (a2 : Int32) (a3 : Int32)  : Option (Int32 × GM) :=
  j_X0_steep_39 g a1 a2 a3 0
def f_X0_steep (g : GM) (a1 : Int32) (a2 : Int32) (a3 : Int32) : Option (Int32 × GM) :=
  if a2 = (-1) then (if a3 = 0 then (j_X0_steep_39 g a1 a2 a3 1)
  else (j_X0_steep_39 g a1 a2 a3 0))
  else (bd (f_X0_isPurpose a2) fun r13 =>
  if r13 = 0 then (j_X0_steep_38 g a1 a2 a3)
  else (bd (f_X0_in a3 1 99) fun r16 =>
  if r16 = 0 then (j_X0_steep_38 g a1 a2 a3)
  else (j_X0_steep_39 g a1 a2 a3 1)))
def j_X0_hang_17 (g : GM)  : Option (Int32 × GM) :=
  some ((-1), g)
def j_X0_hang_51 (g : GM) (a1 : Int32) (x9 : Int32) (x10 : Int32) : Option (Int32 × GM) :=
  bd (f_X1_hangs g 65 a1 x10) fun g12 =>
  some (x9, g12)
def j_X0_hang_35 (g : GM) (a1 : Int32) (a2 : Int32) (x9 : Int32) : Option (Int32 × GM) :=
  if a2 = 1 then (j_X0_hang_51 g a1 x9 1)
  else (j_X0_hang_51 g a1 x9 0)
def f_X0_hang (g : GM) (a1 : Int32) (a2 : Int32) : Option (Int32 × GM) :=
  bd (f_X0_isCloth g a1) fun r2 =>
  if r2 = 0 then (j_X0_hang_17 g)
  else (bd (f_X0_in a2 0 1) fun r5 =>
  if r5 = 0 then (j_X0_hang_17 g)
  else (bd (f_X1_isHung g 65 a1) fun r8 =>
  if r8 = 0 then (j_X0_hang_35 g a1 a2 0)
  else (j_X0_hang_35 g a1 a2 1)))
def j_X0_dips_122 (b1 : Nat) (a2 : Int32) (a3 : Int32) (g7 : GM) : Option GM :=
  bd (f_X1_settles g7 b1 a2) fun g9 =>
  bd (ldI g9 (b1 + 8) 8 a2) fun v11 =>
  bd (stI g9 (b1 + 8) 8 a2 (imin 9999 (v11 + 1))) fun g13 =>
  bd (ldI g13 (b1 + 3) 8 a3) fun v15 =>
  bd (stI g13 (b1 + 3) 8 a3 (imax 0 (v15 - 1))) fun g17 =>
  some g17
def j_X0_dips_37 (g : GM) (b1 : Nat) (a2 : Int32) (a3 : Int32) (r2 : Nat) (v4 : Int32)  : Option GM :=
  bd (stI g (b1 + 6) 8 a2 v4) fun g19 =>
  bd (ldI g19 (b1 + 7) 8 a2) fun v21 =>
  bd (f_W_takes g19 r2 b1 a3) fun r23 =>
  bd (stI g19 (b1 + 7) 8 a2 (v21 + r23)) fun g25 =>
  j_X0_dips_122 b1 a2 a3 g25
def j_X0_dips_121 (b1 : Nat) (a2 : Int32) (a3 : Int32) (g36 : GM) (x37 : Int32) : Option GM :=
  bd (stI g36 (b1 + 7) 8 a2 x37) fun g39 =>
  j_X0_dips_122 b1 a2 a3 g39
def j_X0_dips_101 (g : GM) (b1 : Nat) (a2 : Int32) (a3 : Int32) (v31 : Int32) (r33 : Int32) (x34 : Int32) : Option GM :=
  bd (stI g (b1 + 6) 8 a2 x34) fun g36 =>
  if 0 ≤ (v31 - r33) then (j_X0_dips_121 b1 a2 a3 g36 (v31 - r33))
  else (j_X0_dips_121 b1 a2 a3 g36 (0 - (v31 - r33)))
def f_X0_dips (g : GM) (b1 : Nat) (a2 : Int32) (a3 : Int32) : Option GM :=
  bd (f_X0_wayOf g b1 a2) fun r2 =>
  bd (ldI g (b1 + 2) 8 a3) fun v4 =>
  bd (ldI g (b1 + 6) 8 a2) fun v6 =>
  if v6 = (-1) then (j_X0_dips_37 g b1 a2 a3 r2 v4)
  else (bd (ldI g (b1 + 6) 8 a2) fun v28 =>
  if v28 = v4 then (j_X0_dips_37 g b1 a2 a3 r2 v4)
  else (bd (ldI g (b1 + 7) 8 a2) fun v31 =>
  bd (f_W_fights g r2 b1 a3) fun r33 =>
  if 0 ≤ (v31 - r33) then (bd (ldI g (b1 + 6) 8 a2) fun v43 =>
  j_X0_dips_101 g b1 a2 a3 v31 r33 v43)
  else (j_X0_dips_101 g b1 a2 a3 v31 r33 v4)))
def j_X0_dip_15 (g : GM)  : Option (Int32 × GM) :=
  some ((-1), g)
def f_X0_dip (g : GM) (a1 : Int32) (a2 : Int32) : Option (Int32 × GM) :=
  bd (f_X0_isCloth g a1) fun r2 =>
  if r2 = 0 then (j_X0_dip_15 g)
  else (bd (f_X0_isVat a2) fun r5 =>
  if r5 = 0 then (j_X0_dip_15 g)
  else (bd (f_X0_dips g 65 a1 a2) fun g8 =>
  bd (ldI g8 71 8 a1) fun v10 =>
  some (1 + v10, g8)))
def b_X0_dayGoes_101 (b1 : Nat) (k101 : Int32 → GM → Option GM) (x8 : Int32) (g9 : GM) : Option GM :=
  if 8 ≤ x8 then (bd (puI g9 b1 1 ((g9 b1 1) + 1)) fun g12 =>
  some g12)
  else (bd (ldI g9 (b1 + 3) 8 x8) fun v14 =>
  bd (stI g9 (b1 + 3) 8 x8 (imin 9 (v14 + 1))) fun g16 =>
  k101 (x8 + 1) g16)
def l_X0_dayGoes_101 (b1 : Nat) : Nat → Int32 → GM → Option GM
  | 0, _, _ => none
  | k + 1, x8, g9 => b_X0_dayGoes_101 b1 (l_X0_dayGoes_101 b1 k) x8 g9
def j_X0_dayGoes_93 (x5 : Int32) (k43 : Int32 → GM → Option GM) (g19 : GM) : Option GM :=
  k43 (x5 + 1) g19
def b_X0_dayGoes_43 (b1 : Nat) (k43 : Int32 → GM → Option GM) (x5 : Int32) (g6 : GM) : Option GM :=
  if (g6 b1 0) ≤ x5 then (l_X0_dayGoes_101 b1 fuel 0 g6)
  else (bd (f_X1_isHung g6 b1 x5) fun r18 =>
  if r18 = 0 then (j_X0_dayGoes_93 x5 k43 g6)
  else (bd (ldI g6 (b1 + 6) 8 x5) fun v22 =>
  if v22 = (-1) then (j_X0_dayGoes_93 x5 k43 g6)
  else (bd (ldI g6 (b1 + 7) 8 x5) fun v25 =>
  bd (f_X0_wayOf g6 b1 x5) fun r27 =>
  bd (f_W_fades g6 r27 b1) fun r29 =>
  bd (stI g6 (b1 + 7) 8 x5 (v25 - r29)) fun g31 =>
  bd (f_X1_settles g31 b1 x5) fun g33 =>
  j_X0_dayGoes_93 x5 k43 g33)))
def l_X0_dayGoes_43 (b1 : Nat) : Nat → Int32 → GM → Option GM
  | 0, _, _ => none
  | k + 1, x5, g6 => b_X0_dayGoes_43 b1 (l_X0_dayGoes_43 b1 k) x5 g6
def j_X0_dayGoes_41 (b1 : Nat) (g4 : GM)  : Option GM :=
  l_X0_dayGoes_43 b1 fuel 0 g4
def j_X0_dayGoes_35 (x3 : Int32) (k7 : Int32 → GM → Option GM) (g38 : GM) : Option GM :=
  k7 (x3 + 1) g38
def b_X0_dayGoes_7 (b1 : Nat) (r2 : Int32) (k7 : Int32 → GM → Option GM) (x3 : Int32) (g4 : GM) : Option GM :=
  if (g4 b1 0) ≤ x3 then (j_X0_dayGoes_41 b1 g4)
  else (if r2 = (-1) then (j_X0_dayGoes_41 b1 g4)
  else (bd (f_X1_isHung g4 b1 x3) fun r37 =>
  if r37 = 0 then (bd (f_X0_dips g4 b1 x3 r2) fun g41 =>
  j_X0_dayGoes_35 x3 k7 g41)
  else (j_X0_dayGoes_35 x3 k7 g4)))
def l_X0_dayGoes_7 (b1 : Nat) (r2 : Int32) : Nat → Int32 → GM → Option GM
  | 0, _, _ => none
  | k + 1, x3, g4 => b_X0_dayGoes_7 b1 r2 (l_X0_dayGoes_7 b1 r2 k) x3 g4
def f_X0_dayGoes (g : GM) (b1 : Nat) : Option GM :=
  bd (f_X1_vatNow g b1) fun r2 =>
  l_X0_dayGoes_7 b1 r2 fuel 0 g
def b_X0_daysGo_2 (b1 : Nat) (a2 : Int32) (k2 : Int32 → GM → Option GM) (x1 : Int32) (g2 : GM) : Option GM :=
  if a2 ≤ x1 then (some g2)
  else (bd (f_X0_dayGoes g2 b1) fun g5 =>
  k2 (x1 + 1) g5)
def l_X0_daysGo_2 (b1 : Nat) (a2 : Int32) : Nat → Int32 → GM → Option GM
  | 0, _, _ => none
  | k + 1, x1, g2 => b_X0_daysGo_2 b1 a2 (l_X0_daysGo_2 b1 a2 k) x1 g2
def f_X0_daysGo (g : GM) (b1 : Nat) (a2 : Int32) : Option GM :=
  l_X0_daysGo_2 b1 a2 fuel 0 g
def f_X0_days (g : GM) (a1 : Int32) : Option (Int32 × GM) :=
  bd (f_X0_in a1 1 60) fun r2 =>
  if r2 = 0 then (some ((-1), g))
  else (bd (f_X0_daysGo g 65 a1) fun g5 =>
  bd (f_X1_depths g5 65) fun r7 =>
  some (r7, g5))
def f_X0_seed (g : GM) (a1 : Int32) : Option (Int32 × GM) :=
  bd (puI g 65 3 a1) fun g2 =>
  some ((g 65 3), g2)
def j_X0_dayByDraws_46 (b1 : Nat) (g1 : GM) : Option GM :=
  bd (f_X0_dayGoes g1 b1) fun g3 =>
  some g3
def f_X0_dayByDraws (g : GM) (b1 : Nat) : Option GM :=
  if (g b1 0) ≤ 0 then (j_X0_dayByDraws_46 b1 g)
  else (bd2 (f_X1_draw g b1) fun r6 g7 =>
  grd (¬ (g7 b1 0) = 0) <|
  bd2 (f_X1_draw g7 b1) fun r10 g11 =>
  bd (ldI g11 (b1 + 1) 4 3) fun v13 =>
  if v13 ≤ (r10 - r10 / 100 * 100) then (j_X0_dayByDraws_46 b1 g11)
  else (bd2 (f_X1_draw g11 b1) fun r16 g17 =>
  bd (f_X0_dips g17 b1 (r6 - r6 / (g7 b1 0) * (g7 b1 0)) (r16 - r16 / 8 * 8)) fun g19 =>
  j_X0_dayByDraws_46 b1 g19))
def f_X0_day (g : GM)  : Option (Int32 × GM) :=
  bd (f_X0_dayByDraws g 65) fun g2 =>
  bd (f_X1_depths g2 65) fun r4 =>
  some (r4, g2)
def j_X0_luck_104 (x10 : Int32) (x12 : Int32) (k53 : Int32 → Int32 → Int32 → GM → Option (Int32 × GM)) (g20 : GM) (x23 : Int32) : Option (Int32 × GM) :=
  k53 (x10 + x23) (g20 92 3) (x12 + 1) g20
def b_X0_luck_53 (a1 : Int32) (r9 : Int32) (k53 : Int32 → Int32 → Int32 → GM → Option (Int32 × GM)) (x10 : Int32) (x11 : Int32) (x12 : Int32) (g13 : GM) : Option (Int32 × GM) :=
  if a1 ≤ x12 then (some (x10, g13))
  else (bd (f_X1_become g13 92 65) fun g16 =>
  bd (puI g16 92 3 x11) fun g18 =>
  bd (f_X0_dayByDraws g18 92) fun g20 =>
  bd (f_X1_depths g20 92) fun r22 =>
  if r22 ≤ r9 then (j_X0_luck_104 x10 x12 k53 g20 0)
  else (j_X0_luck_104 x10 x12 k53 g20 1))
def l_X0_luck_53 (a1 : Int32) (r9 : Int32) : Nat → Int32 → Int32 → Int32 → GM → Option (Int32 × GM)
  | 0, _, _, _, _ => none
  | k + 1, x10, x11, x12, g13 => b_X0_luck_53 a1 r9 (l_X0_luck_53 a1 r9 k) x10 x11 x12 g13
def f_X0_luck (g : GM) (a1 : Int32) : Option (Int32 × GM) :=
  bd (f_X0_in a1 1 30) fun r2 =>
  if r2 = 0 then (some ((-1), g))
  else (bd (f_X1_become g 92 65) fun g5 =>
  bd (f_X0_dayGoes g5 92) fun g7 =>
  bd (f_X1_depths g7 92) fun r9 =>
  l_X0_luck_53 a1 r9 fuel 0 (g7 65 3) 0 g7)
def f_X0_state (g : GM) (a1 : Int32) : Option Int32 :=
  if a1 = 0 then (some (g 65 1))
  else if a1 = 1 then (bd (f_X1_vatNow g 65) fun r4 =>
  some (1 + r4))
  else if a1 = 2 then (some (g 65 2))
  else if a1 = 3 then (bd (f_X1_aboutAny g 65) fun r8 =>
  some r8)
  else if a1 = 4 then (bd (f_X1_depths g 65) fun r11 =>
  some r11)
  else if a1 = 5 then (bd (f_X1_atOdds g 65) fun r14 =>
  some r14)
  else (some (-1))
def j_X0_isAsked_22  (x3 : Int32) : Option Int32 :=
  grd (x3 = 0 ∨ x3 = 1) <|
  some x3
def j_X0_isAsked_21   : Option Int32 :=
  j_X0_isAsked_22 0
def f_X0_isAsked (g : GM) (a1 : Int32) (a2 : Int32) (a3 : Int32) : Option Int32 :=
  bd (f_X0_isCloth g a1) fun r2 =>
  if r2 = 0 then (j_X0_isAsked_21)
  else (bd (f_X0_in a2 0 a3) fun r7 =>
  if r7 = 0 then (j_X0_isAsked_21)
  else (j_X0_isAsked_22 1))
def f_X0_gone (g : GM) (a1 : Int32) (a2 : Int32) : Option (Int32 × GM) :=
  bd (f_X0_isAsked g a1 a2 60) fun r2 =>
  if r2 = 0 then (some ((-1), g))
  else (bd (f_X1_become g 92 65) fun g5 =>
  bd (f_X0_daysGo g5 92 a2) fun g7 =>
  bd (ldI g7 98 8 a1) fun v9 =>
  some (1 + v9, g7))
def f_X0_depth (g : GM) (a1 : Int32) (a2 : Int32) : Option (Int32 × GM) :=
  bd (f_X0_isAsked g a1 a2 60) fun r2 =>
  if r2 = 0 then (some ((-1), g))
  else (bd (f_X1_become g 92 65) fun g5 =>
  bd (f_X0_daysGo g5 92 a2) fun g7 =>
  bd (ldI g7 99 8 a1) fun v9 =>
  some (v9, g7))
def j_X0_firstAbout_61 (g4 : GM) (x5 : Int32) : Option (Int32 × GM) :=
  some (x5, g4)
def j_X0_firstAbout_49 (x3 : Int32) (g4 : GM)  : Option (Int32 × GM) :=
  if x3 ≤ 60 then (j_X0_firstAbout_61 g4 x3)
  else (j_X0_firstAbout_61 g4 (-3))
def b_X0_firstAbout_13 (a1 : Int32) (a2 : Int32) (k13 : Int32 → GM → Option (Int32 × GM)) (x3 : Int32) (g4 : GM) : Option (Int32 × GM) :=
  if 60 < x3 then (j_X0_firstAbout_49 x3 g4)
  else (bd (ldI g4 98 8 a1) fun v9 =>
  if v9 = a2 then (j_X0_firstAbout_49 x3 g4)
  else (bd (f_X0_dayGoes g4 92) fun g12 =>
  k13 (x3 + 1) g12))
def l_X0_firstAbout_13 (a1 : Int32) (a2 : Int32) : Nat → Int32 → GM → Option (Int32 × GM)
  | 0, _, _ => none
  | k + 1, x3, g4 => b_X0_firstAbout_13 a1 a2 (l_X0_firstAbout_13 a1 a2 k) x3 g4
def f_X0_firstAbout (g : GM) (a1 : Int32) (a2 : Int32) : Option (Int32 × GM) :=
  bd (f_X1_become g 92 65) fun g2 =>
  l_X0_firstAbout_13 a1 a2 fuel 0 g2
def j_X0_comes_25  (x3 : Int32) (g4 : GM) : Option (Int32 × GM) :=
  some (x3, g4)
def j_X0_comes_24 (g : GM)  : Option (Int32 × GM) :=
  j_X0_comes_25 (-1) g
def f_X0_comes (g : GM) (a1 : Int32) (a2 : Int32) : Option (Int32 × GM) :=
  bd (f_X0_isCloth g a1) fun r2 =>
  if r2 = 0 then (j_X0_comes_24 g)
  else (bd (f_X0_isPurpose a2) fun r7 =>
  if r7 = 0 then (j_X0_comes_24 g)
  else (bd2 (f_X0_firstAbout g a1 a2) fun r10 g11 =>
  j_X0_comes_25 r10 g11))
def j_X0_bare_18  (x3 : Int32) (g4 : GM) : Option (Int32 × GM) :=
  some (x3, g4)
def f_X0_bare (g : GM) (a1 : Int32) : Option (Int32 × GM) :=
  bd (f_X0_isCloth g a1) fun r2 =>
  if r2 = 0 then (j_X0_bare_18 (-1) g)
  else (bd2 (f_X0_firstAbout g a1 (-1)) fun r7 g8 =>
  j_X0_bare_18 r7 g8)
def j_X0_spoiltTried_51 (x3 : Int32) (x4 : Int32) (k13 : Int32 → Int32 → Option (Int32 × GM)) (x10 : Int32) : Option (Int32 × GM) :=
  k13 (x3 + x10) (x4 + 1)
def b_X0_spoiltTried_13 (g2 : GM) (k13 : Int32 → Int32 → Option (Int32 × GM)) (x3 : Int32) (x4 : Int32) : Option (Int32 × GM) :=
  if (g2 65 0) ≤ x4 then (some (x3, g2))
  else (bd (ldI g2 98 8 x4) fun v7 =>
  bd (ldI g2 71 8 x4) fun v9 =>
  if v7 = v9 then (j_X0_spoiltTried_51 x3 x4 k13 0)
  else (j_X0_spoiltTried_51 x3 x4 k13 1))
def l_X0_spoiltTried_13 (g2 : GM) : Nat → Int32 → Int32 → Option (Int32 × GM)
  | 0, _, _ => none
  | k + 1, x3, x4 => b_X0_spoiltTried_13 g2 (l_X0_spoiltTried_13 g2 k) x3 x4
def f_X0_spoiltTried (g : GM) (a1 : Int32) : Option (Int32 × GM) :=
  bd (f_X0_daysGo g 92 a1) fun g2 =>
  l_X0_spoiltTried_13 g2 fuel 0 0
def f_X0_spoilt (g : GM) (a1 : Int32) : Option (Int32 × GM) :=
  bd (f_X0_in a1 0 60) fun r2 =>
  if r2 = 0 then (some ((-1), g))
  else (bd (f_X1_become g 92 65) fun g5 =>
  bd2 (f_X0_spoiltTried g5 a1) fun r7 g8 =>
  some (r7, g8))
def b_X0_dippedThrough_16 (a1 : Int32) (a2 : Int32) (k16 : Int32 → GM → Option (Int32 × GM)) (x3 : Int32) (g4 : GM) : Option (Int32 × GM) :=
  if x3 < 0 then (bd (ldI g4 98 8 a1) fun v7 =>
  some (v7, g4))
  else (bd (f_X0_dips g4 92 a1 ((a2 >>> ((3 * x3) &&& 31)) &&& 7)) fun g9 =>
  k16 (x3 + (-1)) g9)
def l_X0_dippedThrough_16 (a1 : Int32) (a2 : Int32) : Nat → Int32 → GM → Option (Int32 × GM)
  | 0, _, _ => none
  | k + 1, x3, g4 => b_X0_dippedThrough_16 a1 a2 (l_X0_dippedThrough_16 a1 a2 k) x3 g4
def f_X0_dippedThrough (g : GM) (a1 : Int32) (a2 : Int32) (a3 : Int32) : Option (Int32 × GM) :=
  bd (f_X1_become g 92 65) fun g2 =>
  l_X0_dippedThrough_16 a1 a2 fuel (a3 - 1) g2
def j_X0_through_15 (g : GM)  : Option (Int32 × GM) :=
  some ((-1), g)
def b_X0_through_27 (a1 : Int32) (a2 : Int32) (x7 : Int32) (k19 : Int32 → GM → Option (Int32 × GM)) (k27 : Int32 → GM → Option (Int32 × GM)) (x10 : Int32) (g11 : GM) : Option (Int32 × GM) :=
  if (1 <<< ((3 * x7) &&& 31)) ≤ x10 then (k19 (x7 + 1) g11)
  else (bd2 (f_X0_dippedThrough g11 a1 x10 x7) fun r14 g15 =>
  if r14 = a2 then (some ((1 <<< ((3 * x7) &&& 31)) + x10, g15))
  else (k27 (x10 + 1) g15))
def l_X0_through_27 (a1 : Int32) (a2 : Int32) (x7 : Int32) (k19 : Int32 → GM → Option (Int32 × GM)) : Nat → Int32 → GM → Option (Int32 × GM)
  | 0, _, _ => none
  | k + 1, x10, g11 => b_X0_through_27 a1 a2 x7 k19 (l_X0_through_27 a1 a2 x7 k19 k) x10 g11
def b_X0_through_19 (a1 : Int32) (a2 : Int32) (k19 : Int32 → GM → Option (Int32 × GM)) (x7 : Int32) (g8 : GM) : Option (Int32 × GM) :=
  if 3 < x7 then (some ((-3), g8))
  else (l_X0_through_27 a1 a2 x7 k19 fuel 0 g8)
def l_X0_through_19 (a1 : Int32) (a2 : Int32) : Nat → Int32 → GM → Option (Int32 × GM)
  | 0, _, _ => none
  | k + 1, x7, g8 => b_X0_through_19 a1 a2 (l_X0_through_19 a1 a2 k) x7 g8
def f_X0_through (g : GM) (a1 : Int32) (a2 : Int32) : Option (Int32 × GM) :=
  bd (f_X0_isCloth g a1) fun r2 =>
  if r2 = 0 then (j_X0_through_15 g)
  else (bd (f_X0_isPurpose a2) fun r5 =>
  if r5 = 0 then (j_X0_through_15 g)
  else (l_X0_through_19 a1 a2 fuel 0 g))
def f_X0_depthsTried (g : GM) (a1 : Int32) : Option (Int32 × GM) :=
  bd (f_X0_daysGo g 92 a1) fun g2 =>
  bd (f_X1_depths g2 92) fun r4 =>
  some (r4, g2)
def j_X0_vatFor_17 (g : GM)  : Option (Int32 × GM) :=
  some ((-1), g)
def j_X0_vatFor_76 (x8 : Int32) (x9 : Int32) (k27 : Int32 → Int32 → Int32 → GM → Option (Int32 × GM)) (r17 : Int32) (g18 : GM) (x19 : Int32) : Option (Int32 × GM) :=
  k27 x19 (imax x8 r17) (x9 + 1) g18
def b_X0_vatFor_27 (a1 : Int32) (a2 : Int32) (k27 : Int32 → Int32 → Int32 → GM → Option (Int32 × GM)) (x7 : Int32) (x8 : Int32) (x9 : Int32) (g10 : GM) : Option (Int32 × GM) :=
  if 8 ≤ x9 then (some (x7, g10))
  else (bd (f_X1_become g10 92 65) fun g13 =>
  bd (stI g13 96 6 a1 x9) fun g15 =>
  bd2 (f_X0_depthsTried g15 a2) fun r17 g18 =>
  if r17 ≤ x8 then (j_X0_vatFor_76 x8 x9 k27 r17 g18 x7)
  else (j_X0_vatFor_76 x8 x9 k27 r17 g18 x9))
def l_X0_vatFor_27 (a1 : Int32) (a2 : Int32) : Nat → Int32 → Int32 → Int32 → GM → Option (Int32 × GM)
  | 0, _, _, _, _ => none
  | k + 1, x7, x8, x9, g10 => b_X0_vatFor_27 a1 a2 (l_X0_vatFor_27 a1 a2 k) x7 x8 x9 g10
def f_X0_vatFor (g : GM) (a1 : Int32) (a2 : Int32) : Option (Int32 × GM) :=
  bd (f_X0_isRest a1) fun r2 =>
  if r2 = 0 then (j_X0_vatFor_17 g)
  else (bd (f_X0_in a2 1 40) fun r5 =>
  if r5 = 0 then (j_X0_vatFor_17 g)
  else (l_X0_vatFor_27 a1 a2 fuel 0 (-1) 0 g))
def j_X0_kindFor_18 (g : GM)  : Option (Int32 × GM) :=
  some ((-1), g)
def j_X0_kindFor_85 (a1 : Int32) (x8 : Int32) (x9 : Int32) (k28 : Int32 → Int32 → Int32 → GM → Option (Int32 × GM)) (g17 : GM) (x20 : Int32) : Option (Int32 × GM) :=
  bd (ldI g17 99 8 a1) fun v22 =>
  k28 x20 (imax x8 v22) (x9 + 1) g17
def b_X0_kindFor_28 (a1 : Int32) (a2 : Int32) (k28 : Int32 → Int32 → Int32 → GM → Option (Int32 × GM)) (x7 : Int32) (x8 : Int32) (x9 : Int32) (g10 : GM) : Option (Int32 × GM) :=
  if 5 < x9 then (some (x7, g10))
  else (bd (f_X1_become g10 92 65) fun g13 =>
  bd (stI g13 97 8 a1 x9) fun g15 =>
  bd (f_X0_daysGo g15 92 a2) fun g17 =>
  bd (ldI g17 99 8 a1) fun v19 =>
  if v19 ≤ x8 then (j_X0_kindFor_85 a1 x8 x9 k28 g17 x7)
  else (j_X0_kindFor_85 a1 x8 x9 k28 g17 x9))
def l_X0_kindFor_28 (a1 : Int32) (a2 : Int32) : Nat → Int32 → Int32 → Int32 → GM → Option (Int32 × GM)
  | 0, _, _, _, _ => none
  | k + 1, x7, x8, x9, g10 => b_X0_kindFor_28 a1 a2 (l_X0_kindFor_28 a1 a2 k) x7 x8 x9 g10
def f_X0_kindFor (g : GM) (a1 : Int32) (a2 : Int32) : Option (Int32 × GM) :=
  bd (f_X0_isCloth g a1) fun r2 =>
  if r2 = 0 then (j_X0_kindFor_18 g)
  else (bd (f_X0_in a2 1 40) fun r5 =>
  if r5 = 0 then (j_X0_kindFor_18 g)
  else (l_X0_kindFor_28 a1 a2 fuel 0 (-1) 0 g))
def j_X0_strengthFor_33 (g : GM)  : Option (Int32 × GM) :=
  some ((-1), g)
def b_X0_strengthFor_38 (a1 : Int32) (a2 : Int32) (a3 : Int32) (a4 : Int32) (k38 : Int32 → GM → Option (Int32 × GM)) (x13 : Int32) (g14 : GM) : Option (Int32 × GM) :=
  if 9 < x13 then (some ((-3), g14))
  else (bd (f_X1_become g14 92 65) fun g17 =>
  bd (stI g17 95 8 a1 x13) fun g19 =>
  bd (f_X0_daysGo g19 92 a4) fun g21 =>
  bd (ldI g21 98 8 a2) fun v23 =>
  if v23 = a3 then (some (x13, g21))
  else (k38 (x13 + 1) g21))
def l_X0_strengthFor_38 (a1 : Int32) (a2 : Int32) (a3 : Int32) (a4 : Int32) : Nat → Int32 → GM → Option (Int32 × GM)
  | 0, _, _ => none
  | k + 1, x13, g14 => b_X0_strengthFor_38 a1 a2 a3 a4 (l_X0_strengthFor_38 a1 a2 a3 a4 k) x13 g14
def f_X0_strengthFor (g : GM) (a1 : Int32) (a2 : Int32) (a3 : Int32) (a4 : Int32) : Option (Int32 × GM) :=
  bd (f_X0_isVat a1) fun r2 =>
  if r2 = 0 then (j_X0_strengthFor_33 g)
  else (bd (f_X0_isCloth g a2) fun r5 =>
  if r5 = 0 then (j_X0_strengthFor_33 g)
  else (bd (f_X0_isPurpose a3) fun r8 =>
  if r8 = 0 then (j_X0_strengthFor_33 g)
  else (bd (f_X0_in a4 1 40) fun r11 =>
  if r11 = 0 then (j_X0_strengthFor_33 g)
  else (l_X0_strengthFor_38 a1 a2 a3 a4 fuel 0 g))))
def b_X0_ones_4  (k4 : Int32 → Int32 → Option Int32) (x1 : Int32) (x2 : Int32) : Option Int32 :=
  if x2 = 0 then (some x1)
  else (k4 (x1 + 1) (x2 &&& (x2 - 1)))
def l_X0_ones_4  : Nat → Int32 → Int32 → Option Int32
  | 0, _, _ => none
  | k + 1, x1, x2 => b_X0_ones_4  (l_X0_ones_4  k) x1 x2
def f_X0_ones  (a0 : Int32) : Option Int32 :=
  l_X0_ones_4 fuel 0 a0
def j_X0_hangFor_20 (g : GM)  : Option (Int32 × GM) :=
  some ((-1), g)
def j_X0_hangFor_99 (x8 : Int32) (k28 : Int32 → Int32 → GM → Option (Int32 × GM)) (x11 : Int32) (g12 : GM) : Option (Int32 × GM) :=
  k28 x11 (x8 + 1) g12
def j_X0_hangFor_98 (x8 : Int32) (k28 : Int32 → Int32 → GM → Option (Int32 × GM)) (g19 : GM) (x20 : Int32) : Option (Int32 × GM) :=
  j_X0_hangFor_99 x8 k28 x20 g19
def j_X0_hangFor_63 (a1 : Int32) (a2 : Int32) (x7 : Int32) (x8 : Int32) (g9 : GM) (k28 : Int32 → Int32 → GM → Option (Int32 × GM))  : Option (Int32 × GM) :=
  bd (f_X1_become g9 92 65) fun g14 =>
  bd (puI g14 92 2 x8) fun g16 =>
  bd2 (f_X0_spoiltTried g16 a1) fun r18 g19 =>
  if a2 < r18 then (j_X0_hangFor_98 x8 k28 g19 x7)
  else (j_X0_hangFor_98 x8 k28 g19 x8)
def b_X0_hangFor_28 (a1 : Int32) (a2 : Int32) (k28 : Int32 → Int32 → GM → Option (Int32 × GM)) (x7 : Int32) (x8 : Int32) (g9 : GM) : Option (Int32 × GM) :=
  if (1 <<< ((g9 65 0) &&& 31)) ≤ x8 then (some (x7, g9))
  else (if x7 = (-3) then (j_X0_hangFor_63 a1 a2 x7 x8 g9 k28)
  else (bd (f_X0_ones x8) fun r24 =>
  bd (f_X0_ones x7) fun r26 =>
  if r24 < r26 then (j_X0_hangFor_63 a1 a2 x7 x8 g9 k28)
  else (j_X0_hangFor_99 x8 k28 x7 g9)))
def l_X0_hangFor_28 (a1 : Int32) (a2 : Int32) : Nat → Int32 → Int32 → GM → Option (Int32 × GM)
  | 0, _, _, _ => none
  | k + 1, x7, x8, g9 => b_X0_hangFor_28 a1 a2 (l_X0_hangFor_28 a1 a2 k) x7 x8 g9
def f_X0_hangFor (g : GM) (a1 : Int32) (a2 : Int32) : Option (Int32 × GM) :=
  bd (f_X0_in a1 1 30) fun r2 =>
  if r2 = 0 then (j_X0_hangFor_20 g)
  else (bd (f_X0_in a2 0 8) fun r5 =>
  if r5 = 0 then (j_X0_hangFor_20 g)
  else (l_X0_hangFor_28 a1 a2 fuel (-3) 0 g))
def f_X0_isSheet  (a0 : Int32) : Option Int32 :=
  bd (f_X0_in a0 0 3) fun r2 =>
  grd (r2 = 0 ∨ r2 = 1) <|
  some r2
def f_X0_there  (a1 : Option Nat) : Option (Nat ⊕ Nat) :=
  onull a1 (some (.inr 12)) fun v1 =>
  some (.inl v1)
def j_X0_lengthOf_46  (x4 : Int32) : Option Int32 :=
  some x4
def f_X0_lengthOf (sh : SM) (a0 : Nat) : Option Int32 :=
  grd (isThing sh a0) <|
  if (sh a0).1 = 2 then (some (nI ((sh a0).2)))
  else (if (sh a0).1 = 3 then (some (nI ((sh a0).2)))
  else (if (sh a0).1 = 4 then (j_X0_lengthOf_46 (nI ((sh a0).2)))
  else (grd ((sh a0).1 = 1) <|
  j_X0_lengthOf_46 (nI ((sh a0).2)))))
def j_X0_numberOf_53  (x8 : Int64) : Option Int64 :=
  some x8
def f_X0_numberOf (sh : SM) (g : GM) (gl : LM) (a0 : Nat) (a1 : Int32) : Option Int64 :=
  grd (isThing sh a0) <|
  if (sh a0).1 = 2 then (bd (ldI g a0 ((sh a0).2) a1) fun v4 =>
  some v4.toInt64)
  else (if (sh a0).1 = 3 then (bd (ldI g a0 ((sh a0).2) a1) fun v7 =>
  some v7.toInt64)
  else (if (sh a0).1 = 4 then (bd (ldL gl a0 ((sh a0).2) a1) fun v11 =>
  j_X0_numberOf_53 v11)
  else (grd ((sh a0).1 = 1) <|
  bd (ldI g a0 ((sh a0).2) a1) fun v14 =>
  j_X0_numberOf_53 v14.toInt64)))
def j_X0_isTold_52 (x1 : Int32) (k2 : Int32 → GM → Option (Int32 × GM)) (g7 : GM)  : Option (Int32 × GM) :=
  k2 (x1 + 1) g7
def b_X0_isTold_2 (sh : SM) (gl : LM) (a1 : Nat) (a2 : Int32) (k2 : Int32 → GM → Option (Int32 × GM)) (x1 : Int32) (g2 : GM) : Option (Int32 × GM) :=
  bd (f_X0_lengthOf sh a1) fun r4 =>
  if r4 ≤ x1 then (some (1, g2))
  else (bd (f_X0_dayGoes g2 92) fun g7 =>
  bd (f_X0_numberOf sh g7 gl a1 x1) fun r9 =>
  if (lg_cmp r9 (-1)) = 0 then (j_X0_isTold_52 x1 k2 g7)
  else (bd (ldI g7 99 8 a2) fun v12 =>
  if (lg_cmp r9 v12.toInt64) = 0 then (j_X0_isTold_52 x1 k2 g7)
  else (some (0, g7))))
def l_X0_isTold_2 (sh : SM) (gl : LM) (a1 : Nat) (a2 : Int32) : Nat → Int32 → GM → Option (Int32 × GM)
  | 0, _, _ => none
  | k + 1, x1, g2 => b_X0_isTold_2 sh gl a1 a2 (l_X0_isTold_2 sh gl a1 a2 k) x1 g2
def f_X0_isTold (sh : SM) (g : GM) (gl : LM) (a1 : Nat) (a2 : Int32) : Option (Int32 × GM) :=
  l_X0_isTold_2 sh gl a1 a2 fuel 0 g
def j_X0_fitsOf_105 (g4 : GM) (x6 : Int32) : Option (Int32 × GM) :=
  some (x6, g4)
def j_X0_fitsOf_88 (x3 : Int32) (k11 : Int32 → Int32 → Int32 → GM → Option (Int32 × GM)) (x16 : Int32) (x17 : Int32) (g18 : GM) : Option (Int32 × GM) :=
  k11 x16 x17 (x3 + (-1)) g18
def j_X0_fitsOf_67 (sh : SM) (gl : LM) (a1 : Nat) (a2 : Int32) (x1 : Int32) (x2 : Int32) (x3 : Int32) (k11 : Int32 → Int32 → Int32 → GM → Option (Int32 × GM)) (g11 : GM) (x12 : Int32) (x15 : Int32) : Option (Int32 × GM) :=
  if x12 = x15 then (bd2 (f_X0_isTold sh g11 gl a1 a2) fun r21 g22 =>
  if r21 = 0 then (j_X0_fitsOf_88 x3 k11 x1 x2 g22)
  else (j_X0_fitsOf_88 x3 k11 (x1 + 1) (1 + x3) g22))
  else (j_X0_fitsOf_88 x3 k11 x1 x2 g11)
def j_X0_fitsOf_50 (sh : SM) (gl : LM) (a1 : Nat) (a2 : Int32) (x1 : Int32) (x2 : Int32) (x3 : Int32) (k11 : Int32 → Int32 → Int32 → GM → Option (Int32 × GM)) (g11 : GM) (x12 : Int32) : Option (Int32 × GM) :=
  bd (ldI g11 72 8 a2) fun v14 =>
  if v14 = 0 then (j_X0_fitsOf_67 sh gl a1 a2 x1 x2 x3 k11 g11 x12 1)
  else (j_X0_fitsOf_67 sh gl a1 a2 x1 x2 x3 k11 g11 x12 0)
def b_X0_fitsOf_11 (sh : SM) (gl : LM) (a1 : Nat) (a2 : Int32) (a3 : Int32) (k11 : Int32 → Int32 → Int32 → GM → Option (Int32 × GM)) (x1 : Int32) (x2 : Int32) (x3 : Int32) (g4 : GM) : Option (Int32 × GM) :=
  if x3 < (-1) then (if a3 = 0 then (j_X0_fitsOf_105 g4 x2)
  else (j_X0_fitsOf_105 g4 x1))
  else (bd (f_X1_become g4 92 65) fun g9 =>
  bd (stI g9 98 8 a2 x3) fun g11 =>
  if x3 = (-1) then (j_X0_fitsOf_50 sh gl a1 a2 x1 x2 x3 k11 g11 1)
  else (j_X0_fitsOf_50 sh gl a1 a2 x1 x2 x3 k11 g11 0))
def l_X0_fitsOf_11 (sh : SM) (gl : LM) (a1 : Nat) (a2 : Int32) (a3 : Int32) : Nat → Int32 → Int32 → Int32 → GM → Option (Int32 × GM)
  | 0, _, _, _, _ => none
  | k + 1, x1, x2, x3, g4 => b_X0_fitsOf_11 sh gl a1 a2 a3 (l_X0_fitsOf_11 sh gl a1 a2 a3 k) x1 x2 x3 g4
def f_X0_fitsOf (sh : SM) (g : GM) (gl : LM) (a1 : Nat) (a2 : Int32) (a3 : Int32) : Option (Int32 × GM) :=
  l_X0_fitsOf_11 sh gl a1 a2 a3 fuel 0 (-3) 9 g
def j_X0_fits_24 (g : GM)  : Option ((Int32 × GM) ⊕ (Nat × GM)) :=
  some (.inl ((-1), g))
def j_X0_fits_50 (sh : SM) (g : GM) (gl : LM) (a2 : Int32) (r15 : Nat) (x18 : Int32) : Option ((Int32 × GM) ⊕ (Nat × GM)) :=
  bd2 (f_X0_fitsOf sh g gl r15 a2 x18) fun r20 g21 =>
  some (.inl (r20, g21))
def f_X0_fits (sh : SM) (g : GM) (gl : LM) (gr : RM) (a1 : Int32) (a2 : Int32) (a3 : Int32) : Option ((Int32 × GM) ⊕ (Nat × GM)) :=
  bd (f_X0_isSheet a1) fun r2 =>
  if r2 = 0 then (j_X0_fits_24 g)
  else (bd (f_X0_isCloth g a2) fun r5 =>
  if r5 = 0 then (j_X0_fits_24 g)
  else (bd (f_X0_in a3 0 1) fun r8 =>
  if r8 = 0 then (j_X0_fits_24 g)
  else (bd (chk 4 a1) fun j11 =>
  bd (f_X10_row sh g gr (116 + j11)) fun r13 =>
  bx11 (f_X0_there r13) (fun ec16 => if ec16 = 12 then (some (.inl ((-11), g)))
  else (none)) fun r15 =>
  if a3 = 0 then (j_X0_fits_50 sh g gl a2 r15 1)
  else (j_X0_fits_50 sh g gl a2 r15 0))))
def b_X0_raised_5 (a0 : Int64) (a2 : Int32) (k5 : Int64 → Int32 → Option Int64) (x1 : Int64) (x2 : Int32) : Option Int64 :=
  if a2 ≤ x2 then (some x1)
  else (k5 (x1 * a0) (x2 + 1))
def l_X0_raised_5 (a0 : Int64) (a2 : Int32) : Nat → Int64 → Int32 → Option Int64
  | 0, _, _ => none
  | k + 1, x1, x2 => b_X0_raised_5 a0 a2 (l_X0_raised_5 a0 a2 k) x1 x2
def f_X0_raised  (a0 : Int64) (a2 : Int32) : Option Int64 :=
  l_X0_raised_5 a0 a2 fuel 1 0
def b_X0_common_12  (k12 : Int64 → Int64 → Option Int64) (x1 : Int64) (x2 : Int64) : Option Int64 :=
  if (lg_cmp x2 0) = 0 then (some x1)
  else (grd (¬ x2 = 0) <|
  k12 x2 (x1 - x1 / x2 * x2))
def l_X0_common_12  : Nat → Int64 → Int64 → Option Int64
  | 0, _, _ => none
  | k + 1, x1, x2 => b_X0_common_12  (l_X0_common_12  k) x1 x2
def f_X0_common  (a0 : Int64) (a2 : Int64) : Option Int64 :=
  l_X0_common_12 fuel (labs a0) (labs a2)
def j_X0_partOf_23  (x3 : Int64) : Option Int64 :=
  some x3
def f_X0_partOf  (a0 : Int64) (a2 : Int64) (a4 : Int32) : Option Int64 :=
  bd (f_X0_common a0 a2) fun r2 =>
  if a4 = 0 then (grd (¬ r2 = 0) <|
  j_X0_partOf_23 (a0 / r2))
  else (grd (¬ r2 = 0) <|
  j_X0_partOf_23 (a2 / r2))
def j_X0_hope_19   : Option Int64 :=
  some (-1)
def f_X0_hope (g : GM) (a1 : Int32) (a2 : Int32) : Option Int64 :=
  bd (f_X0_in a1 0 99) fun r2 =>
  if r2 = 0 then (j_X0_hope_19)
  else (bd (f_X0_in a2 0 1) fun r5 =>
  if r5 = 0 then (j_X0_hope_19)
  else (bd (ldI g 66 4 3) fun v8 =>
  bd (f_X0_partOf (a1.toInt64 * v8.toInt64) 100 a2) fun r10 =>
  some r10))
def j_X0_isRow_28  (x3 : Int32) : Option Int32 :=
  grd (x3 = 0 ∨ x3 = 1) <|
  some x3
def j_X0_isRow_27   : Option Int32 :=
  j_X0_isRow_28 0
def f_X0_isRow (g : GM) (a1 : Int32) (a2 : Int32) : Option Int32 :=
  bd (f_X0_in a1 0 ((g 64 10) - 1)) fun r2 =>
  if r2 = 0 then (j_X0_isRow_27)
  else (bd (f_X0_in a2 0 2) fun r7 =>
  if r7 = 0 then (j_X0_isRow_27)
  else (j_X0_isRow_28 1))
def j_X0_row_25  (x3 : Int32) : Option Int32 :=
  some x3
def f_X0_row (sh : SM) (g : GM) (gr : RM) (a1 : Int32) (a2 : Int32) : Option Int32 :=
  bd (f_X0_isRow g a1 a2) fun r2 =>
  if r2 = 0 then (j_X0_row_25 (-9))
  else (bd (ldR gr 113 10 a1) fun o6 =>
  bd o6 fun v8 =>
  grd (sh v8 = (35, 1)) <|
  bd (gr v8 0) fun v11 =>
  grd ((sh v11).1 = 1) <|
  bd (ldI g v11 ((sh v11).2) a2) fun v14 =>
  j_X0_row_25 v14)
def f_X0_alterRow (sh : SM) (g : GM) (gr : RM) (a1 : Int32) (a2 : Int32) (a3 : Int32) : Option (Int32 × GM) :=
  bd (f_X0_isRow g a1 a2) fun r2 =>
  if r2 = 0 then (some ((-9), g))
  else (bd (ldR gr 113 10 a1) fun o5 =>
  bd o5 fun v7 =>
  grd (sh v7 = (35, 1)) <|
  bd (gr v7 0) fun v10 =>
  grd ((sh v10).1 = 1) <|
  bd (ldI g v10 ((sh v10).2) a2) fun v13 =>
  bd (ldR gr 113 10 a1) fun o15 =>
  bd o15 fun v17 =>
  grd (sh v17 = (35, 1)) <|
  bd (gr v17 0) fun v20 =>
  grd ((sh v20).1 = 1) <|
  bd (stI g v20 ((sh v20).2) a2 a3) fun g23 =>
  some (v13, g23))
def f_X0_goesAs (g : GM) (b1 : Nat) (a2 : Int32) (a3 : Nat) : Option GM :=
  bd (f_X0_dayGoes g b1) fun g2 =>
  bd (ldI g2 (b1 + 6) 8 a2) fun v4 =>
  bd (stI g2 a3 3 0 (1 + v4)) fun g6 =>
  bd (ldI g6 (b1 + 7) 8 a2) fun v8 =>
  bd (stI g6 a3 3 1 v8) fun g10 =>
  bd (f_X1_depths g10 b1) fun r12 =>
  bd (stI g10 a3 3 2 r12) fun g14 =>
  some g14
def j_X0_judge_103  (x8 : Int32) (g9 : GM) : Option (Int32 × GM) :=
  some (x8, g9)
def b_X0_judge_60 (sh : SM) (x6 : Int32) (k25 : Int32 → GM → Option (Int32 × GM)) (g12 : GM) (v19 : Nat) (k60 : Int32 → Option (Int32 × GM)) (x20 : Int32) : Option (Int32 × GM) :=
  if 3 ≤ x20 then (k25 (x6 + 1) g12)
  else (grd ((sh v19).1 = 1) <|
  bd (ldI g12 v19 ((sh v19).2) x20) fun v24 =>
  bd (ldI g12 114 3 x20) fun v26 =>
  if v24 = v26 then (k60 (x20 + 1))
  else (j_X0_judge_103 (x6 + 1) g12))
def l_X0_judge_60 (sh : SM) (x6 : Int32) (k25 : Int32 → GM → Option (Int32 × GM)) (g12 : GM) (v19 : Nat) : Nat → Int32 → Option (Int32 × GM)
  | 0, _ => none
  | k + 1, x20 => b_X0_judge_60 sh x6 k25 g12 v19 (l_X0_judge_60 sh x6 k25 g12 v19 k) x20
def b_X0_judge_25 (sh : SM) (gr : RM) (a1 : Int32) (k25 : Int32 → GM → Option (Int32 × GM)) (x6 : Int32) (g7 : GM) : Option (Int32 × GM) :=
  if (g7 64 10) ≤ x6 then (j_X0_judge_103 0 g7)
  else (bd (f_X0_goesAs g7 92 a1 114) fun g12 =>
  bd (ldR gr 113 10 x6) fun o14 =>
  bd o14 fun v16 =>
  grd (sh v16 = (35, 1)) <|
  bd (gr v16 0) fun v19 =>
  l_X0_judge_60 sh x6 k25 g12 v19 fuel 0)
def l_X0_judge_25 (sh : SM) (gr : RM) (a1 : Int32) : Nat → Int32 → GM → Option (Int32 × GM)
  | 0, _, _ => none
  | k + 1, x6, g7 => b_X0_judge_25 sh gr a1 (l_X0_judge_25 sh gr a1 k) x6 g7
def f_X0_judge (sh : SM) (g : GM) (gr : RM) (a1 : Int32) : Option (Int32 × GM) :=
  bd (f_X0_isCloth g a1) fun r2 =>
  if r2 = 0 then (some ((-1), g))
  else (bd (f_X1_become g 92 65) fun g5 =>
  l_X0_judge_25 sh gr a1 fuel 0 g5)
def f_X0_bytes (sh : SM) (a0 : Nat) : Option (Nat ⊕ Nat) :=
  grd (isThing sh a0) <|
  if (sh a0).1 = 2 then (some (.inl a0))
  else (some (.inr 1))
def j_X0_within_9   : Option (Unit ⊕ Nat) :=
  some (.inr 11)
def f_X0_within  (a1 : Int32) (a2 : Int32) : Option (Unit ⊕ Nat) :=
  if a1 < 0 then (j_X0_within_9)
  else (if a1 < a2 then (some (.inl ()))
  else (j_X0_within_9))
def j_X0_mindsOf_68 (a3 : Int32) (x5 : Int32) (g6 : GM) (k24 : Int32 → GM → Option (GM ⊕ (Nat × GM))) (x10 : Int32) : Option (GM ⊕ (Nat × GM)) :=
  bd (stI g6 72 8 (a3 + x5) x10) fun g12 =>
  bd (f_X1_settles g12 65 (a3 + x5)) fun g14 =>
  k24 (x5 + 1) g14
def b_X0_mindsOf_24 (a1 : Nat) (La1 : Nat) (a2 : Int32) (a3 : Int32) (a4 : Int32) (k24 : Int32 → GM → Option (GM ⊕ (Nat × GM))) (x5 : Int32) (g6 : GM) : Option (GM ⊕ (Nat × GM)) :=
  if a4 ≤ x5 then (some (.inl g6))
  else (bd (ldI g6 71 8 (a3 + x5)) fun v9 =>
  if v9 = (-1) then (j_X0_mindsOf_68 a3 x5 g6 k24 0)
  else (bd (ldI g6 a1 La1 (a2 + x5)) fun v17 =>
  j_X0_mindsOf_68 a3 x5 g6 k24 v17))
def l_X0_mindsOf_24 (a1 : Nat) (La1 : Nat) (a2 : Int32) (a3 : Int32) (a4 : Int32) : Nat → Int32 → GM → Option (GM ⊕ (Nat × GM))
  | 0, _, _ => none
  | k + 1, x5, g6 => b_X0_mindsOf_24 a1 La1 a2 a3 a4 (l_X0_mindsOf_24 a1 La1 a2 a3 a4 k) x5 g6
def f_X0_mindsOf (g : GM) (a1 : Nat) (La1 : Nat) (a2 : Int32) (a3 : Int32) (a4 : Int32) : Option (GM ⊕ (Nat × GM)) :=
  bx11 (f_X0_within a2 ((nI La1) + 1)) (fun ec2 => some (.inr (ec2, g))) fun _ =>
  bx11 (f_X0_within a4 (((nI La1) - a2) + 1)) (fun ec4 => some (.inr (ec4, g))) fun _ =>
  l_X0_mindsOf_24 a1 La1 a2 a3 a4 fuel 0 g
def j_X0_minds_33 (g : GM)  : Option ((Int32 × GM) ⊕ (Nat × GM)) :=
  some (.inl ((-1), g))
def f_X0_minds (sh : SM) (g : GM) (gr : RM) (a1 : Int32) (a2 : Int32) (a3 : Int32) (a4 : Int32) : Option ((Int32 × GM) ⊕ (Nat × GM)) :=
  bd (f_X0_isSheet a1) fun r2 =>
  if r2 = 0 then (j_X0_minds_33 g)
  else (bd (f_X0_isCloth g a3) fun r5 =>
  if r5 = 0 then (j_X0_minds_33 g)
  else (bd (f_X0_in a4 0 ((g 65 0) - a3)) fun r8 =>
  if r8 = 0 then (j_X0_minds_33 g)
  else (bd (chk 4 a1) fun j11 =>
  bd (f_X10_row sh g gr (116 + j11)) fun r13 =>
  bx11 (f_X0_there r13) (fun ec16 => if ec16 = 12 then (some (.inl ((-11), g)))
  else (if ec16 = 1 then (some (.inl ((-13), g)))
  else (if ec16 = 11 then (some (.inl ((-12), g)))
  else (none)))) fun r15 =>
  bx11 (f_X0_bytes sh r15) (fun ec22 => if ec22 = 12 then (some (.inl ((-11), g)))
  else (if ec22 = 1 then (some (.inl ((-13), g)))
  else (if ec22 = 11 then (some (.inl ((-12), g)))
  else (none)))) fun r21 =>
  grd ((sh r21).1 = 2) <|
  bx12 (f_X0_mindsOf g r21 ((sh r21).2) a2 a3 a4) (fun ec28 g30 => if ec28 = 12 then (some (.inl ((-11), g30)))
  else (if ec28 = 1 then (some (.inl ((-13), g30)))
  else (if ec28 = 11 then (some (.inl ((-12), g30)))
  else (none)))) fun g29 =>
  some (.inl (a4, g29)))))
def j_X0_set_2_70  (g5 : GM) (gl6 : LM) : Option ((GM × LM) ⊕ (Nat × GM × LM)) :=
  some (.inl (g5, gl6))
def f_X0_set_2 (sh : SM) (g : GM) (gl : LM) (a1 : Nat) (a2 : Int32) (a3 : Int32) : Option ((GM × LM) ⊕ (Nat × GM × LM)) :=
  bd (f_X0_lengthOf sh a1) fun r2 =>
  bx11 (f_X0_within a2 r2) (fun ec4 => some (.inr (ec4, g, gl))) fun _ =>
  grd (isThing sh a1) <|
  if (sh a1).1 = 2 then (bd (stI g a1 ((sh a1).2) a2 (vp_nar .byte a3.toInt8.toInt32)) fun g10 =>
  j_X0_set_2_70 g10 gl)
  else (if (sh a1).1 = 3 then (bd (stI g a1 ((sh a1).2) a2 (vp_nar .short a3.toInt16.toInt32)) fun g13 =>
  j_X0_set_2_70 g13 gl)
  else (if (sh a1).1 = 4 then (bd (stL gl a1 ((sh a1).2) a2 a3.toInt64) fun gl16 =>
  j_X0_set_2_70 g gl16)
  else (grd ((sh a1).1 = 1) <|
  bd (stI g a1 ((sh a1).2) a2 a3) fun g19 =>
  j_X0_set_2_70 g19 gl)))
def f_X0_put (sh : SM) (g : GM) (gl : LM) (gr : RM) (a1 : Int32) (a2 : Int32) (a3 : Int32) : Option ((Int32 × GM × LM) ⊕ (Nat × GM × LM)) :=
  bd (f_X0_isSheet a1) fun r2 =>
  if r2 = 0 then (some (.inl ((-1), g, gl)))
  else (bd (chk 4 a1) fun j5 =>
  bd (f_X10_row sh g gr (116 + j5)) fun r7 =>
  bx11 (f_X0_there r7) (fun ec10 => if ec10 = 12 then (some (.inl ((-11), g, gl)))
  else (if ec10 = 11 then (some (.inl ((-12), g, gl)))
  else (none))) fun r9 =>
  bx23 (f_X0_set_2 sh g gl r9 a2 a3) (fun ec14 g16 gl18 => if ec14 = 12 then (some (.inl ((-11), g16, gl18)))
  else (if ec14 = 11 then (some (.inl ((-12), g16, gl18)))
  else (none))) fun g15 gl17 =>
  some (.inl (1, g15, gl17)))
def f_X0_byteAt (g : GM) (a1 : Nat) (La1 : Nat) (a2 : Int32) : Option (Int32 ⊕ Nat) :=
  bx11 (f_X0_within a2 (nI La1)) (fun ec2 => some (.inr ec2)) fun _ =>
  bd (ldI g a1 La1 a2) fun v4 =>
  some (.inl v4)
def f_X0_shortAt (g : GM) (a1 : Nat) (La1 : Nat) (a2 : Int32) : Option (Int32 ⊕ Nat) :=
  bx11 (f_X0_within a2 (nI La1)) (fun ec2 => some (.inr ec2)) fun _ =>
  bd (ldI g a1 La1 a2) fun v4 =>
  some (.inl v4)
def f_X0_intAt (g : GM) (a1 : Nat) (La1 : Nat) (a2 : Int32) : Option (Int32 ⊕ Nat) :=
  bx11 (f_X0_within a2 (nI La1)) (fun ec2 => some (.inr ec2)) fun _ =>
  bd (ldI g a1 La1 a2) fun v4 =>
  some (.inl v4)
def f_X0_longAt (gl : LM) (a1 : Nat) (La1 : Nat) (a2 : Int32) : Option (Int32 ⊕ Nat) :=
  bx11 (f_X0_within a2 (nI La1)) (fun ec2 => some (.inr ec2)) fun _ =>
  bd (ldL gl a1 La1 a2) fun v4 =>
  some (.inl v4.toInt32)
def f_X0_itemOf (sh : SM) (g : GM) (gl : LM) (a1 : Nat) (a2 : Int32) (a3 : Int32) : Option (Int32 ⊕ Nat) :=
  if a2 = 0 then (grd (isThing sh a1) <|
  if (sh a1).1 = 2 then (bx11 (f_X0_byteAt g a1 ((sh a1).2) a3) (fun ec6 => some (.inr ec6)) fun r5 =>
  some (.inl r5))
  else (some (.inr 1)))
  else if a2 = 1 then (grd (isThing sh a1) <|
  if (sh a1).1 = 3 then (bx11 (f_X0_shortAt g a1 ((sh a1).2) a3) (fun ec12 => some (.inr ec12)) fun r11 =>
  some (.inl r11))
  else (some (.inr 1)))
  else if a2 = 2 then (grd (isThing sh a1) <|
  if (sh a1).1 = 1 then (bx11 (f_X0_intAt g a1 ((sh a1).2) a3) (fun ec18 => some (.inr ec18)) fun r17 =>
  some (.inl r17))
  else (some (.inr 1)))
  else (grd (isThing sh a1) <|
  if (sh a1).1 = 4 then (bx11 (f_X0_longAt gl a1 ((sh a1).2) a3) (fun ec23 => some (.inr ec23)) fun r22 =>
  some (.inl r22))
  else (some (.inr 1)))
def j_X0_item_16   : Option (Int32 ⊕ Nat) :=
  some (.inl (-1))
def f_X0_item (sh : SM) (g : GM) (gl : LM) (gr : RM) (a1 : Int32) (a2 : Int32) (a3 : Int32) : Option (Int32 ⊕ Nat) :=
  bd (f_X0_isSheet a1) fun r2 =>
  if r2 = 0 then (j_X0_item_16)
  else (bd (f_X0_in a2 0 3) fun r5 =>
  if r5 = 0 then (j_X0_item_16)
  else (bd (chk 4 a1) fun j8 =>
  bd (f_X10_row sh g gr (116 + j8)) fun r10 =>
  bx11 (f_X0_there r10) (fun ec13 => if ec13 = 12 then (some (.inl (-11)))
  else (if ec13 = 1 then (some (.inl (-13)))
  else (if ec13 = 11 then (some (.inl (-12)))
  else (none)))) fun r12 =>
  bx11 (f_X0_itemOf sh g gl r12 a2 a3) (fun ec19 => if ec19 = 12 then (some (.inl (-11)))
  else (if ec19 = 1 then (some (.inl (-13)))
  else (if ec19 = 11 then (some (.inl (-12)))
  else (none)))) fun r18 =>
  some (.inl r18)))
def f_X0_isShelf  (a0 : Int32) : Option Int32 :=
  bd (f_X0_in a0 0 3) fun r2 =>
  grd (r2 = 0 ∨ r2 = 1) <|
  some r2
def j_X0_shelf_40 (g : GM) (gr : RM)  : Option (Int32 × GM × RM) :=
  some ((-1), g, gr)
def j_X0_shelf_94 (gr : RM) (g15 : GM) (j17 : Nat) (x18 : Option Nat) : Option (Int32 × GM × RM) :=
  bd (puR gr (124 + j17) 2 x18) fun gr20 =>
  some (1, g15, gr20)
def j_X0_shelf_67 (sh : SM) (gr : RM) (a1 : Int32) (a2 : Int32) (a3 : Int32) (g10 : GM) (j12 : Nat) (x13 : Int32) : Option (Int32 × GM × RM) :=
  bd (puI g10 (124 + j12) 1 x13) fun g15 =>
  bd (chk 4 a1) fun j17 =>
  if a2 = 1 then (bd (chk 4 a3) fun j23 =>
  bd (f_X10_row sh g15 gr (116 + j23)) fun r25 =>
  j_X0_shelf_94 gr g15 j17 r25)
  else (j_X0_shelf_94 gr g15 j17 none)
def j_X0_shelf_42 (sh : SM) (g : GM) (gr : RM) (a1 : Int32) (a2 : Int32) (a3 : Int32)  : Option (Int32 × GM × RM) :=
  bd (chk 4 a1) fun j8 =>
  bd (puI g (124 + j8) 0 a2) fun g10 =>
  bd (chk 4 a1) fun j12 =>
  if a2 = 0 then (j_X0_shelf_67 sh gr a1 a2 a3 g10 j12 a3)
  else (j_X0_shelf_67 sh gr a1 a2 a3 g10 j12 0)
def j_X0_shelf_28 (sh : SM) (g : GM) (gr : RM) (a1 : Int32) (a2 : Int32) (a3 : Int32)  : Option (Int32 × GM × RM) :=
  if a2 = 1 then (bd (f_X0_isSheet a3) fun r29 =>
  if r29 = 0 then (j_X0_shelf_40 g gr)
  else (j_X0_shelf_42 sh g gr a1 a2 a3))
  else (j_X0_shelf_42 sh g gr a1 a2 a3)
def f_X0_shelf (sh : SM) (g : GM) (gr : RM) (a1 : Int32) (a2 : Int32) (a3 : Int32) : Option (Int32 × GM × RM) :=
  bd (f_X0_isShelf a1) fun r2 =>
  if r2 = 0 then (j_X0_shelf_40 g gr)
  else (bd (f_X0_in a2 0 2) fun r5 =>
  if r5 = 0 then (j_X0_shelf_40 g gr)
  else (if a2 = 0 then (bd (f_X0_isCloth g a3) fun r33 =>
  if r33 = 0 then (j_X0_shelf_40 g gr)
  else (j_X0_shelf_28 sh g gr a1 a2 a3))
  else (j_X0_shelf_28 sh g gr a1 a2 a3)))
def f_X0_rowAs (sh : SM) (a0 : Nat) (a1 : Int32) : Option (Int32 ⊕ Nat) :=
  if a1 = 10 then (grd (isThing sh a0) <|
  if (sh a0).1 = 2 then (some (.inl (nI ((sh a0).2))))
  else (some (.inr 1)))
  else if a1 = 11 then (grd (isThing sh a0) <|
  if (sh a0).1 = 3 then (some (.inl (nI ((sh a0).2))))
  else (some (.inr 1)))
  else if a1 = 12 then (grd (isThing sh a0) <|
  if (sh a0).1 = 1 then (some (.inl (nI ((sh a0).2))))
  else (some (.inr 1)))
  else (grd (isThing sh a0) <|
  if (sh a0).1 = 4 then (some (.inl (nI ((sh a0).2))))
  else (some (.inr 1)))
def j_X0_ran_19  (g1 : GM) : Option GM :=
  bd (puI g1 64 16 ((g1 64 16) + 1)) fun g3 =>
  some g3
def f_X0_ran (g : GM) (a1 : Int32) : Option GM :=
  if 30 ≤ (g 64 16) then (j_X0_ran_19 g)
  else (bd (stI g 122 30 (g 64 16) a1) fun g6 =>
  j_X0_ran_19 g6)
def j_X0_trace_28  (x1 : Int32) : Option Int32 :=
  some x1
def j_X0_trace_26   : Option Int32 :=
  j_X0_trace_28 (-3)
def f_X0_trace (g : GM) (a1 : Int32) : Option Int32 :=
  if a1 < 0 then (j_X0_trace_26)
  else (if (imin (g 64 16) 30) ≤ a1 then (j_X0_trace_26)
  else (bd (ldI g 122 30 a1) fun v5 =>
  j_X0_trace_28 v5))
def f_X0_many (g : GM) (a1 : Int32) : Option Int32 :=
  if a1 = 0 then (some (g 65 0))
  else if a1 = 1 then (bd (f_X0_ones (g 65 2)) fun r4 =>
  some r4)
  else if a1 = 2 then (bd (f_X1_aboutAny g 65) fun r7 =>
  bd (f_X0_ones r7) fun r9 =>
  some r9)
  else if a1 = 3 then (bd (f_X1_purposes g 65) fun r12 =>
  bd (f_X0_ones r12) fun r14 =>
  some r14)
  else if a1 = 4 then (some (g 64 10))
  else if a1 = 5 then (some (g 64 7))
  else if a1 = 6 then (some (imin (g 64 16) 30))
  else (some (-1))
def f_X0_keep (g : GM)  : Option (Int32 × GM) :=
  bd (f_X1_become g 74 65) fun g2 =>
  bd (puI g2 64 4 1) fun g4 =>
  some (1, g4)
def f_X0_again (g : GM)  : Option (Int32 × GM) :=
  if (g 64 4) = 0 then (some ((-3), g))
  else (bd (f_X1_become g 65 74) fun g3 =>
  some ((g3 65 0), g3))
