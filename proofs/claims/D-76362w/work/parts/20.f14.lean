/-! what the twin computes -/
def b_X14_anew_89 (v2 : Int32) (k89 : Int32 → GM → Option GM) (x12 : Int32) (g13 : GM) : Option GM :=
  if 6 ≤ x12 then (bd (stI g13 131 69 5 v2) fun g16 =>
  some g16)
  else (bd (stI g13 131 69 (23 + x12) x12) fun g18 =>
  k89 (x12 + 1) g18)
def l_X14_anew_89 (v2 : Int32) : Nat → Int32 → GM → Option GM
  | 0, _, _ => none
  | k + 1, x12, g13 => b_X14_anew_89 v2 (l_X14_anew_89 v2 k) x12 g13
def b_X14_anew_55 (v2 : Int32) (k55 : Int32 → GM → Option GM) (x9 : Int32) (g10 : GM) : Option GM :=
  if 8 ≤ x9 then (l_X14_anew_89 v2 fuel 0 g10)
  else (bd (stI g10 131 69 (7 + x9) x9) fun g20 =>
  bd (stI g20 131 69 (15 + x9) 5) fun g22 =>
  k55 (x9 + 1) g22)
def l_X14_anew_55 (v2 : Int32) : Nat → Int32 → GM → Option GM
  | 0, _, _ => none
  | k + 1, x9, g10 => b_X14_anew_55 v2 (l_X14_anew_55 v2 k) x9 g10
def b_X14_anew_30 (v2 : Int32) (k30 : Int32 → GM → Option GM) (x6 : Int32) (g7 : GM) : Option GM :=
  if 4 ≤ x6 then (l_X14_anew_55 v2 fuel 0 g7)
  else (bd (ldI g7 130 4 x6) fun v24 =>
  bd (stI g7 131 69 x6 v24) fun g26 =>
  k30 (x6 + 1) g26)
def l_X14_anew_30 (v2 : Int32) : Nat → Int32 → GM → Option GM
  | 0, _, _ => none
  | k + 1, x6, g7 => b_X14_anew_30 v2 (l_X14_anew_30 v2 k) x6 g7
def b_X14_anew_9 (v2 : Int32) (k9 : Int32 → GM → Option GM) (x3 : Int32) (g4 : GM) : Option GM :=
  if 69 ≤ x3 then (l_X14_anew_30 v2 fuel 0 g4)
  else (bd (stI g4 131 69 x3 0) fun g28 =>
  k9 (x3 + 1) g28)
def l_X14_anew_9 (v2 : Int32) : Nat → Int32 → GM → Option GM
  | 0, _, _ => none
  | k + 1, x3, g4 => b_X14_anew_9 v2 (l_X14_anew_9 v2 k) x3 g4
def f_X14_anew (g : GM)  : Option GM :=
  bd (ldI g 131 69 5) fun v2 =>
  l_X14_anew_9 v2 fuel 0 g
def j_X14_in_18  (x1 : Int32) : Option Int32 :=
  grd (x1 = 0 ∨ x1 = 1) <|
  some x1
def j_X14_in_17   : Option Int32 :=
  j_X14_in_18 0
def f_X14_in  (a0 : Int64) (a2 : Int64) (a4 : Int64) : Option Int32 :=
  if (lg_cmp a0 a2) < 0 then (j_X14_in_17)
  else (if 0 < (lg_cmp a0 a4) then (j_X14_in_17)
  else (j_X14_in_18 1))
def f_X14_becomes (g : GM) (a1 : Int32) (a2 : Int32) : Option (Int32 × GM) :=
  bd (ldI g 131 69 a1) fun v2 =>
  bd (stI g 131 69 a1 a2) fun g4 =>
  some (v2, g4)
def j_X14_set_40  (x8 : Int32) (g9 : GM) : Option (Int32 × GM) :=
  some (x8, g9)
def f_X14_set (g : GM) (a1 : Int32) (a2 : Int32) : Option (Int32 × GM) :=
  bd (f_X14_in a1.toInt64 0 3) fun r2 =>
  if r2 = 0 then (some ((-1), g))
  else (bd (ldI g 129 4 a1) fun v5 =>
  bd (f_X14_in a2.toInt64 0 v5.toInt64) fun r7 =>
  if r7 = 0 then (j_X14_set_40 (-1) g)
  else (bd2 (f_X14_becomes g a1 a2) fun r12 g13 =>
  j_X14_set_40 r12 g13))
def j_X14_lawOf_22  (x3 : Int32) : Option Int32 :=
  some x3
def f_X14_lawOf (g : GM) (a1 : Int32) : Option Int32 :=
  bd (f_X14_in a1.toInt64 0 3) fun r2 =>
  if r2 = 0 then (j_X14_lawOf_22 (-1))
  else (bd (ldI g 131 69 a1) fun v6 =>
  j_X14_lawOf_22 v6)
def f_X14_isVat  (a0 : Int32) : Option Int32 :=
  bd (f_X14_in a0.toInt64 0 7) fun r2 =>
  grd (r2 = 0 ∨ r2 = 1) <|
  some r2
def j_X14_fill_47  (x3 : Int32) (g4 : GM) : Option (Int32 × GM) :=
  some (x3, g4)
def j_X14_fill_46 (g : GM)  : Option (Int32 × GM) :=
  j_X14_fill_47 (-1) g
def f_X14_fill (g : GM) (a1 : Int32) (a2 : Int32) (a3 : Int32) : Option (Int32 × GM) :=
  bd (f_X14_isVat a1) fun r2 =>
  if r2 = 0 then (j_X14_fill_46 g)
  else (bd (f_X14_in a2.toInt64 0 1) fun r7 =>
  if r7 = 0 then (j_X14_fill_46 g)
  else (bd (f_X14_in a3.toInt64 0 9) fun r10 =>
  if r10 = 0 then (j_X14_fill_46 g)
  else (bd2 (f_X14_becomes g ((7 + (8 * a2)) + a1) a3) fun r13 g14 =>
  j_X14_fill_47 r13 g14)))
def j_X14_vatOf_35  (x3 : Int32) : Option Int32 :=
  some x3
def j_X14_vatOf_34   : Option Int32 :=
  j_X14_vatOf_35 (-1)
def f_X14_vatOf (g : GM) (a1 : Int32) (a2 : Int32) : Option Int32 :=
  bd (f_X14_isVat a1) fun r2 =>
  if r2 = 0 then (j_X14_vatOf_34)
  else (bd (f_X14_in a2.toInt64 0 1) fun r6 =>
  if r6 = 0 then (j_X14_vatOf_34)
  else (bd (ldI g 131 69 ((7 + (8 * a2)) + a1)) fun v9 =>
  j_X14_vatOf_35 v9))
def f_X14_isRest  (a0 : Int32) : Option Int32 :=
  bd (f_X14_in a0.toInt64 0 5) fun r2 =>
  grd (r2 = 0 ∨ r2 = 1) <|
  some r2
def j_X14_roster_34  (x3 : Int32) (g4 : GM) : Option (Int32 × GM) :=
  some (x3, g4)
def j_X14_roster_33 (g : GM)  : Option (Int32 × GM) :=
  j_X14_roster_34 (-1) g
def j_X14_roster_19 (g : GM) (a1 : Int32) (a2 : Int32)  : Option (Int32 × GM) :=
  bd2 (f_X14_becomes g (23 + a1) a2) fun r7 g8 =>
  j_X14_roster_34 (1 + r7) g8
def f_X14_roster (g : GM) (a1 : Int32) (a2 : Int32) : Option (Int32 × GM) :=
  bd (f_X14_isRest a1) fun r2 =>
  if r2 = 0 then (j_X14_roster_33 g)
  else (if a2 = (-1) then (j_X14_roster_19 g a1 a2)
  else (bd (f_X14_isVat a2) fun r11 =>
  if r11 = 0 then (j_X14_roster_33 g)
  else (j_X14_roster_19 g a1 a2)))
def j_X14_rosterOf_22  (x3 : Int32) : Option Int32 :=
  some x3
def f_X14_rosterOf (g : GM) (a1 : Int32) : Option Int32 :=
  bd (f_X14_isRest a1) fun r2 =>
  if r2 = 0 then (j_X14_rosterOf_22 (-1))
  else (bd (ldI g 131 69 (23 + a1)) fun v6 =>
  j_X14_rosterOf_22 (1 + v6))
def f_X14_isKind  (a0 : Int32) : Option Int32 :=
  bd (f_X14_in a0.toInt64 0 5) fun r2 =>
  grd (r2 = 0 ∨ r2 = 1) <|
  some r2
def f_X14_sets (g : GM) (a1 : Int32) (a2 : Int32) (a3 : Int32) : Option GM :=
  bd (stI g 131 69 ((29 + (5 * a1)) + a2) a3) fun g2 =>
  some g2
def f_X14_adds (g : GM) (a1 : Int32) : Option GM :=
  bd (ldI g 131 69 6) fun v2 =>
  bd (ldI g 131 69 6) fun v4 =>
  bd (stI g 131 69 6 (v4 + 1)) fun g6 =>
  bd (f_X14_sets g6 v2 0 a1) fun g8 =>
  bd (f_X14_sets g8 v2 1 (-1)) fun g10 =>
  bd (f_X14_sets g10 v2 2 0) fun g12 =>
  bd (f_X14_sets g12 v2 3 0) fun g14 =>
  bd (f_X14_sets g14 v2 4 0) fun g16 =>
  some g16
def f_X14_cloth (g : GM) (a1 : Int32) : Option (Int32 × GM) :=
  bd (f_X14_isKind a1) fun r2 =>
  if r2 = 0 then (some ((-1), g))
  else (bd (ldI g 131 69 6) fun v5 =>
  if v5 = 8 then (some ((-2), g))
  else (bd (f_X14_adds g a1) fun g8 =>
  bd (ldI g8 131 69 6) fun v10 =>
  some (v10 - 1, g8)))
def f_X14_isCloth (g : GM) (a1 : Int32) : Option Int32 :=
  bd (ldI g 131 69 6) fun v2 =>
  bd (f_X14_in a1.toInt64 0 ((v2 - 1).toInt64)) fun r4 =>
  grd (r4 = 0 ∨ r4 = 1) <|
  some r4
def f_X14_its (g : GM) (a1 : Int32) (a2 : Int32) : Option Int32 :=
  bd (ldI g 131 69 ((29 + (5 * a1)) + a2)) fun v2 =>
  some v2
def j_X14_of_20   : Option Int32 :=
  some (-1)
def j_X14_of_44  (x7 : Int32) : Option Int32 :=
  some x7
def f_X14_of (g : GM) (a1 : Int32) (a2 : Int32) : Option Int32 :=
  bd (f_X14_isCloth g a1) fun r2 =>
  if r2 = 0 then (j_X14_of_20)
  else (bd (f_X14_in a2.toInt64 0 4) fun r5 =>
  if r5 = 0 then (j_X14_of_20)
  else (if a2 = 1 then (bd (f_X14_its g a1 1) fun r12 =>
  j_X14_of_44 (1 + r12))
  else (bd (f_X14_its g a1 a2) fun r10 =>
  j_X14_of_44 r10)))
def f_X14_takesOf (g : GM) (a1 : Int32) (a2 : Int32) : Option Int32 :=
  bd (ldI g 131 69 0) fun v2 =>
  bd (f_X14_its g a1 0) fun r4 =>
  if r4 = 1 then (some ((a2 + v2) + 3))
  else if r4 = 2 then (bd (ldI g 131 69 1) fun v8 =>
  some ((a2 + v2) - v8))
  else if r4 = 3 then (some (2 * ((a2 + v2) + 3)))
  else if r4 = 4 then (bd (ldI g 131 69 1) fun v12 =>
  bd (ldI g 131 69 2) fun v14 =>
  some (((a2 + v2) - v12) + v14))
  else if r4 = 5 then (some ((a2 + v2) / 2))
  else (some (a2 + v2))
def f_X14_fightsOf (g : GM) (a1 : Int32) (a2 : Int32) : Option Int32 :=
  bd (f_X14_its g a1 0) fun r2 =>
  if r2 = 1 then (bd (ldI g 131 69 2) fun v5 =>
  some (a2 - v5))
  else if r2 = 2 then (bd (ldI g 131 69 2) fun v8 =>
  some (a2 + v8))
  else if r2 = 3 then (bd (ldI g 131 69 2) fun v11 =>
  bd (ldI g 131 69 0) fun v13 =>
  some ((a2 - v11) + v13))
  else if r2 = 4 then (bd (ldI g 131 69 2) fun v16 =>
  some (2 * (a2 + v16)))
  else if r2 = 5 then (some (a2 + 1))
  else (some a2)
def f_X14_fadesOf (g : GM) (a1 : Int32) : Option Int32 :=
  bd (ldI g 131 69 1) fun v2 =>
  bd (f_X14_its g a1 0) fun r4 =>
  if r4 = 1 then (some (v2 - 1))
  else if r4 = 2 then (some (v2 + 1))
  else if r4 = 3 then (some 0)
  else if r4 = 4 then (some (2 * (v2 + 1)))
  else if r4 = 5 then (some (v2 + 3))
  else (some v2)
def j_X14_does_27   : Option Int32 :=
  some (-1)
def j_X14_does_77  (x12 : Int32) : Option Int32 :=
  some (1000 + x12)
def f_X14_does (g : GM) (a1 : Int32) (a2 : Int32) (a3 : Int32) : Option Int32 :=
  bd (f_X14_isCloth g a1) fun r2 =>
  if r2 = 0 then (j_X14_does_27)
  else (bd (f_X14_isVat a2) fun r5 =>
  if r5 = 0 then (j_X14_does_27)
  else (bd (f_X14_in a3.toInt64 0 2) fun r8 =>
  if r8 = 0 then (j_X14_does_27)
  else (bd (ldI g 131 69 (15 + a2)) fun v11 =>
  if a3 = 0 then (bd (f_X14_takesOf g a1 v11) fun r20 =>
  j_X14_does_77 r20)
  else (if a3 = 1 then (bd (f_X14_fightsOf g a1 v11) fun r18 =>
  j_X14_does_77 r18)
  else (bd (f_X14_fadesOf g a1) fun r16 =>
  j_X14_does_77 r16)))))
def f_X14_changed (g : GM) (a1 : Int32) (a2 : Int32) (a3 : Int32) : Option (Int32 × GM) :=
  bd2 (f_X14_becomes g ((29 + (5 * a1)) + a2) a3) fun r2 g3 =>
  some (r2, g3)
def j_X14_mind_26  (x3 : Int32) (g4 : GM) : Option (Int32 × GM) :=
  some (x3, g4)
def j_X14_mind_25 (g : GM)  : Option (Int32 × GM) :=
  j_X14_mind_26 (-1) g
def f_X14_mind (g : GM) (a1 : Int32) (a2 : Int32) : Option (Int32 × GM) :=
  bd (f_X14_isCloth g a1) fun r2 =>
  if r2 = 0 then (j_X14_mind_25 g)
  else (bd (f_X14_isKind a2) fun r7 =>
  if r7 = 0 then (j_X14_mind_25 g)
  else (bd2 (f_X14_changed g a1 0 a2) fun r10 g11 =>
  j_X14_mind_26 r10 g11))
def f_X14_isPurpose  (a0 : Int32) : Option Int32 :=
  bd (f_X14_in a0.toInt64 0 9) fun r2 =>
  grd (r2 = 0 ∨ r2 = 1) <|
  some r2
def j_X14_steep_56 (g : GM)  : Option (Int32 × GM) :=
  some ((-1), g)
def j_X14_steep_41 (g : GM) (a1 : Int32) (a2 : Int32) (a3 : Int32) (x1 : Int32) : Option (Int32 × GM) :=
  bd (f_X14_isCloth g a1) fun r3 =>
  if r3 = 0 then (j_X14_steep_56 g)
  else (if x1 = 0 then (j_X14_steep_56 g)
  else (bd (f_X14_sets g a1 2 a3) fun g7 =>
  bd2 (f_X14_changed g7 a1 1 a2) fun r9 g10 =>
  some (1 + r9, g10)))
def j_X14_steep_40 (g : GM) (a1 : Int32) (a2 : Int32) (a3 : Int32)  : Option (Int32 × GM) :=
  j_X14_steep_41 g a1 a2 a3 0
def f_X14_steep (g : GM) (a1 : Int32) (a2 : Int32) (a3 : Int32) : Option (Int32 × GM) :=
  if a2 = (-1) then (if a3 = 0 then (j_X14_steep_41 g a1 a2 a3 1)
  else (j_X14_steep_41 g a1 a2 a3 0))
  else (bd (f_X14_isPurpose a2) fun r13 =>
  if r13 = 0 then (j_X14_steep_40 g a1 a2 a3)
  else (bd (f_X14_in a3.toInt64 1 99) fun r16 =>
  if r16 = 0 then (j_X14_steep_40 g a1 a2 a3)
  else (j_X14_steep_41 g a1 a2 a3 1)))
def j_X14_hang_29  (x3 : Int32) (g4 : GM) : Option (Int32 × GM) :=
  some (x3, g4)
def j_X14_hang_28 (g : GM)  : Option (Int32 × GM) :=
  j_X14_hang_29 (-1) g
def f_X14_hang (g : GM) (a1 : Int32) (a2 : Int32) : Option (Int32 × GM) :=
  bd (f_X14_isCloth g a1) fun r2 =>
  if r2 = 0 then (j_X14_hang_28 g)
  else (bd (f_X14_in a2.toInt64 0 1) fun r7 =>
  if r7 = 0 then (j_X14_hang_28 g)
  else (bd2 (f_X14_changed g a1 3 a2) fun r10 g11 =>
  j_X14_hang_29 r10 g11))
def j_X14_isDeep_27  (g3 : GM) : Option GM :=
  some g3
def f_X14_isDeep (g : GM) (a1 : Int32) (a2 : Int32) : Option GM :=
  bd (f_X14_sets g a1 2 (imax 0 (imin 99 a2))) fun g2 =>
  if 0 < a2 then (j_X14_isDeep_27 g2)
  else (bd (f_X14_sets g2 a1 1 (-1)) fun g6 =>
  j_X14_isDeep_27 g6)
def j_X14_dips_108 (a1 : Int32) (a2 : Int32) (v4 : Int32) (g9 : GM) : Option GM :=
  bd (f_X14_its g9 a1 4) fun r11 =>
  bd (f_X14_sets g9 a1 4 (imin 9999 (r11 + 1))) fun g13 =>
  bd (stI g13 131 69 (15 + a2) (imax 0 (v4 - 1))) fun g15 =>
  some g15
def j_X14_dips_49 (g : GM) (a1 : Int32) (a2 : Int32) (v2 : Int32) (v4 : Int32) (r6 : Int32)  : Option GM :=
  bd (f_X14_sets g a1 1 v2) fun g17 =>
  bd (f_X14_takesOf g17 a1 v4) fun r19 =>
  bd (f_X14_isDeep g17 a1 (r6 + r19)) fun g21 =>
  j_X14_dips_108 a1 a2 v4 g21
def j_X14_dips_98 (a1 : Int32) (a2 : Int32) (v4 : Int32) (r6 : Int32) (r27 : Int32) (g28 : GM) : Option GM :=
  bd (f_X14_isDeep g28 a1 (iabs (r6 - r27))) fun g30 =>
  j_X14_dips_108 a1 a2 v4 g30
def f_X14_dips (g : GM) (a1 : Int32) (a2 : Int32) : Option GM :=
  bd (ldI g 131 69 (7 + a2)) fun v2 =>
  bd (ldI g 131 69 (15 + a2)) fun v4 =>
  bd (f_X14_its g a1 2) fun r6 =>
  bd (f_X14_its g a1 1) fun r8 =>
  if r8 = (-1) then (j_X14_dips_49 g a1 a2 v2 v4 r6)
  else (bd (f_X14_its g a1 1) fun r24 =>
  if r24 = v2 then (j_X14_dips_49 g a1 a2 v2 v4 r6)
  else (bd (f_X14_fightsOf g a1 v4) fun r27 =>
  if 0 ≤ (r6 - r27) then (j_X14_dips_98 a1 a2 v4 r6 r27 g)
  else (bd (f_X14_sets g a1 1 v2) fun g33 =>
  j_X14_dips_98 a1 a2 v4 r6 r27 g33)))
def j_X14_dip_15 (g : GM)  : Option (Int32 × GM) :=
  some ((-1), g)
def f_X14_dip (g : GM) (a1 : Int32) (a2 : Int32) : Option (Int32 × GM) :=
  bd (f_X14_isCloth g a1) fun r2 =>
  if r2 = 0 then (j_X14_dip_15 g)
  else (bd (f_X14_isVat a2) fun r5 =>
  if r5 = 0 then (j_X14_dip_15 g)
  else (bd (f_X14_dips g a1 a2) fun g8 =>
  bd (f_X14_its g8 a1 1) fun r10 =>
  some (1 + r10, g8)))
def b_X14_aDay_113  (k113 : Int32 → GM → Option GM) (x12 : Int32) (g13 : GM) : Option GM :=
  if 8 ≤ x12 then (bd (ldI g13 131 69 4) fun v16 =>
  bd (stI g13 131 69 4 (v16 + 1)) fun g18 =>
  some g18)
  else (bd (ldI g13 131 69 (15 + x12)) fun v20 =>
  bd (stI g13 131 69 (15 + x12) (imin 9 (v20 + 1))) fun g22 =>
  k113 (x12 + 1) g22)
def l_X14_aDay_113  : Nat → Int32 → GM → Option GM
  | 0, _, _ => none
  | k + 1, x12, g13 => b_X14_aDay_113  (l_X14_aDay_113  k) x12 g13
def j_X14_aDay_105 (x7 : Int32) (k58 : Int32 → GM → Option GM) (g25 : GM) : Option GM :=
  k58 (x7 + 1) g25
def b_X14_aDay_58  (k58 : Int32 → GM → Option GM) (x7 : Int32) (g8 : GM) : Option GM :=
  bd (ldI g8 131 69 6) fun v10 =>
  if v10 ≤ x7 then (l_X14_aDay_113 fuel 0 g8)
  else (bd (f_X14_its g8 x7 3) fun r24 =>
  if r24 = 1 then (bd (f_X14_its g8 x7 1) fun r28 =>
  if r28 < 0 then (j_X14_aDay_105 x7 k58 g8)
  else (bd (f_X14_its g8 x7 2) fun r31 =>
  bd (f_X14_fadesOf g8 x7) fun r33 =>
  bd (f_X14_isDeep g8 x7 (r31 - r33)) fun g35 =>
  j_X14_aDay_105 x7 k58 g35))
  else (j_X14_aDay_105 x7 k58 g8))
def l_X14_aDay_58  : Nat → Int32 → GM → Option GM
  | 0, _, _ => none
  | k + 1, x7, g8 => b_X14_aDay_58  (l_X14_aDay_58  k) x7 g8
def j_X14_aDay_56 (g6 : GM)  : Option GM :=
  l_X14_aDay_58 fuel 0 g6
def j_X14_aDay_50 (x5 : Int32) (k20 : Int32 → GM → Option GM) (g42 : GM) : Option GM :=
  k20 (x5 + 1) g42
def b_X14_aDay_20 (v4 : Int32) (k20 : Int32 → GM → Option GM) (x5 : Int32) (g6 : GM) : Option GM :=
  if v4 < 0 then (j_X14_aDay_56 g6)
  else (bd (ldI g6 131 69 6) fun v38 =>
  if v38 ≤ x5 then (j_X14_aDay_56 g6)
  else (bd (f_X14_its g6 x5 3) fun r41 =>
  if r41 = 0 then (bd (f_X14_dips g6 x5 v4) fun g45 =>
  j_X14_aDay_50 x5 k20 g45)
  else (j_X14_aDay_50 x5 k20 g6)))
def l_X14_aDay_20 (v4 : Int32) : Nat → Int32 → GM → Option GM
  | 0, _, _ => none
  | k + 1, x5, g6 => b_X14_aDay_20 v4 (l_X14_aDay_20 v4 k) x5 g6
def f_X14_aDay (g : GM)  : Option GM :=
  bd (ldI g 131 69 4) fun v2 =>
  bd (ldI g 131 69 (23 + (v2 - v2 / 6 * 6))) fun v4 =>
  l_X14_aDay_20 v4 fuel 0 g
def b_X14_goes_2 (a1 : Int32) (k2 : Int32 → GM → Option GM) (x1 : Int32) (g2 : GM) : Option GM :=
  if a1 ≤ x1 then (some g2)
  else (bd (f_X14_aDay g2) fun g5 =>
  k2 (x1 + 1) g5)
def l_X14_goes_2 (a1 : Int32) : Nat → Int32 → GM → Option GM
  | 0, _, _ => none
  | k + 1, x1, g2 => b_X14_goes_2 a1 (l_X14_goes_2 a1 k) x1 g2
def f_X14_goes (g : GM) (a1 : Int32) : Option GM :=
  l_X14_goes_2 a1 fuel 0 g
def b_X14_depths_4 (g : GM) (k4 : Int32 → Int32 → Option Int32) (x1 : Int32) (x2 : Int32) : Option Int32 :=
  bd (ldI g 131 69 6) fun v4 =>
  if v4 ≤ x2 then (some x1)
  else (bd (f_X14_its g x2 2) fun r7 =>
  k4 (x1 + r7) (x2 + 1))
def l_X14_depths_4 (g : GM) : Nat → Int32 → Int32 → Option Int32
  | 0, _, _ => none
  | k + 1, x1, x2 => b_X14_depths_4 g (l_X14_depths_4 g k) x1 x2
def f_X14_depths (g : GM)  : Option Int32 :=
  l_X14_depths_4 g fuel 0 0
def f_X14_days (g : GM) (a1 : Int32) : Option (Int32 × GM) :=
  bd (f_X14_in a1.toInt64 1 60) fun r2 =>
  if r2 = 0 then (some ((-1), g))
  else (bd (f_X14_goes g a1) fun g5 =>
  bd (f_X14_depths g5) fun r7 =>
  some (r7, g5))
def f_X14_seed (g : GM) (a1 : Int32) : Option (Int32 × GM) :=
  bd2 (f_X14_becomes g 5 a1) fun r2 g3 =>
  some (r2, g3)
def f_X14_draw (g : GM)  : Option (Int32 × GM) :=
  bd (ldI g 131 69 5) fun v2 =>
  bd (stI g 131 69 5 ((v2 * 1103515245) + 12345)) fun g4 =>
  bd (ldI g4 131 69 5) fun v6 =>
  some ((v6.toUInt32 >>> ((16 : Int32).toUInt32 &&& Int32.toUInt32 31)).toInt32, g4)
def j_X14_byDraws_51  (g3 : GM) : Option GM :=
  bd (f_X14_aDay g3) fun g5 =>
  some g5
def f_X14_byDraws (g : GM)  : Option GM :=
  bd (ldI g 131 69 6) fun v2 =>
  if v2 ≤ 0 then (j_X14_byDraws_51 g)
  else (bd2 (f_X14_draw g) fun r8 g9 =>
  bd (ldI g9 131 69 6) fun v11 =>
  grd (¬ v11 = 0) <|
  bd2 (f_X14_draw g9) fun r14 g15 =>
  bd (ldI g15 131 69 3) fun v17 =>
  if v17 ≤ (r14 - r14 / 100 * 100) then (j_X14_byDraws_51 g15)
  else (bd2 (f_X14_draw g15) fun r20 g21 =>
  bd (f_X14_dips g21 (r8 - r8 / v11 * v11) (r20 - r20 / 8 * 8)) fun g23 =>
  j_X14_byDraws_51 g23))
def f_X14_day (g : GM)  : Option (Int32 × GM) :=
  bd (f_X14_byDraws g) fun g2 =>
  bd (f_X14_depths g2) fun r4 =>
  some (r4, g2)
def b_X14_become_2 (a0 : Nat) (a1 : Nat) (k2 : Int32 → GM → Option GM) (x1 : Int32) (g2 : GM) : Option GM :=
  if 69 ≤ x1 then (some g2)
  else (bd (ldI g2 a0 69 x1) fun v5 =>
  bd (stI g2 a1 69 x1 v5) fun g7 =>
  k2 (x1 + 1) g7)
def l_X14_become_2 (a0 : Nat) (a1 : Nat) : Nat → Int32 → GM → Option GM
  | 0, _, _ => none
  | k + 1, x1, g2 => b_X14_become_2 a0 a1 (l_X14_become_2 a0 a1 k) x1 g2
def f_X14_become (g : GM) (a0 : Nat) (a1 : Nat) : Option GM :=
  l_X14_become_2 a0 a1 fuel 0 g
def f_X14_lends (g : GM)  : Option GM :=
  bd (f_X14_become g 131 133) fun g2 =>
  some g2
def f_X14_laysBack (g : GM)  : Option GM :=
  bd (f_X14_become g 133 131) fun g2 =>
  some g2
def j_X14_luck_83 (x15 : Int32) (x16 : Int32) (k44 : Int32 → Int32 → Int32 → GM → Option (Int32 × GM)) (g22 : GM) (v24 : Int32) (x27 : Int32) : Option (Int32 × GM) :=
  bd (f_X14_laysBack g22) fun g29 =>
  k44 v24 (x15 + x27) (x16 + 1) g29
def b_X14_luck_44 (a1 : Int32) (r9 : Int32) (k44 : Int32 → Int32 → Int32 → GM → Option (Int32 × GM)) (x14 : Int32) (x15 : Int32) (x16 : Int32) (g17 : GM) : Option (Int32 × GM) :=
  if a1 ≤ x16 then (some (x15, g17))
  else (bd (stI g17 131 69 5 x14) fun g20 =>
  bd (f_X14_byDraws g20) fun g22 =>
  bd (ldI g22 131 69 5) fun v24 =>
  bd (f_X14_depths g22) fun r26 =>
  if r26 ≤ r9 then (j_X14_luck_83 x15 x16 k44 g22 v24 0)
  else (j_X14_luck_83 x15 x16 k44 g22 v24 1))
def l_X14_luck_44 (a1 : Int32) (r9 : Int32) : Nat → Int32 → Int32 → Int32 → GM → Option (Int32 × GM)
  | 0, _, _, _, _ => none
  | k + 1, x14, x15, x16, g17 => b_X14_luck_44 a1 r9 (l_X14_luck_44 a1 r9 k) x14 x15 x16 g17
def f_X14_luck (g : GM) (a1 : Int32) : Option (Int32 × GM) :=
  bd (f_X14_in a1.toInt64 1 30) fun r2 =>
  if r2 = 0 then (some ((-1), g))
  else (bd (f_X14_lends g) fun g5 =>
  bd (f_X14_aDay g5) fun g7 =>
  bd (f_X14_depths g7) fun r9 =>
  bd (f_X14_laysBack g7) fun g11 =>
  bd (ldI g11 131 69 5) fun v13 =>
  l_X14_luck_44 a1 r9 fuel v13 0 0 g11)
def b_X14_hungSet_4 (g : GM) (k4 : Int32 → Int32 → Option Int32) (x1 : Int32) (x2 : Int32) : Option Int32 :=
  bd (ldI g 131 69 6) fun v4 =>
  if v4 ≤ x2 then (some x1)
  else (bd (f_X14_its g x2 3) fun r7 =>
  k4 (x1 ||| (r7 <<< (x2 &&& 31))) (x2 + 1))
def l_X14_hungSet_4 (g : GM) : Nat → Int32 → Int32 → Option Int32
  | 0, _, _ => none
  | k + 1, x1, x2 => b_X14_hungSet_4 g (l_X14_hungSet_4 g k) x1 x2
def f_X14_hungSet (g : GM)  : Option Int32 :=
  l_X14_hungSet_4 g fuel 0 0
def j_X14_aboutSet_32 (x1 : Int32) (x2 : Int32) (k4 : Int32 → Int32 → Option Int32) (x8 : Int32) : Option Int32 :=
  k4 (x1 ||| x8) (x2 + 1)
def b_X14_aboutSet_4 (g : GM) (k4 : Int32 → Int32 → Option Int32) (x1 : Int32) (x2 : Int32) : Option Int32 :=
  bd (ldI g 131 69 6) fun v4 =>
  if v4 ≤ x2 then (some x1)
  else (bd (f_X14_its g x2 1) fun r7 =>
  if r7 < 0 then (j_X14_aboutSet_32 x1 x2 k4 0)
  else (j_X14_aboutSet_32 x1 x2 k4 (1 <<< (x2 &&& 31))))
def l_X14_aboutSet_4 (g : GM) : Nat → Int32 → Int32 → Option Int32
  | 0, _, _ => none
  | k + 1, x1, x2 => b_X14_aboutSet_4 g (l_X14_aboutSet_4 g k) x1 x2
def f_X14_aboutSet (g : GM)  : Option Int32 :=
  l_X14_aboutSet_4 g fuel 0 0
def j_X14_isAtOdds_66  (x4 : Int32) : Option Int32 :=
  grd (x4 = 0 ∨ x4 = 1) <|
  some x4
def j_X14_isAtOdds_65   : Option Int32 :=
  j_X14_isAtOdds_66 0
def j_X14_isAtOdds_23 (g : GM) (a1 : Int32) (a2 : Int32) (x3 : Int32) : Option Int32 :=
  if x3 = 0 then (j_X14_isAtOdds_65)
  else (bd (f_X14_its g a1 1) fun r8 =>
  if r8 < 0 then (j_X14_isAtOdds_65)
  else (bd (f_X14_its g a2 1) fun r11 =>
  if r11 < 0 then (j_X14_isAtOdds_65)
  else (bd (f_X14_its g a1 1) fun r14 =>
  bd (f_X14_its g a2 1) fun r16 =>
  if r14 = r16 then (j_X14_isAtOdds_65)
  else (j_X14_isAtOdds_66 1))))
def j_X14_isAtOdds_22 (g : GM) (a1 : Int32) (a2 : Int32)  : Option Int32 :=
  j_X14_isAtOdds_23 g a1 a2 0
def f_X14_isAtOdds (g : GM) (a1 : Int32) (a2 : Int32) : Option Int32 :=
  bd (f_X14_its g a1 3) fun r2 =>
  if r2 = 0 then (bd (f_X14_its g a2 3) fun r20 =>
  if r20 = 0 then (j_X14_isAtOdds_23 g a1 a2 1)
  else (j_X14_isAtOdds_22 g a1 a2))
  else (j_X14_isAtOdds_22 g a1 a2)
def j_X14_oddsAmong_37 (x6 : Int32) (x7 : Int32) (k17 : Int32 → Int32 → Option Int32) (x11 : Int32) : Option Int32 :=
  k17 (x6 + x11) (x7 + 1)
def b_X14_oddsAmong_17 (g : GM) (x2 : Int32) (k4 : Int32 → Int32 → Option Int32) (k17 : Int32 → Int32 → Option Int32) (x6 : Int32) (x7 : Int32) : Option Int32 :=
  if x2 ≤ x7 then (k4 x6 (x2 + 1))
  else (bd (f_X14_isAtOdds g x2 x7) fun r10 =>
  if r10 = 0 then (j_X14_oddsAmong_37 x6 x7 k17 0)
  else (j_X14_oddsAmong_37 x6 x7 k17 1))
def l_X14_oddsAmong_17 (g : GM) (x2 : Int32) (k4 : Int32 → Int32 → Option Int32) : Nat → Int32 → Int32 → Option Int32
  | 0, _, _ => none
  | k + 1, x6, x7 => b_X14_oddsAmong_17 g x2 k4 (l_X14_oddsAmong_17 g x2 k4 k) x6 x7
def b_X14_oddsAmong_4 (g : GM) (k4 : Int32 → Int32 → Option Int32) (x1 : Int32) (x2 : Int32) : Option Int32 :=
  bd (ldI g 131 69 6) fun v4 =>
  if v4 ≤ x2 then (some x1)
  else (l_X14_oddsAmong_17 g x2 k4 fuel x1 0)
def l_X14_oddsAmong_4 (g : GM) : Nat → Int32 → Int32 → Option Int32
  | 0, _, _ => none
  | k + 1, x1, x2 => b_X14_oddsAmong_4 g (l_X14_oddsAmong_4 g k) x1 x2
def f_X14_oddsAmong (g : GM)  : Option Int32 :=
  l_X14_oddsAmong_4 g fuel 0 0
def f_X14_state (g : GM) (a1 : Int32) : Option Int32 :=
  if a1 = 0 then (bd (ldI g 131 69 4) fun v3 =>
  some v3)
  else if a1 = 1 then (bd (ldI g 131 69 4) fun v6 =>
  bd (ldI g 131 69 (23 + (v6 - v6 / 6 * 6))) fun v8 =>
  some (1 + v8))
  else if a1 = 2 then (bd (f_X14_hungSet g) fun r11 =>
  some r11)
  else if a1 = 3 then (bd (f_X14_aboutSet g) fun r14 =>
  some r14)
  else if a1 = 4 then (bd (f_X14_depths g) fun r17 =>
  some r17)
  else if a1 = 5 then (bd (f_X14_oddsAmong g) fun r20 =>
  some r20)
  else (some (-1))
def f_X14_isAhead  (a0 : Int32) : Option Int32 :=
  bd (f_X14_in a0.toInt64 0 60) fun r2 =>
  grd (r2 = 0 ∨ r2 = 1) <|
  some r2
def f_X14_behind (g : GM) (a1 : Int32) (a2 : Int32) (a3 : Int32) : Option (Int32 × GM) :=
  bd (f_X14_goes g a3) fun g2 =>
  bd (f_X14_its g2 a1 a2) fun r4 =>
  bd (f_X14_laysBack g2) fun g6 =>
  some (r4, g6)
def j_X14_gone_15 (g : GM)  : Option (Int32 × GM) :=
  some ((-1), g)
def f_X14_gone (g : GM) (a1 : Int32) (a2 : Int32) : Option (Int32 × GM) :=
  bd (f_X14_isCloth g a1) fun r2 =>
  if r2 = 0 then (j_X14_gone_15 g)
  else (bd (f_X14_isAhead a2) fun r5 =>
  if r5 = 0 then (j_X14_gone_15 g)
  else (bd (f_X14_lends g) fun g8 =>
  bd2 (f_X14_behind g8 a1 1 a2) fun r10 g11 =>
  some (1 + r10, g11)))
def j_X14_depth_15 (g : GM)  : Option (Int32 × GM) :=
  some ((-1), g)
def f_X14_depth (g : GM) (a1 : Int32) (a2 : Int32) : Option (Int32 × GM) :=
  bd (f_X14_isCloth g a1) fun r2 =>
  if r2 = 0 then (j_X14_depth_15 g)
  else (bd (f_X14_isAhead a2) fun r5 =>
  if r5 = 0 then (j_X14_depth_15 g)
  else (bd (f_X14_lends g) fun g8 =>
  bd2 (f_X14_behind g8 a1 2 a2) fun r10 g11 =>
  some (r10, g11)))
def j_X14_firstAbout_48 (g6 : GM) (x7 : Int32) : Option (Int32 × GM) :=
  some (x7, g6)
def j_X14_firstAbout_32 (x3 : Int32) (g4 : GM)  : Option (Int32 × GM) :=
  bd (f_X14_laysBack g4) fun g6 =>
  if 60 < x3 then (j_X14_firstAbout_48 g6 (-3))
  else (j_X14_firstAbout_48 g6 x3)
def b_X14_firstAbout_6 (a1 : Int32) (a2 : Int32) (k6 : Int32 → GM → Option (Int32 × GM)) (x3 : Int32) (g4 : GM) : Option (Int32 × GM) :=
  if 60 < x3 then (j_X14_firstAbout_32 x3 g4)
  else (bd (f_X14_its g4 a1 1) fun r11 =>
  if r11 = a2 then (j_X14_firstAbout_32 x3 g4)
  else (bd (f_X14_aDay g4) fun g14 =>
  k6 (x3 + 1) g14))
def l_X14_firstAbout_6 (a1 : Int32) (a2 : Int32) : Nat → Int32 → GM → Option (Int32 × GM)
  | 0, _, _ => none
  | k + 1, x3, g4 => b_X14_firstAbout_6 a1 a2 (l_X14_firstAbout_6 a1 a2 k) x3 g4
def f_X14_firstAbout (g : GM) (a1 : Int32) (a2 : Int32) : Option (Int32 × GM) :=
  bd (f_X14_lends g) fun g2 =>
  l_X14_firstAbout_6 a1 a2 fuel 0 g2
def j_X14_comes_25  (x3 : Int32) (g4 : GM) : Option (Int32 × GM) :=
  some (x3, g4)
def j_X14_comes_24 (g : GM)  : Option (Int32 × GM) :=
  j_X14_comes_25 (-1) g
def f_X14_comes (g : GM) (a1 : Int32) (a2 : Int32) : Option (Int32 × GM) :=
  bd (f_X14_isCloth g a1) fun r2 =>
  if r2 = 0 then (j_X14_comes_24 g)
  else (bd (f_X14_isPurpose a2) fun r7 =>
  if r7 = 0 then (j_X14_comes_24 g)
  else (bd2 (f_X14_firstAbout g a1 a2) fun r10 g11 =>
  j_X14_comes_25 r10 g11))
def j_X14_bare_18  (x3 : Int32) (g4 : GM) : Option (Int32 × GM) :=
  some (x3, g4)
def f_X14_bare (g : GM) (a1 : Int32) : Option (Int32 × GM) :=
  bd (f_X14_isCloth g a1) fun r2 =>
  if r2 = 0 then (j_X14_bare_18 (-1) g)
  else (bd2 (f_X14_firstAbout g a1 (-1)) fun r7 g8 =>
  j_X14_bare_18 r7 g8)
def j_X14_spoiltIn_48 (x3 : Int32) (x4 : Int32) (k9 : Int32 → Int32 → Option (Int32 × GM)) (x14 : Int32) : Option (Int32 × GM) :=
  k9 (x3 + x14) (x4 + 1)
def b_X14_spoiltIn_9 (g2 : GM) (k9 : Int32 → Int32 → Option (Int32 × GM)) (x3 : Int32) (x4 : Int32) : Option (Int32 × GM) :=
  bd (ldI g2 131 69 6) fun v6 =>
  if v6 ≤ x4 then (bd (f_X14_laysBack g2) fun g9 =>
  some (x3, g9))
  else (bd (f_X14_its g2 x4 1) fun r11 =>
  bd (ldI g2 133 69 ((29 + (5 * x4)) + 1)) fun v13 =>
  if r11 = v13 then (j_X14_spoiltIn_48 x3 x4 k9 0)
  else (j_X14_spoiltIn_48 x3 x4 k9 1))
def l_X14_spoiltIn_9 (g2 : GM) : Nat → Int32 → Int32 → Option (Int32 × GM)
  | 0, _, _ => none
  | k + 1, x3, x4 => b_X14_spoiltIn_9 g2 (l_X14_spoiltIn_9 g2 k) x3 x4
def f_X14_spoiltIn (g : GM) (a1 : Int32) : Option (Int32 × GM) :=
  bd (f_X14_goes g a1) fun g2 =>
  l_X14_spoiltIn_9 g2 fuel 0 0
def f_X14_spoilt (g : GM) (a1 : Int32) : Option (Int32 × GM) :=
  bd (f_X14_isAhead a1) fun r2 =>
  if r2 = 0 then (some ((-1), g))
  else (bd (f_X14_lends g) fun g5 =>
  bd2 (f_X14_spoiltIn g5 a1) fun r7 g8 =>
  some (r7, g8))
def j_X14_isThrough_46 (g2 : GM) (x6 : Int32) : Option (Int32 × GM) :=
  bd (f_X14_laysBack g2) fun g8 =>
  grd (x6 = 0 ∨ x6 = 1) <|
  some (x6, g8)
def b_X14_isThrough_5 (a1 : Int32) (a2 : Int32) (a4 : Int32) (k5 : Int32 → GM → Option (Int32 × GM)) (x1 : Int32) (g2 : GM) : Option (Int32 × GM) :=
  if x1 < 0 then (bd (f_X14_its g2 a1 1) fun r5 =>
  if r5 = a2 then (j_X14_isThrough_46 g2 1)
  else (j_X14_isThrough_46 g2 0))
  else (bd (f_X14_dips g2 a1 ((a4 >>> ((3 * x1) &&& 31)) &&& 7)) fun g12 =>
  k5 (x1 + (-1)) g12)
def l_X14_isThrough_5 (a1 : Int32) (a2 : Int32) (a4 : Int32) : Nat → Int32 → GM → Option (Int32 × GM)
  | 0, _, _ => none
  | k + 1, x1, g2 => b_X14_isThrough_5 a1 a2 a4 (l_X14_isThrough_5 a1 a2 a4 k) x1 g2
def f_X14_isThrough (g : GM) (a1 : Int32) (a2 : Int32) (a3 : Int32) (a4 : Int32) : Option (Int32 × GM) :=
  l_X14_isThrough_5 a1 a2 a4 fuel (a3 - 1) g
def j_X14_through_15 (g : GM)  : Option (Int32 × GM) :=
  some ((-1), g)
def b_X14_through_31 (a1 : Int32) (a2 : Int32) (x9 : Int32) (k23 : Int32 → GM → Option (Int32 × GM)) (k31 : Int32 → GM → Option (Int32 × GM)) (x12 : Int32) (g13 : GM) : Option (Int32 × GM) :=
  if (1 <<< ((3 * x9) &&& 31)) ≤ x12 then (k23 (x9 + 1) g13)
  else (bd2 (f_X14_isThrough g13 a1 a2 x9 x12) fun r16 g17 =>
  if r16 = 0 then (k31 (x12 + 1) g17)
  else (some ((1 <<< ((3 * x9) &&& 31)) + x12, g17)))
def l_X14_through_31 (a1 : Int32) (a2 : Int32) (x9 : Int32) (k23 : Int32 → GM → Option (Int32 × GM)) : Nat → Int32 → GM → Option (Int32 × GM)
  | 0, _, _ => none
  | k + 1, x12, g13 => b_X14_through_31 a1 a2 x9 k23 (l_X14_through_31 a1 a2 x9 k23 k) x12 g13
def b_X14_through_23 (a1 : Int32) (a2 : Int32) (k23 : Int32 → GM → Option (Int32 × GM)) (x9 : Int32) (g10 : GM) : Option (Int32 × GM) :=
  if 3 < x9 then (some ((-3), g10))
  else (l_X14_through_31 a1 a2 x9 k23 fuel 0 g10)
def l_X14_through_23 (a1 : Int32) (a2 : Int32) : Nat → Int32 → GM → Option (Int32 × GM)
  | 0, _, _ => none
  | k + 1, x9, g10 => b_X14_through_23 a1 a2 (l_X14_through_23 a1 a2 k) x9 g10
def f_X14_through (g : GM) (a1 : Int32) (a2 : Int32) : Option (Int32 × GM) :=
  bd (f_X14_isCloth g a1) fun r2 =>
  if r2 = 0 then (j_X14_through_15 g)
  else (bd (f_X14_isPurpose a2) fun r5 =>
  if r5 = 0 then (j_X14_through_15 g)
  else (bd (f_X14_lends g) fun g8 =>
  l_X14_through_23 a1 a2 fuel 0 g8))
def f_X14_isSoon  (a0 : Int32) : Option Int32 :=
  bd (f_X14_in a0.toInt64 1 40) fun r2 =>
  grd (r2 = 0 ∨ r2 = 1) <|
  some r2
def j_X14_vatFor_14 (g : GM)  : Option (Int32 × GM) :=
  some ((-1), g)
def j_X14_vatFor_74 (x8 : Int32) (x9 : Int32) (k24 : Int32 → Int32 → Int32 → GM → Option (Int32 × GM)) (r19 : Int32) (g21 : GM) (x22 : Int32) : Option (Int32 × GM) :=
  k24 x22 (imax x8 r19) (x9 + 1) g21
def b_X14_vatFor_24 (a1 : Int32) (a2 : Int32) (k24 : Int32 → Int32 → Int32 → GM → Option (Int32 × GM)) (x7 : Int32) (x8 : Int32) (x9 : Int32) (g10 : GM) : Option (Int32 × GM) :=
  if 8 ≤ x9 then (some (x7, g10))
  else (bd (f_X14_lends g10) fun g13 =>
  bd (stI g13 131 69 (23 + a1) x9) fun g15 =>
  bd (f_X14_goes g15 a2) fun g17 =>
  bd (f_X14_depths g17) fun r19 =>
  bd (f_X14_laysBack g17) fun g21 =>
  if r19 ≤ x8 then (j_X14_vatFor_74 x8 x9 k24 r19 g21 x7)
  else (j_X14_vatFor_74 x8 x9 k24 r19 g21 x9))
def l_X14_vatFor_24 (a1 : Int32) (a2 : Int32) : Nat → Int32 → Int32 → Int32 → GM → Option (Int32 × GM)
  | 0, _, _, _, _ => none
  | k + 1, x7, x8, x9, g10 => b_X14_vatFor_24 a1 a2 (l_X14_vatFor_24 a1 a2 k) x7 x8 x9 g10
def f_X14_vatFor (g : GM) (a1 : Int32) (a2 : Int32) : Option (Int32 × GM) :=
  bd (f_X14_isRest a1) fun r2 =>
  if r2 = 0 then (j_X14_vatFor_14 g)
  else (bd (f_X14_isSoon a2) fun r5 =>
  if r5 = 0 then (j_X14_vatFor_14 g)
  else (l_X14_vatFor_24 a1 a2 fuel (-1) (-1) 0 g))
def j_X14_kindFor_15 (g : GM)  : Option (Int32 × GM) :=
  some ((-1), g)
def j_X14_kindFor_65 (x8 : Int32) (x9 : Int32) (k25 : Int32 → Int32 → Int32 → GM → Option (Int32 × GM)) (r17 : Int32) (g18 : GM) (x19 : Int32) : Option (Int32 × GM) :=
  k25 x19 (imax x8 r17) (x9 + 1) g18
def b_X14_kindFor_25 (a1 : Int32) (a2 : Int32) (k25 : Int32 → Int32 → Int32 → GM → Option (Int32 × GM)) (x7 : Int32) (x8 : Int32) (x9 : Int32) (g10 : GM) : Option (Int32 × GM) :=
  if 5 < x9 then (some (x7, g10))
  else (bd (f_X14_lends g10) fun g13 =>
  bd (f_X14_sets g13 a1 0 x9) fun g15 =>
  bd2 (f_X14_behind g15 a1 2 a2) fun r17 g18 =>
  if r17 ≤ x8 then (j_X14_kindFor_65 x8 x9 k25 r17 g18 x7)
  else (j_X14_kindFor_65 x8 x9 k25 r17 g18 x9))
def l_X14_kindFor_25 (a1 : Int32) (a2 : Int32) : Nat → Int32 → Int32 → Int32 → GM → Option (Int32 × GM)
  | 0, _, _, _, _ => none
  | k + 1, x7, x8, x9, g10 => b_X14_kindFor_25 a1 a2 (l_X14_kindFor_25 a1 a2 k) x7 x8 x9 g10
def f_X14_kindFor (g : GM) (a1 : Int32) (a2 : Int32) : Option (Int32 × GM) :=
  bd (f_X14_isCloth g a1) fun r2 =>
  if r2 = 0 then (j_X14_kindFor_15 g)
  else (bd (f_X14_isSoon a2) fun r5 =>
  if r5 = 0 then (j_X14_kindFor_15 g)
  else (l_X14_kindFor_25 a1 a2 fuel (-1) (-1) 0 g))
def j_X14_strengthFor_30 (g : GM)  : Option (Int32 × GM) :=
  some ((-1), g)
def j_X14_strengthFor_79 (x14 : Int32) (k40 : Int32 → Int32 → GM → Option (Int32 × GM)) (g23 : GM) (x24 : Int32) : Option (Int32 × GM) :=
  k40 x24 (x14 + (-1)) g23
def b_X14_strengthFor_40 (a1 : Int32) (a2 : Int32) (a3 : Int32) (a4 : Int32) (k40 : Int32 → Int32 → GM → Option (Int32 × GM)) (x13 : Int32) (x14 : Int32) (g15 : GM) : Option (Int32 × GM) :=
  if x14 < 0 then (some (x13, g15))
  else (bd (f_X14_lends g15) fun g18 =>
  bd (stI g18 131 69 (15 + a1) x14) fun g20 =>
  bd2 (f_X14_behind g20 a2 1 a4) fun r22 g23 =>
  if r22 = a3 then (j_X14_strengthFor_79 x14 k40 g23 x14)
  else (j_X14_strengthFor_79 x14 k40 g23 x13))
def l_X14_strengthFor_40 (a1 : Int32) (a2 : Int32) (a3 : Int32) (a4 : Int32) : Nat → Int32 → Int32 → GM → Option (Int32 × GM)
  | 0, _, _, _ => none
  | k + 1, x13, x14, g15 => b_X14_strengthFor_40 a1 a2 a3 a4 (l_X14_strengthFor_40 a1 a2 a3 a4 k) x13 x14 g15
def f_X14_strengthFor (g : GM) (a1 : Int32) (a2 : Int32) (a3 : Int32) (a4 : Int32) : Option (Int32 × GM) :=
  bd (f_X14_isVat a1) fun r2 =>
  if r2 = 0 then (j_X14_strengthFor_30 g)
  else (bd (f_X14_isCloth g a2) fun r5 =>
  if r5 = 0 then (j_X14_strengthFor_30 g)
  else (bd (f_X14_isPurpose a3) fun r8 =>
  if r8 = 0 then (j_X14_strengthFor_30 g)
  else (bd (f_X14_isSoon a4) fun r11 =>
  if r11 = 0 then (j_X14_strengthFor_30 g)
  else (l_X14_strengthFor_40 a1 a2 a3 a4 fuel (-3) 9 g))))
def b_X14_ones_4 (a0 : Int32) (k4 : Int32 → Int32 → Option Int32) (x1 : Int32) (x2 : Int32) : Option Int32 :=
  if 8 ≤ x2 then (some x1)
  else (k4 (x1 + ((a0 >>> (x2 &&& 31)) &&& 1)) (x2 + 1))
def l_X14_ones_4 (a0 : Int32) : Nat → Int32 → Int32 → Option Int32
  | 0, _, _ => none
  | k + 1, x1, x2 => b_X14_ones_4 a0 (l_X14_ones_4 a0 k) x1 x2
def f_X14_ones  (a0 : Int32) : Option Int32 :=
  l_X14_ones_4 a0 fuel 0 0
def b_X14_hangs_2 (a1 : Int32) (k2 : Int32 → GM → Option GM) (x1 : Int32) (g2 : GM) : Option GM :=
  bd (ldI g2 131 69 6) fun v4 =>
  if v4 ≤ x1 then (some g2)
  else (bd (f_X14_sets g2 x1 3 ((a1 >>> (x1 &&& 31)) &&& 1)) fun g7 =>
  k2 (x1 + 1) g7)
def l_X14_hangs_2 (a1 : Int32) : Nat → Int32 → GM → Option GM
  | 0, _, _ => none
  | k + 1, x1, g2 => b_X14_hangs_2 a1 (l_X14_hangs_2 a1 k) x1 g2
def f_X14_hangs (g : GM) (a1 : Int32) : Option GM :=
  l_X14_hangs_2 a1 fuel 0 g
def j_X14_hangFor_24 (g : GM)  : Option (Int32 × GM) :=
  some ((-1), g)
def j_X14_hangFor_88 (x8 : Int32) (k32 : Int32 → Int32 → GM → Option (Int32 × GM)) (x13 : Int32) (g14 : GM) : Option (Int32 × GM) :=
  k32 x13 (x8 + 1) g14
def j_X14_hangFor_87 (x8 : Int32) (k32 : Int32 → Int32 → GM → Option (Int32 × GM)) (g21 : GM) (x22 : Int32) : Option (Int32 × GM) :=
  j_X14_hangFor_88 x8 k32 x22 g21
def j_X14_hangFor_62 (a1 : Int32) (a2 : Int32) (x7 : Int32) (x8 : Int32) (g9 : GM) (k32 : Int32 → Int32 → GM → Option (Int32 × GM))  : Option (Int32 × GM) :=
  bd (f_X14_lends g9) fun g16 =>
  bd (f_X14_hangs g16 x8) fun g18 =>
  bd2 (f_X14_spoiltIn g18 a1) fun r20 g21 =>
  if a2 < r20 then (j_X14_hangFor_87 x8 k32 g21 x7)
  else (j_X14_hangFor_87 x8 k32 g21 x8)
def b_X14_hangFor_32 (a1 : Int32) (a2 : Int32) (k32 : Int32 → Int32 → GM → Option (Int32 × GM)) (x7 : Int32) (x8 : Int32) (g9 : GM) : Option (Int32 × GM) :=
  bd (ldI g9 131 69 6) fun v11 =>
  if (1 <<< (v11 &&& 31)) ≤ x8 then (some (x7, g9))
  else (if x7 < 0 then (j_X14_hangFor_62 a1 a2 x7 x8 g9 k32)
  else (bd (f_X14_ones x8) fun r26 =>
  bd (f_X14_ones x7) fun r28 =>
  if r28 ≤ r26 then (j_X14_hangFor_88 x8 k32 x7 g9)
  else (j_X14_hangFor_62 a1 a2 x7 x8 g9 k32)))
def l_X14_hangFor_32 (a1 : Int32) (a2 : Int32) : Nat → Int32 → Int32 → GM → Option (Int32 × GM)
  | 0, _, _, _ => none
  | k + 1, x7, x8, g9 => b_X14_hangFor_32 a1 a2 (l_X14_hangFor_32 a1 a2 k) x7 x8 g9
def f_X14_hangFor (g : GM) (a1 : Int32) (a2 : Int32) : Option (Int32 × GM) :=
  bd (f_X14_in a1.toInt64 1 30) fun r2 =>
  if r2 = 0 then (j_X14_hangFor_24 g)
  else (bd (f_X14_in a2.toInt64 0 8) fun r5 =>
  if r5 = 0 then (j_X14_hangFor_24 g)
  else (l_X14_hangFor_32 a1 a2 fuel (-3) 0 g))
def f_X14_isFour  (a0 : Int32) : Option Int32 :=
  bd (f_X14_in a0.toInt64 0 3) fun r2 =>
  grd (r2 = 0 ∨ r2 = 1) <|
  some r2
def j_X14_isSo_81 (x5 : Int32) (g7 : GM)  : Option (Int32 × GM) :=
  bd (f_X14_laysBack g7) fun g11 =>
  grd (x5 = 0 ∨ x5 = 1) <|
  some (x5, g11)
def j_X14_isSo_73 (x6 : Int32) (k17 : Int32 → Int32 → GM → Option (Int32 × GM)) (g16 : GM) (x19 : Int32) : Option (Int32 × GM) :=
  k17 x19 (x6 + 1) g16
def j_X14_isSo_68 (x6 : Int32) (k17 : Int32 → Int32 → GM → Option (Int32 × GM)) (g16 : GM)  : Option (Int32 × GM) :=
  j_X14_isSo_73 x6 k17 g16 1
def b_X14_isSo_17 (a1 : Int32) (a2 : Int32) (k17 : Int32 → Int32 → GM → Option (Int32 × GM)) (x5 : Int32) (x6 : Int32) (g7 : GM) : Option (Int32 × GM) :=
  bd (ldI g7 137 4 a1) fun v9 =>
  if v9 ≤ x6 then (j_X14_isSo_81 x5 g7)
  else (if x5 = 0 then (j_X14_isSo_81 x5 g7)
  else (bd (f_X14_aDay g7) fun g16 =>
  bd (ldI g16 138 160 ((40 * a1) + x6)) fun v18 =>
  if v18 = (-1) then (j_X14_isSo_68 x6 k17 g16)
  else (bd (f_X14_its g16 a2 2) fun r22 =>
  if v18 = r22 then (j_X14_isSo_68 x6 k17 g16)
  else (j_X14_isSo_73 x6 k17 g16 0))))
def l_X14_isSo_17 (a1 : Int32) (a2 : Int32) : Nat → Int32 → Int32 → GM → Option (Int32 × GM)
  | 0, _, _, _ => none
  | k + 1, x5, x6, g7 => b_X14_isSo_17 a1 a2 (l_X14_isSo_17 a1 a2 k) x5 x6 g7
def f_X14_isSo (g : GM) (a1 : Int32) (a2 : Int32) (a3 : Int32) : Option (Int32 × GM) :=
  bd (f_X14_lends g) fun g2 =>
  bd (f_X14_sets g2 a2 1 a3) fun g4 =>
  l_X14_isSo_17 a1 a2 fuel 1 0 g4
def j_X14_fits_25 (g : GM)  : Option (Int32 × GM) :=
  some ((-1), g)
def j_X14_fits_148 (g20 : GM) (x23 : Int32) : Option (Int32 × GM) :=
  some (x23, g20)
def j_X14_fits_129 (x17 : Int32) (x19 : Int32) (k75 : Int32 → Int32 → Int32 → GM → Option (Int32 × GM)) (g27 : GM) (x28 : Int32) (x29 : Int32) : Option (Int32 × GM) :=
  k75 (x17 + x28) x29 (x19 + (-1)) g27
def j_X14_fits_112 (x17 : Int32) (x18 : Int32) (x19 : Int32) (k75 : Int32 → Int32 → Int32 → GM → Option (Int32 × GM)) (r26 : Int32) (g27 : GM) (x28 : Int32) : Option (Int32 × GM) :=
  if r26 = 0 then (j_X14_fits_129 x17 x19 k75 g27 x28 x18)
  else (j_X14_fits_129 x17 x19 k75 g27 x28 (1 + x19))
def j_X14_fits_87 (a1 : Int32) (a2 : Int32) (a3 : Int32) (x17 : Int32) (x18 : Int32) (x19 : Int32) (g20 : GM) (k75 : Int32 → Int32 → Int32 → GM → Option (Int32 × GM)) (x21 : Int32) : Option (Int32 × GM) :=
  if x19 < x21 then (if a3 = 0 then (j_X14_fits_148 g20 x17)
  else (j_X14_fits_148 g20 x18))
  else (bd2 (f_X14_isSo g20 a1 a2 x19) fun r26 g27 =>
  if r26 = 0 then (j_X14_fits_112 x17 x18 x19 k75 r26 g27 0)
  else (j_X14_fits_112 x17 x18 x19 k75 r26 g27 1))
def b_X14_fits_75 (a1 : Int32) (a2 : Int32) (a3 : Int32) (x15 : Int32) (k75 : Int32 → Int32 → Int32 → GM → Option (Int32 × GM)) (x17 : Int32) (x18 : Int32) (x19 : Int32) (g20 : GM) : Option (Int32 × GM) :=
  if x15 = 0 then (j_X14_fits_87 a1 a2 a3 x17 x18 x19 g20 k75 0)
  else (j_X14_fits_87 a1 a2 a3 x17 x18 x19 g20 k75 (-1))
def l_X14_fits_75 (a1 : Int32) (a2 : Int32) (a3 : Int32) (x15 : Int32) : Nat → Int32 → Int32 → Int32 → GM → Option (Int32 × GM)
  | 0, _, _, _, _ => none
  | k + 1, x17, x18, x19, g20 => b_X14_fits_75 a1 a2 a3 x15 (l_X14_fits_75 a1 a2 a3 x15 k) x17 x18 x19 g20
def j_X14_fits_73 (g : GM) (a1 : Int32) (a2 : Int32) (a3 : Int32) (x15 : Int32) (x16 : Int32) : Option (Int32 × GM) :=
  l_X14_fits_75 a1 a2 a3 x15 fuel 0 (-3) x16 g
def j_X14_fits_53 (g : GM) (a1 : Int32) (a2 : Int32) (a3 : Int32) (x15 : Int32) : Option (Int32 × GM) :=
  if x15 = 0 then (j_X14_fits_73 g a1 a2 a3 x15 9)
  else (j_X14_fits_73 g a1 a2 a3 x15 (-1))
def f_X14_fits (g : GM) (a1 : Int32) (a2 : Int32) (a3 : Int32) : Option (Int32 × GM) :=
  bd (f_X14_isFour a1) fun r2 =>
  if r2 = 0 then (j_X14_fits_25 g)
  else (bd (f_X14_isCloth g a2) fun r5 =>
  if r5 = 0 then (j_X14_fits_25 g)
  else (bd (f_X14_in a3.toInt64 0 1) fun r8 =>
  if r8 = 0 then (j_X14_fits_25 g)
  else (bd (ldI g 136 4 a1) fun v11 =>
  if 0 ≤ v11 then (bd (f_X14_its g a2 2) fun r14 =>
  if r14 = 0 then (j_X14_fits_53 g a1 a2 a3 1)
  else (j_X14_fits_53 g a1 a2 a3 0))
  else (some ((-11), g)))))
def j_X14_lowest_41 (x1 : Int64) (x4 : Int64) : Option Int64 :=
  grd (¬ x1 = 0) <|
  some (x4 / x1)
def b_X14_lowest_6 (a0 : Int64) (a2 : Int64) (a4 : Int32) (k6 : Int64 → Int64 → Option Int64) (x1 : Int64) (x2 : Int64) : Option Int64 :=
  if (lg_cmp x2 0) = 0 then (if a4 = 0 then (j_X14_lowest_41 x1 a0)
  else (j_X14_lowest_41 x1 a2))
  else (grd (¬ x2 = 0) <|
  k6 x2 (x1 - x1 / x2 * x2))
def l_X14_lowest_6 (a0 : Int64) (a2 : Int64) (a4 : Int32) : Nat → Int64 → Int64 → Option Int64
  | 0, _, _ => none
  | k + 1, x1, x2 => b_X14_lowest_6 a0 a2 a4 (l_X14_lowest_6 a0 a2 a4 k) x1 x2
def f_X14_lowest  (a0 : Int64) (a2 : Int64) (a4 : Int32) : Option Int64 :=
  l_X14_lowest_6 a0 a2 a4 fuel a0 a2
def j_X14_odds_33   : Option Int64 :=
  some (-1)
def b_X14_odds_103 (a1 : Int32) (a2 : Int32) (a3 : Int32) (x10 : Int64) (x11 : Int64) (k103 : Int64 → Int32 → Option Int64) (x14 : Int64) (x15 : Int32) : Option Int64 :=
  if a2 ≤ x15 then (bd (f_X14_lowest (x10 * x14) x11 a3) fun r18 =>
  some r18)
  else (grd (¬ ((x15 + 1).toInt64) = 0) <|
  k103 ((x14 * ((a1 - x15).toInt64)) / ((x15 + 1).toInt64)) (x15 + 1))
def l_X14_odds_103 (a1 : Int32) (a2 : Int32) (a3 : Int32) (x10 : Int64) (x11 : Int64) : Nat → Int64 → Int32 → Option Int64
  | 0, _, _ => none
  | k + 1, x14, x15 => b_X14_odds_103 a1 a2 a3 x10 x11 (l_X14_odds_103 a1 a2 a3 x10 x11 k) x14 x15
def j_X14_odds_80 (x10 : Int64) (x11 : Int64) (x12 : Int32) (k46 : Int64 → Int64 → Int32 → Option Int64) (x20 : Int64) : Option Int64 :=
  k46 (x10 * x20) (x11 * 100) (x12 + 1)
def b_X14_odds_46 (g : GM) (a1 : Int32) (a2 : Int32) (a3 : Int32) (k46 : Int64 → Int64 → Int32 → Option Int64) (x10 : Int64) (x11 : Int64) (x12 : Int32) : Option Int64 :=
  if a1 ≤ x12 then (l_X14_odds_103 a1 a2 a3 x10 x11 fuel 1 0)
  else (if a2 ≤ x12 then (bd (ldI g 131 69 3) fun v23 =>
  j_X14_odds_80 x10 x11 x12 k46 ((100 - v23).toInt64))
  else (bd (ldI g 131 69 3) fun v25 =>
  j_X14_odds_80 x10 x11 x12 k46 v25.toInt64))
def l_X14_odds_46 (g : GM) (a1 : Int32) (a2 : Int32) (a3 : Int32) : Nat → Int64 → Int64 → Int32 → Option Int64
  | 0, _, _, _ => none
  | k + 1, x10, x11, x12 => b_X14_odds_46 g a1 a2 a3 (l_X14_odds_46 g a1 a2 a3 k) x10 x11 x12
def f_X14_odds (g : GM) (a1 : Int32) (a2 : Int32) (a3 : Int32) : Option Int64 :=
  bd (f_X14_in a1.toInt64 0 8) fun r2 =>
  if r2 = 0 then (j_X14_odds_33)
  else (bd (f_X14_in a2.toInt64 0 a1.toInt64) fun r5 =>
  if r5 = 0 then (j_X14_odds_33)
  else (bd (f_X14_in a3.toInt64 0 1) fun r8 =>
  if r8 = 0 then (j_X14_odds_33)
  else (l_X14_odds_46 g a1 a2 a3 fuel 1 1 0)))
def j_X14_hope_45  (x3 : Int64) : Option Int64 :=
  some x3
def j_X14_hope_42   : Option Int64 :=
  j_X14_hope_45 (-1)
def f_X14_hope (g : GM) (a1 : Int32) (a2 : Int32) : Option Int64 :=
  bd (f_X14_in a1.toInt64 0 99) fun r2 =>
  if r2 = 0 then (j_X14_hope_42)
  else (bd (f_X14_in a2.toInt64 0 1) fun r6 =>
  if r6 = 0 then (j_X14_hope_42)
  else (bd (ldI g 131 69 3) fun v9 =>
  bd (f_X14_lowest (a1.toInt64 * v9.toInt64) 100 a2) fun r11 =>
  j_X14_hope_45 r11))
def b_X14_feed_32 (a1 : Int64) (a3 : Int32) (k32 : Int32 → GM → Option (Int32 × GM)) (x5 : Int32) (g6 : GM) : Option (Int32 × GM) :=
  if a3 ≤ x5 then (some ((g6 128 7), g6))
  else (bd (stI g6 134 200 (g6 128 7) (((a1 >>> ((8 * x5).toInt64 &&& 63)) &&& 255).toInt32)) fun g9 =>
  bd (puI g9 128 7 ((g9 128 7) + 1)) fun g11 =>
  k32 (x5 + 1) g11)
def l_X14_feed_32 (a1 : Int64) (a3 : Int32) : Nat → Int32 → GM → Option (Int32 × GM)
  | 0, _, _ => none
  | k + 1, x5, g6 => b_X14_feed_32 a1 a3 (l_X14_feed_32 a1 a3 k) x5 g6
def f_X14_feed (g : GM) (a1 : Int64) (a3 : Int32) : Option (Int32 × GM) :=
  bd (f_X14_in a3.toInt64 1 8) fun r2 =>
  if r2 = 0 then (some ((-1), g))
  else (if ((g 128 7) + a3) ≤ 200 then (l_X14_feed_32 a1 a3 fuel 0 g)
  else (some ((-2), g)))
def j_X14_isByte_30  (x1 : Int32) : Option Int32 :=
  grd (x1 = 0 ∨ x1 = 1) <|
  some x1
def j_X14_isByte_29   : Option Int32 :=
  j_X14_isByte_30 0
def f_X14_isByte (g : GM) (a1 : Int32) (a2 : Int32) (a3 : Int32) : Option Int32 :=
  if (g 128 7) ≤ a1 then (j_X14_isByte_29)
  else (bd (ldI g 134 200 a1) fun v5 =>
  bd (f_X14_in v5.toInt64 a2.toInt64 a3.toInt64) fun r7 =>
  if r7 = 0 then (j_X14_isByte_29)
  else (j_X14_isByte_30 1))
def j_X14_next_108 (g13 : GM) (k70 : GM → Option GM)  : Option GM :=
  bd (puI g13 128 9 ((g13 128 9) + 1)) fun g15 =>
  k70 g15
def j_X14_next_150 (g13 : GM) (x16 : Int32) : Option GM :=
  bd (puI g13 128 9 ((g13 128 9) + x16)) fun g18 =>
  some g18
def j_X14_next_149 (g13 : GM)  : Option GM :=
  j_X14_next_150 g13 0
def j_X14_next_121 (r10 : Int32) (r12 : Int32) (g13 : GM)  : Option GM :=
  if r10 = 0 then (if r12 = 0 then (if (g13 128 7) ≤ (g13 128 8) then (j_X14_next_149 g13)
  else (j_X14_next_150 g13 1))
  else (j_X14_next_149 g13))
  else (j_X14_next_149 g13)
def j_X14_next_89 (r10 : Int32) (r12 : Int32) (g13 : GM) (k70 : GM → Option GM)  : Option GM :=
  if r12 = 0 then (j_X14_next_121 r10 r12 g13)
  else (bd (f_X14_isByte g13 (g13 128 9) 48 57) fun r24 =>
  if r24 = 0 then (j_X14_next_121 r10 r12 g13)
  else (j_X14_next_108 g13 k70))
def b_X14_next_70 (r10 : Int32) (r12 : Int32) (k70 : GM → Option GM) (g13 : GM) : Option GM :=
  if r10 = 0 then (j_X14_next_89 r10 r12 g13 k70)
  else (bd (f_X14_isByte g13 (g13 128 9) 97 122) fun r28 =>
  if r28 = 0 then (j_X14_next_89 r10 r12 g13 k70)
  else (j_X14_next_108 g13 k70))
def l_X14_next_70 (r10 : Int32) (r12 : Int32) : Nat → GM → Option GM
  | 0, _ => none
  | k + 1, g13 => b_X14_next_70 r10 r12 (l_X14_next_70 r10 r12 k) g13
def b_X14_next_8  (k8 : GM → Option GM) (g3 : GM) : Option GM :=
  bd (f_X14_isByte g3 (g3 128 8) 32 32) fun r5 =>
  if r5 = 0 then (bd (puI g3 128 9 (g3 128 8)) fun g8 =>
  bd (f_X14_isByte g8 (g8 128 8) 97 122) fun r10 =>
  bd (f_X14_isByte g8 (g8 128 8) 48 57) fun r12 =>
  l_X14_next_70 r10 r12 fuel g8)
  else (bd (puI g3 128 8 ((g3 128 8) + 1)) fun g31 =>
  k8 g31)
def l_X14_next_8  : Nat → GM → Option GM
  | 0, _ => none
  | k + 1, g3 => b_X14_next_8  (l_X14_next_8  k) g3
def f_X14_next (g : GM)  : Option GM :=
  bd (puI g 128 8 (g 128 9)) fun g2 =>
  l_X14_next_8 fuel g2
def j_X14_isWord_74 (x2 : Int32)  : Option Int32 :=
  grd (x2 = 0 ∨ x2 = 1) <|
  some x2
def j_X14_isWord_67 (x3 : Int32) (k31 : Int32 → Int32 → Option Int32) (x13 : Int32) : Option Int32 :=
  k31 x13 (x3 + 1)
def b_X14_isWord_31 (g : GM) (a1 : Nat) (k31 : Int32 → Int32 → Option Int32) (x2 : Int32) (x3 : Int32) : Option Int32 :=
  if x2 = 0 then (j_X14_isWord_74 x2)
  else (bd (f_J3_length a1) fun r7 =>
  if r7 ≤ x3 then (j_X14_isWord_74 x2)
  else (bd (ldI g 134 200 ((g 128 8) + x3)) fun v10 =>
  bd (f_J3_charAt a1 x3) fun r12 =>
  if v10 = r12 then (j_X14_isWord_67 x3 k31 1)
  else (j_X14_isWord_67 x3 k31 0)))
def l_X14_isWord_31 (g : GM) (a1 : Nat) : Nat → Int32 → Int32 → Option Int32
  | 0, _, _ => none
  | k + 1, x2, x3 => b_X14_isWord_31 g a1 (l_X14_isWord_31 g a1 k) x2 x3
def j_X14_isWord_28 (g : GM) (a1 : Nat) (x1 : Int32) : Option Int32 :=
  l_X14_isWord_31 g a1 fuel x1 0
def j_X14_isWord_27 (g : GM) (a1 : Nat)  : Option Int32 :=
  j_X14_isWord_28 g a1 0
def f_X14_isWord (g : GM) (a1 : Nat) : Option Int32 :=
  if (g 128 10) = 0 then (bd (f_J3_length a1) fun r17 =>
  if ((g 128 9) - (g 128 8)) = r17 then (j_X14_isWord_28 g a1 1)
  else (j_X14_isWord_27 g a1))
  else (j_X14_isWord_27 g a1)
def j_X14_kindHere_95  (x4 : Int32) : Option Int32 :=
  some x4
def j_X14_kindHere_43 (g : GM) (x3 : Int32) : Option Int32 :=
  if x3 < 0 then (bd (f_X14_isWord g 21) fun r7 =>
  if r7 = 0 then (bd (f_X14_isWord g 22) fun r10 =>
  if r10 = 0 then (bd (f_X14_isWord g 23) fun r13 =>
  if r13 = 0 then (j_X14_kindHere_95 (-1))
  else (j_X14_kindHere_95 5))
  else (j_X14_kindHere_95 4))
  else (j_X14_kindHere_95 3))
  else (j_X14_kindHere_95 x3)
def f_X14_kindHere (g : GM)  : Option Int32 :=
  bd (f_X14_isWord g 18) fun r2 =>
  if r2 = 0 then (bd (f_X14_isWord g 19) fun r17 =>
  if r17 = 0 then (bd (f_X14_isWord g 20) fun r20 =>
  if r20 = 0 then (j_X14_kindHere_43 g (-1))
  else (j_X14_kindHere_43 g 2))
  else (j_X14_kindHere_43 g 1))
  else (j_X14_kindHere_43 g 0)
def j_X14_lawHere_57  (x3 : Int32) : Option Int32 :=
  some x3
def f_X14_lawHere (g : GM)  : Option Int32 :=
  bd (f_X14_isWord g 27) fun r2 =>
  if r2 = 0 then (bd (f_X14_isWord g 28) fun r6 =>
  if r6 = 0 then (bd (f_X14_isWord g 29) fun r9 =>
  if r9 = 0 then (bd (f_X14_isWord g 30) fun r12 =>
  if r12 = 0 then (j_X14_lawHere_57 (-1))
  else (j_X14_lawHere_57 3))
  else (j_X14_lawHere_57 2))
  else (j_X14_lawHere_57 1))
  else (j_X14_lawHere_57 0)
def j_X14_must_31  (g5 : GM) : Option GM :=
  some g5
def j_X14_must_17 (g : GM) (x1 : Int32) : Option GM :=
  grd (x1 = 0 ∨ x1 = 1) <|
  bd (puI g 128 10 x1) fun g4 =>
  if (g4 128 10) = 0 then (bd (f_X14_next g4) fun g8 =>
  j_X14_must_31 g8)
  else (j_X14_must_31 g4)
def j_X14_must_12 (g : GM)  : Option GM :=
  j_X14_must_17 g 1
def f_X14_must (g : GM) (a1 : Int32) : Option GM :=
  if (g 128 10) = 0 then (if a1 = 0 then (j_X14_must_12 g)
  else (j_X14_must_17 g 0))
  else (j_X14_must_12 g)
def j_X14_takes_15 (r2 : Int32) (g3 : GM) : Option (Int32 × GM) :=
  grd (r2 = 0 ∨ r2 = 1) <|
  some (r2, g3)
def f_X14_takes (g : GM) (a1 : Nat) : Option (Int32 × GM) :=
  bd (f_X14_isWord g a1) fun r2 =>
  if r2 = 0 then (j_X14_takes_15 r2 g)
  else (bd (f_X14_must g 1) fun g7 =>
  j_X14_takes_15 r2 g7)
def j_X14_figures_72 (x4 : Int32)  : Option Int32 :=
  some x4
def b_X14_figures_39 (g : GM) (k39 : Int32 → Int32 → Option Int32) (x4 : Int32) (x5 : Int32) : Option Int32 :=
  if (g 128 9) ≤ x5 then (j_X14_figures_72 x4)
  else (if x4 < 0 then (j_X14_figures_72 x4)
  else (bd (ldI g 134 200 x5) fun v9 =>
  k39 (((10 * x4) + v9) - 48) (x5 + 1)))
def l_X14_figures_39 (g : GM) : Nat → Int32 → Int32 → Option Int32
  | 0, _, _ => none
  | k + 1, x4, x5 => b_X14_figures_39 g (l_X14_figures_39 g k) x4 x5
def j_X14_figures_33 (g : GM) (x3 : Int32) : Option Int32 :=
  l_X14_figures_39 g fuel x3 (g 128 8)
def j_X14_figures_32 (g : GM)  : Option Int32 :=
  j_X14_figures_33 g (-1)
def f_X14_figures (g : GM)  : Option Int32 :=
  bd (f_X14_isByte g (g 128 8) 48 57) fun r2 =>
  if r2 = 0 then (j_X14_figures_32 g)
  else (if 3 < ((g 128 9) - (g 128 8)) then (j_X14_figures_32 g)
  else (j_X14_figures_33 g 0))
def f_X14_number (g : GM) (a1 : Int32) (a2 : Int32) : Option (Int32 × GM) :=
  bd (f_X14_figures g) fun r2 =>
  bd (f_X14_in r2.toInt64 a1.toInt64 a2.toInt64) fun r4 =>
  bd (f_X14_must g r4) fun g6 =>
  some (r2, g6)
def j_X14_clothTold_141  (g16 : GM) : Option GM :=
  some g16
def j_X14_clothTold_81 (a1 : Int32) (x9 : Int32) (x10 : Int32) (g14 : GM) (x15 : Int32) : Option GM :=
  if (g14 128 10) = 0 then (bd (f_X14_adds g14 a1) fun g19 =>
  bd (ldI g19 131 69 6) fun v21 =>
  bd (f_X14_sets g19 (v21 - 1) 1 x9) fun g23 =>
  bd (ldI g23 131 69 6) fun v25 =>
  bd (f_X14_sets g23 (v25 - 1) 2 x10) fun g27 =>
  bd (ldI g27 131 69 6) fun v29 =>
  bd (f_X14_sets g27 (v29 - 1) 3 x15) fun g31 =>
  j_X14_clothTold_141 g31)
  else (j_X14_clothTold_141 g14)
def j_X14_clothTold_66 (a1 : Int32) (x9 : Int32) (x10 : Int32) (g11 : GM) : Option GM :=
  bd2 (f_X14_takes g11 26) fun r13 g14 =>
  if r13 = 0 then (j_X14_clothTold_81 a1 x9 x10 g14 0)
  else (j_X14_clothTold_81 a1 x9 x10 g14 1)
def j_X14_clothTold_65 (a1 : Int32) (r35 : Int32) (x40 : Int32) (g41 : GM) : Option GM :=
  j_X14_clothTold_66 a1 r35 x40 g41
def j_X14_clothTold_18 (g : GM) (a1 : Int32) (x3 : Int32) : Option GM :=
  bd (f_X14_must g x3) fun g5 =>
  bd2 (f_X14_takes g5 24) fun r7 g8 =>
  if r7 = 0 then (j_X14_clothTold_66 a1 (-1) 0 g8)
  else (bd2 (f_X14_number g8 0 9) fun r35 g36 =>
  bd2 (f_X14_takes g36 25) fun r38 g39 =>
  if r38 = 0 then (j_X14_clothTold_65 a1 r35 20 g39)
  else (bd2 (f_X14_number g39 1 99) fun r44 g45 =>
  j_X14_clothTold_65 a1 r35 r44 g45))
def f_X14_clothTold (g : GM) (a1 : Int32) : Option GM :=
  bd (ldI g 131 69 6) fun v2 =>
  if 8 ≤ v2 then (j_X14_clothTold_18 g a1 0)
  else (j_X14_clothTold_18 g a1 1)
def j_X14_twoTold_56  (g12 : GM) : Option GM :=
  some g12
def j_X14_twoTold_29 (a1 : Int32) (a4 : Int32) (r4 : Int32) (g8 : GM) : Option GM :=
  bd2 (f_X14_number g8 0 a4) fun r10 g11 =>
  if (g11 128 10) = 0 then (bd (stI g11 131 69 (a1 + r4) r10) fun g15 =>
  j_X14_twoTold_56 g15)
  else (j_X14_twoTold_56 g11)
def f_X14_twoTold (g : GM) (a1 : Int32) (a2 : Int32) (a3 : Nat) (a4 : Int32) : Option GM :=
  bd (f_X14_must g 1) fun g2 =>
  bd2 (f_X14_number g2 0 a2) fun r4 g5 =>
  bd (f_J3_length a3) fun r7 =>
  if r7 ≤ 0 then (j_X14_twoTold_29 a1 a4 r4 g5)
  else (bd (f_X14_isWord g5 a3) fun r18 =>
  bd (f_X14_must g5 r18) fun g20 =>
  j_X14_twoTold_29 a1 a4 r4 g20)
def j_X14_lawTold_26  (g6 : GM) : Option GM :=
  some g6
def f_X14_lawTold (g : GM) (a1 : Int32) : Option GM :=
  bd (ldI g 129 4 a1) fun v2 =>
  bd2 (f_X14_number g 0 v2) fun r4 g5 =>
  if (g5 128 10) = 0 then (bd (stI g5 131 69 a1 r4) fun g9 =>
  j_X14_lawTold_26 g9)
  else (j_X14_lawTold_26 g5)
def j_X14_item_121  (g5 : GM) : Option GM :=
  bd (f_X14_isWord g5 36) fun r7 =>
  bd (f_X14_must g5 r7) fun g9 =>
  some g9
def j_X14_item_109 (g : GM) (r4 : Int32) (x20 : Int32) : Option GM :=
  bd (f_X14_must g x20) fun g22 =>
  bd (f_X14_lawTold g22 (imax 0 r4)) fun g24 =>
  j_X14_item_121 g24
def f_X14_item (g : GM)  : Option GM :=
  bd (f_X14_kindHere g) fun r2 =>
  bd (f_X14_lawHere g) fun r4 =>
  if r2 < 0 then (bd (f_X14_isWord g 31) fun r12 =>
  if r12 = 0 then (bd (f_X14_isWord g 33) fun r15 =>
  if r15 = 0 then (bd (f_X14_isWord g 35) fun r18 =>
  if r18 = 0 then (if r4 < 0 then (j_X14_item_109 g r4 0)
  else (j_X14_item_109 g r4 1))
  else (bd (f_X14_twoTold g 23 5 31 7) fun g27 =>
  j_X14_item_121 g27))
  else (bd (f_X14_twoTold g 15 7 34 9) fun g29 =>
  j_X14_item_121 g29))
  else (bd (f_X14_twoTold g 7 7 32 9) fun g31 =>
  j_X14_item_121 g31))
  else (bd (f_X14_clothTold g r2) fun g33 =>
  j_X14_item_121 g33)
def j_X14_mill_47 (g11 : GM)  : Option (Int32 × GM) :=
  bd (puI g11 128 7 0) fun g13 =>
  if (g13 128 10) = 0 then (bd (puI g13 128 12 0) fun g16 =>
  bd (ldI g16 131 69 6) fun v18 =>
  some (v18, g16))
  else (bd (f_X14_laysBack g13) fun g20 =>
  some ((-100) - (g20 128 8), g20))
def b_X14_mill_22  (k22 : GM → Option (Int32 × GM)) (g11 : GM) : Option (Int32 × GM) :=
  if (g11 128 10) = 0 then (if (g11 128 7) ≤ (g11 128 8) then (j_X14_mill_47 g11)
  else (bd (f_X14_item g11) fun g24 =>
  k22 g24))
  else (j_X14_mill_47 g11)
def l_X14_mill_22  : Nat → GM → Option (Int32 × GM)
  | 0, _ => none
  | k + 1, g11 => b_X14_mill_22  (l_X14_mill_22  k) g11
def f_X14_mill (g : GM)  : Option (Int32 × GM) :=
  bd (f_X14_lends g) fun g2 =>
  bd (f_X14_anew g2) fun g4 =>
  bd (puI g4 128 10 0) fun g6 =>
  bd (puI g6 128 9 0) fun g8 =>
  bd (f_X14_next g8) fun g10 =>
  l_X14_mill_22 fuel g10
def j_X14_prove_20 (g : GM)  : Option (Int32 × GM) :=
  some ((-1), g)
def b_X14_prove_28 (a1 : Int32) (a2 : Int32) (k28 : Int32 → GM → Option (Int32 × GM)) (x9 : Int32) (g10 : GM) : Option (Int32 × GM) :=
  if a2 ≤ x9 then (bd (f_X14_laysBack g10) fun g13 =>
  bd (puI g13 128 12 a2) fun g15 =>
  some (a2, g15))
  else (bd (f_X14_goes g10 1) fun g17 =>
  bd (f_X14_its g17 a1 1) fun r19 =>
  bd (stI g17 135 30 (3 * x9) (1 + r19)) fun g21 =>
  bd (f_X14_its g21 a1 2) fun r23 =>
  bd (stI g21 135 30 ((3 * x9) + 1) r23) fun g25 =>
  bd (f_X14_depths g25) fun r27 =>
  bd (stI g25 135 30 ((3 * x9) + 2) r27) fun g29 =>
  k28 (x9 + 1) g29)
def l_X14_prove_28 (a1 : Int32) (a2 : Int32) : Nat → Int32 → GM → Option (Int32 × GM)
  | 0, _, _ => none
  | k + 1, x9, g10 => b_X14_prove_28 a1 a2 (l_X14_prove_28 a1 a2 k) x9 g10
def f_X14_prove (g : GM) (a1 : Int32) (a2 : Int32) : Option (Int32 × GM) :=
  bd (f_X14_isCloth g a1) fun r2 =>
  if r2 = 0 then (j_X14_prove_20 g)
  else (bd (f_X14_in a2.toInt64 1 10) fun r5 =>
  if r5 = 0 then (j_X14_prove_20 g)
  else (bd (f_X14_lends g) fun g8 =>
  l_X14_prove_28 a1 a2 fuel 0 g8))
def j_X14_isCell_33  (x3 : Int32) : Option Int32 :=
  grd (x3 = 0 ∨ x3 = 1) <|
  some x3
def j_X14_isCell_32   : Option Int32 :=
  j_X14_isCell_33 0
def f_X14_isCell (g : GM) (a1 : Int32) (a2 : Int32) : Option Int32 :=
  bd (f_X14_in a1.toInt64 0 (((g 128 12) - 1).toInt64)) fun r2 =>
  if r2 = 0 then (j_X14_isCell_32)
  else (bd (f_X14_in a2.toInt64 0 2) fun r7 =>
  if r7 = 0 then (j_X14_isCell_32)
  else (j_X14_isCell_33 1))
def j_X14_row_24  (x3 : Int32) : Option Int32 :=
  some x3
def f_X14_row (g : GM) (a1 : Int32) (a2 : Int32) : Option Int32 :=
  bd (f_X14_isCell g a1 a2) fun r2 =>
  if r2 = 0 then (j_X14_row_24 (-9))
  else (bd (ldI g 135 30 ((3 * a1) + a2)) fun v6 =>
  j_X14_row_24 v6)
def f_X14_alterRow (g : GM) (a1 : Int32) (a2 : Int32) (a3 : Int32) : Option (Int32 × GM) :=
  bd (f_X14_isCell g a1 a2) fun r2 =>
  if r2 = 0 then (some ((-9), g))
  else (bd (ldI g 135 30 ((3 * a1) + a2)) fun v5 =>
  bd (stI g 135 30 ((3 * a1) + a2) a3) fun g7 =>
  some (v5, g7))
def j_X14_isRight_65 (g2 : GM) (x7 : Int32) : Option (Int32 × GM) :=
  grd (x7 = 0 ∨ x7 = 1) <|
  some (x7, g2)
def j_X14_isRight_64 (g2 : GM)  : Option (Int32 × GM) :=
  j_X14_isRight_65 g2 0
def f_X14_isRight (g : GM) (a1 : Int32) (a2 : Int32) : Option (Int32 × GM) :=
  bd (f_X14_goes g 1) fun g2 =>
  bd (ldI g2 135 30 (3 * a2)) fun v4 =>
  bd (f_X14_its g2 a1 1) fun r6 =>
  if v4 = (1 + r6) then (bd (ldI g2 135 30 ((3 * a2) + 1)) fun v11 =>
  bd (f_X14_its g2 a1 2) fun r13 =>
  if v11 = r13 then (bd (ldI g2 135 30 ((3 * a2) + 2)) fun v16 =>
  bd (f_X14_depths g2) fun r18 =>
  if v16 = r18 then (j_X14_isRight_65 g2 1)
  else (j_X14_isRight_64 g2))
  else (j_X14_isRight_64 g2))
  else (j_X14_isRight_64 g2)
def j_X14_judge_58 (g10 : GM) (x11 : Int32) : Option (Int32 × GM) :=
  some (x11, g10)
def j_X14_judge_39 (x6 : Int32) (g8 : GM) : Option (Int32 × GM) :=
  bd (f_X14_laysBack g8) fun g10 =>
  if (g10 128 12) ≤ x6 then (j_X14_judge_58 g10 0)
  else (j_X14_judge_58 g10 (x6 + 1))
def b_X14_judge_16 (a1 : Int32) (k16 : Int32 → GM → Option (Int32 × GM)) (x6 : Int32) (g7 : GM) : Option (Int32 × GM) :=
  if (g7 128 12) ≤ x6 then (j_X14_judge_39 x6 g7)
  else (bd2 (f_X14_isRight g7 a1 x6) fun r15 g16 =>
  if r15 = 0 then (j_X14_judge_39 x6 g16)
  else (k16 (x6 + 1) g16))
def l_X14_judge_16 (a1 : Int32) : Nat → Int32 → GM → Option (Int32 × GM)
  | 0, _, _ => none
  | k + 1, x6, g7 => b_X14_judge_16 a1 (l_X14_judge_16 a1 k) x6 g7
def f_X14_judge (g : GM) (a1 : Int32) : Option (Int32 × GM) :=
  bd (f_X14_isCloth g a1) fun r2 =>
  if r2 = 0 then (some ((-1), g))
  else (bd (f_X14_lends g) fun g5 =>
  l_X14_judge_16 a1 fuel 0 g5)
def j_X14_minds_42 (g : GM)  : Option (Int32 × GM) :=
  some ((-1), g)
def j_X14_minds_99 (g : GM)  : Option (Int32 × GM) :=
  some ((-12), g)
def j_X14_minds_146 (x24 : Int32) (k105 : Int32 → GM → Option (Int32 × GM)) (g29 : GM) : Option (Int32 × GM) :=
  k105 (x24 + 1) g29
def b_X14_minds_105 (a1 : Int32) (a2 : Int32) (a3 : Int32) (a4 : Int32) (k105 : Int32 → GM → Option (Int32 × GM)) (x24 : Int32) (g25 : GM) : Option (Int32 × GM) :=
  if a4 ≤ x24 then (some (a4, g25))
  else (bd (f_X14_its g25 (a3 + x24) 1) fun r28 =>
  if r28 < 0 then (j_X14_minds_146 x24 k105 g25)
  else (bd (ldI g25 138 160 (((40 * a1) + a2) + x24)) fun v32 =>
  bd (f_X14_isDeep g25 (a3 + x24) v32) fun g34 =>
  j_X14_minds_146 x24 k105 g34))
def l_X14_minds_105 (a1 : Int32) (a2 : Int32) (a3 : Int32) (a4 : Int32) : Nat → Int32 → GM → Option (Int32 × GM)
  | 0, _, _ => none
  | k + 1, x24, g25 => b_X14_minds_105 a1 a2 a3 a4 (l_X14_minds_105 a1 a2 a3 a4 k) x24 g25
def j_X14_minds_69 (g : GM) (x37 : Int32) : Option (Int32 × GM) :=
  some (x37, g)
def f_X14_minds (g : GM) (a1 : Int32) (a2 : Int32) (a3 : Int32) (a4 : Int32) : Option (Int32 × GM) :=
  bd (f_X14_isFour a1) fun r2 =>
  if r2 = 0 then (j_X14_minds_42 g)
  else (bd (f_X14_isCloth g a3) fun r5 =>
  if r5 = 0 then (j_X14_minds_42 g)
  else (bd (f_X14_in a4.toInt64 0 8) fun r8 =>
  if r8 = 0 then (j_X14_minds_42 g)
  else (bd (ldI g 131 69 6) fun v11 =>
  if (a3 + a4) ≤ v11 then (bd (ldI g 136 4 a1) fun v14 =>
  if v14 = 0 then (bd (ldI g 137 4 a1) fun v17 =>
  bd (f_X14_in a2.toInt64 0 v17.toInt64) fun r19 =>
  if r19 = 0 then (j_X14_minds_99 g)
  else (bd (ldI g 137 4 a1) fun v22 =>
  if a4 ≤ (v22 - a2) then (l_X14_minds_105 a1 a2 a3 a4 fuel 0 g)
  else (j_X14_minds_99 g)))
  else (bd (ldI g 136 4 a1) fun v36 =>
  if 0 ≤ v36 then (j_X14_minds_69 g (-13))
  else (j_X14_minds_69 g (-11))))
  else (j_X14_minds_42 g))))
def j_X14_sheet_31 (g : GM)  : Option (Int32 × GM) :=
  some ((-1), g)
def b_X14_sheet_69 (a1 : Int32) (k69 : Int32 → GM → Option (Int32 × GM)) (x12 : Int32) (g13 : GM) : Option (Int32 × GM) :=
  if 40 ≤ x12 then (some (1, g13))
  else (bd (stI g13 138 160 ((40 * a1) + x12) 0) fun g16 =>
  k69 (x12 + 1) g16)
def l_X14_sheet_69 (a1 : Int32) : Nat → Int32 → GM → Option (Int32 × GM)
  | 0, _, _ => none
  | k + 1, x12, g13 => b_X14_sheet_69 a1 (l_X14_sheet_69 a1 k) x12 g13
def j_X14_sheet_65 (a1 : Int32) (g8 : GM) (x9 : Int32) : Option (Int32 × GM) :=
  bd (stI g8 137 4 a1 x9) fun g11 =>
  l_X14_sheet_69 a1 fuel 0 g11
def j_X14_sheet_44 (g : GM) (a1 : Int32) (a2 : Int32) (a3 : Int32)  : Option (Int32 × GM) :=
  bd (stI g 136 4 a1 a2) fun g8 =>
  if 0 ≤ a2 then (j_X14_sheet_65 a1 g8 a3)
  else (j_X14_sheet_65 a1 g8 0)
def j_X14_sheet_33 (g : GM) (a1 : Int32) (a2 : Int32) (a3 : Int32)  : Option (Int32 × GM) :=
  if a2 < 0 then (j_X14_sheet_44 g a1 a2 a3)
  else (if 0 ≤ a3 then (j_X14_sheet_44 g a1 a2 a3)
  else (some ((-14), g)))
def f_X14_sheet (g : GM) (a1 : Int32) (a2 : Int32) (a3 : Int32) : Option (Int32 × GM) :=
  bd (f_X14_isFour a1) fun r2 =>
  if r2 = 0 then (j_X14_sheet_31 g)
  else (bd (f_X14_in a2.toInt64 (-1) 3) fun r5 =>
  if r5 = 0 then (j_X14_sheet_31 g)
  else (if a2 < 0 then (j_X14_sheet_33 g a1 a2 a3)
  else (if a3 ≤ 40 then (j_X14_sheet_33 g a1 a2 a3)
  else (j_X14_sheet_31 g))))
def j_X14_narrowed_20  (x1 : Int32) : Option Int32 :=
  some x1
def f_X14_narrowed  (a0 : Int32) (a1 : Int32) : Option Int32 :=
  if a0 = 0 then (j_X14_narrowed_20 a1.toInt8.toInt32)
  else (if a0 = 1 then (j_X14_narrowed_20 a1.toInt16.toInt32)
  else (j_X14_narrowed_20 a1))
def f_X14_put (g : GM) (a1 : Int32) (a2 : Int32) (a3 : Int32) : Option (Int32 × GM) :=
  bd (f_X14_isFour a1) fun r2 =>
  if r2 = 0 then (some ((-1), g))
  else (bd (ldI g 136 4 a1) fun v5 =>
  if 0 ≤ v5 then (bd (ldI g 137 4 a1) fun v8 =>
  bd (f_X14_in a2.toInt64 0 ((v8 - 1).toInt64)) fun r10 =>
  if r10 = 0 then (some ((-12), g))
  else (bd (ldI g 136 4 a1) fun v13 =>
  bd (f_X14_narrowed v13 a3) fun r15 =>
  bd (stI g 138 160 ((40 * a1) + a2) r15) fun g17 =>
  some (1, g17)))
  else (some ((-11), g)))
def j_X14_item_2_19   : Option Int32 :=
  some (-1)
def j_X14_item_2_80  (x17 : Int32) : Option Int32 :=
  some x17
def f_X14_item_2 (g : GM) (a1 : Int32) (a2 : Int32) (a3 : Int32) : Option Int32 :=
  bd (f_X14_isFour a1) fun r2 =>
  if r2 = 0 then (j_X14_item_2_19)
  else (bd (f_X14_in a2.toInt64 0 3) fun r5 =>
  if r5 = 0 then (j_X14_item_2_19)
  else (bd (ldI g 136 4 a1) fun v8 =>
  if 0 ≤ v8 then (bd (ldI g 136 4 a1) fun v11 =>
  if v11 = a2 then (bd (ldI g 137 4 a1) fun v14 =>
  bd (f_X14_in a3.toInt64 0 ((v14 - 1).toInt64)) fun r16 =>
  if r16 = 0 then (j_X14_item_2_80 (-12))
  else (bd (ldI g 138 160 ((40 * a1) + a3)) fun v20 =>
  j_X14_item_2_80 v20))
  else (some (-13)))
  else (some (-11))))
def j_X14_shelf_48 (g : GM)  : Option (Int32 × GM) :=
  some ((-1), g)
def j_X14_shelf_128 (a1 : Int32) (g12 : GM) (x13 : Int32) : Option (Int32 × GM) :=
  bd (stI g12 141 4 a1 x13) fun g15 =>
  some (1, g15)
def j_X14_shelf_107 (a1 : Int32) (a3 : Int32) (x6 : Int32) (g9 : GM) (x10 : Int32) : Option (Int32 × GM) :=
  bd (stI g9 140 4 a1 x10) fun g12 =>
  if x6 = 0 then (j_X14_shelf_128 a1 g12 0)
  else (bd (ldI g12 137 4 a3) fun v18 =>
  j_X14_shelf_128 a1 g12 v18)
def j_X14_shelf_86 (g : GM) (a1 : Int32) (a3 : Int32) (x6 : Int32) (x7 : Int32) : Option (Int32 × GM) :=
  bd (stI g 139 4 a1 x7) fun g9 =>
  if x6 = 0 then (j_X14_shelf_107 a1 a3 x6 g9 a3)
  else (bd (ldI g9 136 4 a3) fun v21 =>
  j_X14_shelf_107 a1 a3 x6 g9 v21)
def j_X14_shelf_85 (g : GM) (a1 : Int32) (a2 : Int32) (a3 : Int32) (x6 : Int32)  : Option (Int32 × GM) :=
  j_X14_shelf_86 g a1 a3 x6 a2
def j_X14_shelf_60 (g : GM) (a1 : Int32) (a2 : Int32) (a3 : Int32) (x6 : Int32) : Option (Int32 × GM) :=
  if x6 = 0 then (j_X14_shelf_85 g a1 a2 a3 x6)
  else (bd (ldI g 136 4 a3) fun v24 =>
  if 0 ≤ v24 then (j_X14_shelf_85 g a1 a2 a3 x6)
  else (j_X14_shelf_86 g a1 a3 x6 2))
def j_X14_shelf_34 (g : GM) (a1 : Int32) (a2 : Int32) (a3 : Int32) (x1 : Int32) : Option (Int32 × GM) :=
  bd (f_X14_isFour a1) fun r3 =>
  if r3 = 0 then (j_X14_shelf_48 g)
  else (if x1 = 0 then (j_X14_shelf_48 g)
  else (if a2 = 1 then (j_X14_shelf_60 g a1 a2 a3 1)
  else (j_X14_shelf_60 g a1 a2 a3 0)))
def f_X14_shelf (g : GM) (a1 : Int32) (a2 : Int32) (a3 : Int32) : Option (Int32 × GM) :=
  if a2 = 0 then (bd (f_X14_isCloth g a3) fun r33 =>
  j_X14_shelf_34 g a1 a2 a3 r33)
  else (if a2 = 1 then (bd (f_X14_isFour a3) fun r31 =>
  j_X14_shelf_34 g a1 a2 a3 r31)
  else (if a2 = 2 then (j_X14_shelf_34 g a1 a2 a3 1)
  else (j_X14_shelf_34 g a1 a2 a3 0)))
def j_X14_isHeld_27  (x3 : Int32) : Option Int32 :=
  grd (x3 = 0 ∨ x3 = 1) <|
  some x3
def j_X14_isHeld_26   : Option Int32 :=
  j_X14_isHeld_27 0
def f_X14_isHeld (g : GM) (a1 : Int32) : Option Int32 :=
  bd (ldI g 139 4 a1) fun v2 =>
  if v2 = 0 then (bd (ldI g 140 4 a1) fun v7 =>
  bd (f_X14_isCloth g v7) fun r9 =>
  if r9 = 0 then (j_X14_isHeld_26)
  else (j_X14_isHeld_27 1))
  else (j_X14_isHeld_26)
def j_X14_isUnder_34  (x1 : Int32) : Option Int32 :=
  grd (x1 = 0 ∨ x1 = 1) <|
  some x1
def j_X14_isUnder_29   : Option Int32 :=
  j_X14_isUnder_34 1
def j_X14_isUnder_33   : Option Int32 :=
  j_X14_isUnder_34 0
def j_X14_isUnder_19 (a0 : Int32) (a1 : Int32)  : Option Int32 :=
  if a0 = 4 then (if a1 = 2 then (j_X14_isUnder_29)
  else (j_X14_isUnder_33))
  else (j_X14_isUnder_33)
def f_X14_isUnder  (a0 : Int32) (a1 : Int32) : Option Int32 :=
  if a1 = 0 then (j_X14_isUnder_29)
  else (if a0 = a1 then (j_X14_isUnder_29)
  else (if a0 = 3 then (if a1 = 1 then (j_X14_isUnder_29)
  else (j_X14_isUnder_19 a0 a1))
  else (j_X14_isUnder_19 a0 a1)))
def j_X14_taken_28   : Option Int32 :=
  some (-1)
def j_X14_taken_111  (x12 : Int32) : Option Int32 :=
  some x12
def j_X14_taken_109   : Option Int32 :=
  j_X14_taken_111 (-13)
def j_X14_taken_64  (x25 : Int32) : Option Int32 :=
  some x25
def j_X14_taken_30 (g : GM) (a1 : Int32) (a2 : Int32)  : Option Int32 :=
  bd (ldI g 139 4 a1) fun v7 =>
  if v7 = 1 then (bd (ldI g 140 4 a1) fun v24 =>
  if (a2 - 10) = v24 then (bd (ldI g 141 4 a1) fun v28 =>
  j_X14_taken_64 v28)
  else (j_X14_taken_64 (-13)))
  else (bd (f_X14_isHeld g a1) fun r10 =>
  if r10 = 0 then (some (-11))
  else (if 10 ≤ a2 then (j_X14_taken_109)
  else (bd (ldI g 140 4 a1) fun v15 =>
  bd (f_X14_its g v15 0) fun r17 =>
  bd (f_X14_isUnder r17 a2) fun r19 =>
  if r19 = 0 then (j_X14_taken_109)
  else (bd (ldI g 140 4 a1) fun v22 =>
  j_X14_taken_111 v22))))
def f_X14_taken (g : GM) (a1 : Int32) (a2 : Int32) : Option Int32 :=
  bd (f_X14_isFour a1) fun r2 =>
  if r2 = 0 then (j_X14_taken_28)
  else (bd (f_X14_isKind a2) fun r5 =>
  if r5 = 0 then (bd (f_X14_in a2.toInt64 10 13) fun r31 =>
  if r31 = 0 then (j_X14_taken_28)
  else (j_X14_taken_30 g a1 a2))
  else (j_X14_taken_30 g a1 a2))
def j_X14_runs_29  (g1 : GM) : Option GM :=
  some g1
def f_X14_runs (g : GM) (a1 : Int32) : Option GM :=
  if 30 ≤ (g 128 20) then (j_X14_runs_29 g)
  else (bd (stI g 142 30 (g 128 20) a1) fun g4 =>
  bd (puI g4 128 20 ((g4 128 20) + 1)) fun g6 =>
  j_X14_runs_29 g6)
def f_X14_plainRubs (g : GM) (a1 : Int32) : Option (Int32 × GM) :=
  bd (f_X14_runs g 10) fun g2 =>
  some ((a1 * 5) + (g2 128 22), g2)
def f_X14_linenRubs (g : GM) (a1 : Int32) : Option (Int32 × GM) :=
  bd (f_X14_runs g 30) fun g2 =>
  bd2 (f_X14_plainRubs g2 a1) fun r4 g5 =>
  some (r4 * 2, g5)
def f_X14_rubs (g : GM) (a1 : Int32) : Option (Int32 × GM) :=
  if (g 128 21) = 2 then (bd2 (f_X14_linenRubs g a1) fun r3 g4 =>
  some (r3, g4))
  else if (g 128 21) = 3 then (bd (f_X14_runs g 51) fun g7 =>
  bd2 (f_X14_plainRubs g7 a1) fun r9 g10 =>
  some (r9 - 2, g10))
  else if (g 128 21) = 4 then (bd (f_X14_runs g 40) fun g13 =>
  bd2 (f_X14_linenRubs g13 a1) fun r15 g16 =>
  some (0 - r15, g16))
  else (bd2 (f_X14_plainRubs g a1) fun r18 g19 =>
  some (r18, g19))
def f_X14_plainSteeps (g : GM) (a1 : Int32) : Option (Int32 × GM) :=
  bd (f_X14_runs g 11) fun g2 =>
  bd2 (f_X14_rubs g2 a1) fun r4 g5 =>
  some (r4 + ((g5 128 23) * 9), g5)
def j_X14_steepsAct_16 (g : GM) (a1 : Int32)  : Option (Int32 × GM) :=
  bd (f_X14_runs g 20) fun g2 =>
  bd2 (f_X14_plainSteeps g2 a1) fun r4 g5 =>
  some (r4 - 6, g5)
def f_X14_steepsAct (g : GM) (a1 : Int32) : Option (Int32 × GM) :=
  if (g 128 21) = 1 then (j_X14_steepsAct_16 g a1)
  else (if (g 128 21) = 3 then (j_X14_steepsAct_16 g a1)
  else (if (g 128 21) = 4 then (bd (f_X14_runs g 41) fun g13 =>
  bd2 (f_X14_plainSteeps g13 a1) fun r15 g16 =>
  bd2 (f_X14_rubs g16 (g16 128 23)) fun r18 g19 =>
  some (r15 ^^^ r18, g19))
  else (bd2 (f_X14_plainSteeps g a1) fun r10 g11 =>
  some (r10, g11))))
def j_X14_plainParts_77 (g6 : GM) (x7 : Int32) : Option (Int32 × GM) :=
  some (x7, g6)
def j_X14_plainParts_30 (a1 : Int32) (g2 : GM) (x3 : Int32) : Option (Int32 × GM) :=
  grd (x3 = 0 ∨ x3 = 1) <|
  bd (puI g2 128 24 x3) fun g6 =>
  if (g6 128 23) = (g6 128 22) then (j_X14_plainParts_77 g6 0)
  else (if ((g6 128 23) - (g6 128 22)) = (-1) then (j_X14_plainParts_77 g6 (-a1))
  else (grd (¬ ((g6 128 23) - (g6 128 22)) = 0) <|
  j_X14_plainParts_77 g6 (a1 / ((g6 128 23) - (g6 128 22)))))
def j_X14_plainParts_25 (a1 : Int32) (g2 : GM)  : Option (Int32 × GM) :=
  j_X14_plainParts_30 a1 g2 1
def f_X14_plainParts (g : GM) (a1 : Int32) : Option (Int32 × GM) :=
  bd (f_X14_runs g 12) fun g2 =>
  if (g2 128 24) = 0 then (if (g2 128 23) = (g2 128 22) then (j_X14_plainParts_25 a1 g2)
  else (j_X14_plainParts_30 a1 g2 0))
  else (j_X14_plainParts_25 a1 g2)
def j_X14_parts_68  (x11 : Int32) (g12 : GM) : Option (Int32 × GM) :=
  some (x11, g12)
def f_X14_parts (g : GM) (a1 : Int32) : Option (Int32 × GM) :=
  if (g 128 21) = 3 then (bd (f_X14_runs g 50) fun g18 =>
  bd2 (f_X14_plainParts g18 (a1 + 3)) fun r20 g21 =>
  some (r20 + (g21 128 23), g21))
  else (if (g 128 21) = 5 then (bd (f_X14_runs g 61) fun g7 =>
  bd2 (f_X14_plainParts g7 a1) fun r9 g10 =>
  if (g10 128 24) = 0 then (bd2 (f_X14_rubs g10 (g10 128 22)) fun r15 g16 =>
  j_X14_parts_68 (r9 - r15) g16)
  else (j_X14_parts_68 0 g10))
  else (bd2 (f_X14_plainParts g a1) fun r4 g5 =>
  some (r4, g5)))
def f_X14_plainDries (g : GM) (a1 : Int32) : Option (Int32 × GM) :=
  bd (f_X14_runs g 13) fun g2 =>
  bd2 (f_X14_steepsAct g2 a1) fun r4 g5 =>
  some (r4 ^^^ 240, g5)
def j_X14_driesAct_16 (g : GM) (a1 : Int32)  : Option (Int32 × GM) :=
  bd (f_X14_runs g 31) fun g2 =>
  bd2 (f_X14_plainDries g2 a1) fun r4 g5 =>
  bd2 (f_X14_parts g5 (g5 128 22)) fun r7 g8 =>
  some (r4 + r7, g8)
def f_X14_driesAct (g : GM) (a1 : Int32) : Option (Int32 × GM) :=
  if (g 128 21) = 2 then (j_X14_driesAct_16 g a1)
  else (if (g 128 21) = 4 then (j_X14_driesAct_16 g a1)
  else (if (g 128 21) = 5 then (bd (f_X14_runs g 60) fun g16 =>
  bd2 (f_X14_plainDries g16 a1) fun r18 g19 =>
  some (r18 * 3, g19))
  else (bd2 (f_X14_plainDries g a1) fun r13 g14 =>
  some (r13, g14))))
def j_X14_act_27 (g2 : GM)  : Option (Int32 × GM) :=
  some (0, g2)
def j_X14_act_131 (g27 : GM) (x28 : Int32) : Option (Int32 × GM) :=
  some (x28, g27)
def j_X14_act_115  (x26 : Int32) (g27 : GM) : Option (Int32 × GM) :=
  if (g27 128 24) = 0 then (j_X14_act_131 g27 x26)
  else (j_X14_act_131 g27 (-15))
def f_X14_act (g : GM) (a1 : Int32) (a2 : Int32) (a3 : Int32) : Option (Int32 × GM) :=
  bd (puI g 128 20 0) fun g2 =>
  bd (f_X14_isFour a1) fun r4 =>
  if r4 = 0 then (j_X14_act_27 g2)
  else (bd (f_X14_isFour a2) fun r7 =>
  if r7 = 0 then (j_X14_act_27 g2)
  else (bd (f_X14_isHeld g2 a1) fun r10 =>
  if r10 = 0 then (j_X14_act_27 g2)
  else (bd (ldI g2 140 4 a1) fun v13 =>
  bd (puI g2 128 22 v13) fun g15 =>
  bd (f_X14_its g15 (g15 128 22) 0) fun r17 =>
  bd (puI g15 128 21 r17) fun g19 =>
  bd (f_X14_its g19 (g19 128 22) 1) fun r21 =>
  bd (puI g19 128 23 (1 + r21)) fun g23 =>
  bd (puI g23 128 24 0) fun g25 =>
  if a2 = 0 then (bd2 (f_X14_rubs g25 a3) fun r43 g44 =>
  j_X14_act_115 r43 g44)
  else (if a2 = 1 then (bd2 (f_X14_steepsAct g25 a3) fun r40 g41 =>
  j_X14_act_115 r40 g41)
  else (if a2 = 2 then (bd2 (f_X14_parts g25 a3) fun r37 g38 =>
  j_X14_act_115 r37 g38)
  else (bd2 (f_X14_driesAct g25 a3) fun r34 g35 =>
  j_X14_act_115 r34 g35))))))
def j_X14_trace_27  (x3 : Int32) : Option Int32 :=
  some x3
def f_X14_trace (g : GM) (a1 : Int32) : Option Int32 :=
  bd (f_X14_in a1.toInt64 0 (((g 128 20) - 1).toInt64)) fun r2 =>
  if r2 = 0 then (j_X14_trace_27 (-3))
  else (bd (ldI g 142 30 a1) fun v6 =>
  j_X14_trace_27 v6)
def j_X14_purposesAbout_64 (x1 : Int32) (x2 : Int32) (k4 : Int32 → Int32 → Option Int32) (x9 : Int32) : Option Int32 :=
  k4 (x1 + x9) (x2 + 1)
def j_X14_purposesAbout_47 (x5 : Int32) (k15 : Int32 → Int32 → Option Int32) (x11 : Int32) : Option Int32 :=
  k15 x11 (x5 + 1)
def j_X14_purposesAbout_42 (x5 : Int32) (k15 : Int32 → Int32 → Option Int32)  : Option Int32 :=
  j_X14_purposesAbout_47 x5 k15 1
def b_X14_purposesAbout_15 (g : GM) (x1 : Int32) (x2 : Int32) (k4 : Int32 → Int32 → Option Int32) (k15 : Int32 → Int32 → Option Int32) (x4 : Int32) (x5 : Int32) : Option Int32 :=
  bd (ldI g 131 69 6) fun v7 =>
  if v7 ≤ x5 then (if x4 = 0 then (j_X14_purposesAbout_64 x1 x2 k4 0)
  else (j_X14_purposesAbout_64 x1 x2 k4 1))
  else (if x4 = 0 then (bd (f_X14_its g x5 1) fun r14 =>
  if r14 = x2 then (j_X14_purposesAbout_42 x5 k15)
  else (j_X14_purposesAbout_47 x5 k15 0))
  else (j_X14_purposesAbout_42 x5 k15))
def l_X14_purposesAbout_15 (g : GM) (x1 : Int32) (x2 : Int32) (k4 : Int32 → Int32 → Option Int32) : Nat → Int32 → Int32 → Option Int32
  | 0, _, _ => none
  | k + 1, x4, x5 => b_X14_purposesAbout_15 g x1 x2 k4 (l_X14_purposesAbout_15 g x1 x2 k4 k) x4 x5
def b_X14_purposesAbout_4 (g : GM) (k4 : Int32 → Int32 → Option Int32) (x1 : Int32) (x2 : Int32) : Option Int32 :=
  if 10 ≤ x2 then (some x1)
  else (l_X14_purposesAbout_15 g x1 x2 k4 fuel 0 0)
def l_X14_purposesAbout_4 (g : GM) : Nat → Int32 → Int32 → Option Int32
  | 0, _, _ => none
  | k + 1, x1, x2 => b_X14_purposesAbout_4 g (l_X14_purposesAbout_4 g k) x1 x2
def f_X14_purposesAbout (g : GM)  : Option Int32 :=
  l_X14_purposesAbout_4 g fuel 0 0
def f_X14_many (g : GM) (a1 : Int32) : Option Int32 :=
  if a1 = 0 then (bd (ldI g 131 69 6) fun v3 =>
  some v3)
  else if a1 = 1 then (bd (f_X14_hungSet g) fun r6 =>
  bd (f_X14_ones r6) fun r8 =>
  some r8)
  else if a1 = 2 then (bd (f_X14_aboutSet g) fun r11 =>
  bd (f_X14_ones r11) fun r13 =>
  some r13)
  else if a1 = 3 then (bd (f_X14_purposesAbout g) fun r16 =>
  some r16)
  else if a1 = 4 then (some (g 128 12))
  else if a1 = 5 then (some (g 128 7))
  else if a1 = 6 then (some (g 128 20))
  else (some (-1))
def f_X14_keep (g : GM)  : Option (Int32 × GM) :=
  bd (f_X14_become g 131 132) fun g2 =>
  bd (puI g2 128 5 1) fun g4 =>
  some (1, g4)
def f_X14_again (g : GM)  : Option (Int32 × GM) :=
  if (g 128 5) = 0 then (some ((-3), g))
  else (bd (f_X14_become g 132 131) fun g3 =>
  bd (ldI g3 131 69 6) fun v5 =>
  some (v5, g3))
