/-! what the reader computes -/
def j_X8_here_24  (x1 : Int32) : Option Int32 :=
  some x1
def f_X8_here (g : GM)  : Option Int32 :=
  if (g 109 5) ≤ (g 109 6) then (j_X8_here_24 (-1))
  else (bd (ldI g 108 200 (g 109 6)) fun v4 =>
  j_X8_here_24 v4)
def j_X8_isLetter_17  (x1 : Int32) : Option Int32 :=
  grd (x1 = 0 ∨ x1 = 1) <|
  some x1
def j_X8_isLetter_16   : Option Int32 :=
  j_X8_isLetter_17 0
def f_X8_isLetter  (a0 : Int32) : Option Int32 :=
  if a0 < 97 then (j_X8_isLetter_16)
  else (if 122 < a0 then (j_X8_isLetter_16)
  else (j_X8_isLetter_17 1))
def j_X8_isDigit_17  (x1 : Int32) : Option Int32 :=
  grd (x1 = 0 ∨ x1 = 1) <|
  some x1
def j_X8_isDigit_16   : Option Int32 :=
  j_X8_isDigit_17 0
def f_X8_isDigit  (a0 : Int32) : Option Int32 :=
  if a0 < 48 then (j_X8_isDigit_16)
  else (if 57 < a0 then (j_X8_isDigit_16)
  else (j_X8_isDigit_17 1))
def j_X8_next_152 (g15 : GM)  : Option GM :=
  some g15
def j_X8_next_139 (g15 : GM) (k90 : GM → Option GM)  : Option GM :=
  bd (puI g15 109 7 ((g15 109 7) + 1)) fun g18 =>
  k90 g18
def j_X8_next_120 (r14 : Int32) (g15 : GM) (k90 : GM → Option GM)  : Option GM :=
  if r14 = 0 then (j_X8_next_152 g15)
  else (bd (ldI g15 108 200 (g15 109 7)) fun v21 =>
  bd (f_X8_isDigit v21) fun r23 =>
  if r23 = 0 then (j_X8_next_152 g15)
  else (j_X8_next_139 g15 k90))
def b_X8_next_90 (r10 : Int32) (r14 : Int32) (k90 : GM → Option GM) (g15 : GM) : Option GM :=
  if (g15 109 5) ≤ (g15 109 7) then (j_X8_next_152 g15)
  else (if r10 = 0 then (j_X8_next_120 r14 g15 k90)
  else (bd (ldI g15 108 200 (g15 109 7)) fun v27 =>
  bd (f_X8_isLetter v27) fun r29 =>
  if r29 = 0 then (j_X8_next_120 r14 g15 k90)
  else (j_X8_next_139 g15 k90)))
def l_X8_next_90 (r10 : Int32) (r14 : Int32) : Nat → GM → Option GM
  | 0, _ => none
  | k + 1, g15 => b_X8_next_90 r10 r14 (l_X8_next_90 r10 r14 k) g15
def j_X8_next_71 (g3 : GM) (x4 : Int32) : Option GM :=
  bd (puI g3 109 7 x4) fun g6 =>
  bd (f_X8_here g6) fun r8 =>
  bd (f_X8_isLetter r8) fun r10 =>
  bd (f_X8_here g6) fun r12 =>
  bd (f_X8_isDigit r12) fun r14 =>
  l_X8_next_90 r10 r14 fuel g6
def j_X8_next_46 (g3 : GM)  : Option GM :=
  if (g3 109 5) ≤ (g3 109 6) then (j_X8_next_71 g3 (g3 109 6))
  else (j_X8_next_71 g3 ((g3 109 6) + 1))
def b_X8_next_8  (k8 : GM → Option GM) (g3 : GM) : Option GM :=
  if (g3 109 5) ≤ (g3 109 6) then (j_X8_next_46 g3)
  else (bd (ldI g3 108 200 (g3 109 6)) fun v34 =>
  if v34 = 32 then (bd (puI g3 109 6 ((g3 109 6) + 1)) fun g37 =>
  k8 g37)
  else (j_X8_next_46 g3))
def l_X8_next_8  : Nat → GM → Option GM
  | 0, _ => none
  | k + 1, g3 => b_X8_next_8  (l_X8_next_8  k) g3
def f_X8_next (g : GM)  : Option GM :=
  bd (puI g 109 6 (g 109 7)) fun g2 =>
  l_X8_next_8 fuel g2
def f_X8_begins (g : GM) (gr : RM) (a2 : Int32) : Option (GM × RM) :=
  bd (puR gr 109 4 (some 108)) fun gr2 =>
  bd (puI g 109 5 a2) fun g4 =>
  bd (puI g4 109 7 0) fun g6 =>
  bd (f_X8_next g6) fun g8 =>
  some (g8, gr2)
def j_X8_isWord_67 (x4 : Int32)  : Option Int32 :=
  grd (x4 = 0 ∨ x4 = 1) <|
  some x4
def j_X8_isWord_60 (x5 : Int32) (k24 : Int32 → Int32 → Option Int32) (x15 : Int32) : Option Int32 :=
  k24 x15 (x5 + 1)
def b_X8_isWord_24 (g : GM) (a1 : Nat) (k24 : Int32 → Int32 → Option Int32) (x4 : Int32) (x5 : Int32) : Option Int32 :=
  bd (f_J3_length a1) fun r7 =>
  if r7 ≤ x5 then (j_X8_isWord_67 x4)
  else (if x4 = 0 then (j_X8_isWord_67 x4)
  else (bd (ldI g 108 200 ((g 109 6) + x5)) fun v12 =>
  bd (f_J3_charAt a1 x5) fun r14 =>
  if v12 = r14 then (j_X8_isWord_60 x5 k24 1)
  else (j_X8_isWord_60 x5 k24 0)))
def l_X8_isWord_24 (g : GM) (a1 : Nat) : Nat → Int32 → Int32 → Option Int32
  | 0, _, _ => none
  | k + 1, x4, x5 => b_X8_isWord_24 g a1 (l_X8_isWord_24 g a1 k) x4 x5
def j_X8_isWord_21 (g : GM) (a1 : Nat) (x3 : Int32) : Option Int32 :=
  l_X8_isWord_24 g a1 fuel x3 0
def f_X8_isWord (g : GM) (a1 : Nat) : Option Int32 :=
  bd (f_J3_length a1) fun r2 =>
  if ((g 109 7) - (g 109 6)) = r2 then (j_X8_isWord_21 g a1 1)
  else (j_X8_isWord_21 g a1 0)
def j_X8_placeOf_24 (x1 : Int32)  : Option Int32 :=
  some x1
def b_X8_placeOf_2 (g : GM) (La0 : Nat) (Ba0 : Nat) (k2 : Int32 → Option Int32) (x1 : Int32) : Option Int32 :=
  if (nI La0) ≤ x1 then (j_X8_placeOf_24 x1)
  else (bd (chk La0 x1) fun j4 =>
  bd (f_X8_isWord g (Ba0 + j4)) fun r6 =>
  if r6 = 0 then (k2 (x1 + 1))
  else (j_X8_placeOf_24 x1))
def l_X8_placeOf_2 (g : GM) (La0 : Nat) (Ba0 : Nat) : Nat → Int32 → Option Int32
  | 0, _ => none
  | k + 1, x1 => b_X8_placeOf_2 g La0 Ba0 (l_X8_placeOf_2 g La0 Ba0 k) x1
def f_X8_placeOf (g : GM) (a0 : Nat) (La0 : Nat) (Ba0 : Nat) : Option Int32 :=
  l_X8_placeOf_2 g La0 Ba0 fuel 0
def f_X9_at (g : GM) (a1 : Int32) : Option GM :=
  bd (puI g 112 6 a1) fun g2 =>
  some g2
def f_X8_need (g : GM) (a1 : Int32) : Option (GM ⊕ (Nat × GM)) :=
  if a1 = 0 then (bd (f_X9_at g (g 109 6)) fun g3 =>
  some (.inr (9, g3)))
  else (some (.inl g))
def f_X8_may (g : GM) (a1 : Nat) : Option (Int32 × GM) :=
  bd (f_X8_isWord g a1) fun r2 =>
  if r2 = 0 then (some (0, g))
  else (bd (f_X8_next g) fun g5 =>
  some (1, g5))
def b_X8_seen_40 (a1 : Int32) (a2 : Int32) (g8 : GM) (k40 : Int32 → Int32 → Option ((Int32 × GM) ⊕ (Nat × GM))) (x10 : Int32) (x11 : Int32) : Option ((Int32 × GM) ⊕ (Nat × GM)) :=
  if (g8 109 7) ≤ x11 then (bd (f_X0_in x10 a1 a2) fun r14 =>
  bx12 (f_X8_need g8 r14) (fun ec16 g18 => some (.inr (ec16, g18))) fun g17 =>
  some (.inl (x10, g17)))
  else (bd (ldI g8 108 200 x11) fun v20 =>
  k40 (((10 * x10) + v20) - 48) (x11 + 1))
def l_X8_seen_40 (a1 : Int32) (a2 : Int32) (g8 : GM) : Nat → Int32 → Int32 → Option ((Int32 × GM) ⊕ (Nat × GM))
  | 0, _, _ => none
  | k + 1, x10, x11 => b_X8_seen_40 a1 a2 g8 (l_X8_seen_40 a1 a2 g8 k) x10 x11
def j_X8_seen_29 (g : GM) (a1 : Int32) (a2 : Int32) (x5 : Int32) : Option ((Int32 × GM) ⊕ (Nat × GM)) :=
  bx12 (f_X8_need g x5) (fun ec7 g9 => some (.inr (ec7, g9))) fun g8 =>
  l_X8_seen_40 a1 a2 g8 fuel 0 (g8 109 6)
def j_X8_seen_28 (g : GM) (a1 : Int32) (a2 : Int32)  : Option ((Int32 × GM) ⊕ (Nat × GM)) :=
  j_X8_seen_29 g a1 a2 0
def f_X8_seen (g : GM) (a1 : Int32) (a2 : Int32) : Option ((Int32 × GM) ⊕ (Nat × GM)) :=
  bd (f_X8_here g) fun r2 =>
  bd (f_X8_isDigit r2) fun r4 =>
  if r4 = 0 then (j_X8_seen_28 g a1 a2)
  else (if 3 < ((g 109 7) - (g 109 6)) then (j_X8_seen_28 g a1 a2)
  else (j_X8_seen_29 g a1 a2 1))
def f_X8_number (g : GM) (a1 : Int32) (a2 : Int32) : Option ((Int32 × GM) ⊕ (Nat × GM)) :=
  bx22 (f_X8_seen g a1 a2) (fun ec3 g5 => some (.inr (ec3, g5))) fun r2 g4 =>
  bd (f_X8_next g4) fun g7 =>
  some (.inl (r2, g7))
def j_X8_cloth_89 (r9 : Int32) (g14 : GM) : Option (GM ⊕ (Nat × GM)) :=
  bd2 (f_X8_may g14 12) fun r16 g17 =>
  bd (f_X1_hangs g17 83 r9 r16) fun g19 =>
  some (.inl g19)
def j_X8_cloth_88 (r9 : Int32) (x31 : Int32) (g32 : GM) : Option (GM ⊕ (Nat × GM)) :=
  bd (stI g32 90 8 r9 x31) fun g34 =>
  j_X8_cloth_89 r9 g34
def j_X8_cloth_18 (g : GM) (a1 : Int32) (x1 : Int32) : Option (GM ⊕ (Nat × GM)) :=
  bx12 (f_X8_need g x1) (fun ec3 g5 => some (.inr (ec3, g5))) fun g4 =>
  bd (f_X8_next g4) fun g7 =>
  bd2 (f_X1_add g7 83 a1) fun r9 g10 =>
  bd2 (f_X8_may g10 10) fun r12 g13 =>
  if r12 = 0 then (j_X8_cloth_89 r9 g13)
  else (bx22 (f_X8_number g13 0 9) (fun ec23 g25 => some (.inr (ec23, g25))) fun r22 g24 =>
  bd (stI g24 89 8 r9 r22) fun g27 =>
  bd2 (f_X8_may g27 11) fun r29 g30 =>
  if r29 = 0 then (j_X8_cloth_88 r9 20 g30)
  else (bx22 (f_X8_number g30 1 99) (fun ec38 g40 => some (.inr (ec38, g40))) fun r37 g39 =>
  j_X8_cloth_88 r9 r37 g39))
def f_X8_cloth (g : GM) (a1 : Int32) : Option (GM ⊕ (Nat × GM)) :=
  if 8 ≤ (g 83 0) then (j_X8_cloth_18 g a1 0)
  else (j_X8_cloth_18 g a1 1)
def f_X8_must (g : GM) (a1 : Nat) : Option (GM ⊕ (Nat × GM)) :=
  bd (f_X8_isWord g a1) fun r2 =>
  bx12 (f_X8_need g r2) (fun ec4 g6 => some (.inr (ec4, g6))) fun g5 =>
  bd (f_X8_next g5) fun g8 =>
  some (.inl g8)
def f_X8_vat (g : GM)  : Option (GM ⊕ (Nat × GM)) :=
  bx22 (f_X8_number g 0 7) (fun ec3 g5 => some (.inr (ec3, g5))) fun r2 g4 =>
  bx12 (f_X8_must g4 13) (fun ec7 g9 => some (.inr (ec7, g9))) fun g8 =>
  bx22 (f_X8_number g8 0 9) (fun ec12 g14 => some (.inr (ec12, g14))) fun r11 g13 =>
  bd (stI g13 85 8 r2 r11) fun g16 =>
  some (.inl g16)
def f_X8_strong (g : GM)  : Option (GM ⊕ (Nat × GM)) :=
  bx22 (f_X8_number g 0 7) (fun ec3 g5 => some (.inr (ec3, g5))) fun r2 g4 =>
  bx22 (f_X8_number g4 0 9) (fun ec8 g10 => some (.inr (ec8, g10))) fun r7 g9 =>
  bd (stI g9 86 8 r2 r7) fun g12 =>
  some (.inl g12)
def f_X8_day (g : GM)  : Option (GM ⊕ (Nat × GM)) :=
  bx22 (f_X8_number g 0 5) (fun ec3 g5 => some (.inr (ec3, g5))) fun r2 g4 =>
  bx12 (f_X8_must g4 14) (fun ec7 g9 => some (.inr (ec7, g9))) fun g8 =>
  bx22 (f_X8_number g8 0 7) (fun ec12 g14 => some (.inr (ec12, g14))) fun r11 g13 =>
  bd (stI g13 87 6 r2 r11) fun g16 =>
  some (.inl g16)
def j_X8_item_123  (g5 : GM) : Option (GM ⊕ (Nat × GM)) :=
  bx12 (f_X8_must g5 17) (fun ec7 g9 => some (.inr (ec7, g9))) fun g8 =>
  some (.inl g8)
def j_X8_item_98 (r4 : Int32) (g21 : GM) (x23 : Int32) : Option (GM ⊕ (Nat × GM)) :=
  bx12 (f_X8_need g21 x23) (fun ec25 g27 => some (.inr (ec25, g27))) fun g26 =>
  bd (f_X8_next g26) fun g29 =>
  bd (f_X0_mostOf r4) fun r31 =>
  bx22 (f_X8_number g29 0 r31) (fun ec34 g36 => some (.inr (ec34, g36))) fun r33 g35 =>
  bd (stI g35 84 4 r4 r33) fun g38 =>
  j_X8_item_123 g38
def f_X8_item (g : GM)  : Option (GM ⊕ (Nat × GM)) :=
  bd (f_X8_placeOf g 110 6 0) fun r2 =>
  bd (f_X8_placeOf g 111 4 6) fun r4 =>
  if (nI 6) ≤ r2 then (bd2 (f_X8_may g 14) fun r12 g13 =>
  if r12 = 0 then (bd2 (f_X8_may g13 15) fun r16 g17 =>
  if r16 = 0 then (bd2 (f_X8_may g17 16) fun r20 g21 =>
  if r20 = 0 then (if (nI 4) ≤ r4 then (j_X8_item_98 r4 g21 0)
  else (j_X8_item_98 r4 g21 1))
  else (bx12 (f_X8_day g21) (fun ec41 g43 => some (.inr (ec41, g43))) fun g42 =>
  j_X8_item_123 g42))
  else (bx12 (f_X8_strong g17) (fun ec45 g47 => some (.inr (ec45, g47))) fun g46 =>
  j_X8_item_123 g46))
  else (bx12 (f_X8_vat g13) (fun ec49 g51 => some (.inr (ec49, g51))) fun g50 =>
  j_X8_item_123 g50))
  else (bx12 (f_X8_cloth g r2) (fun ec53 g55 => some (.inr (ec53, g55))) fun g54 =>
  j_X8_item_123 g54)
def b_X8_read_13 (gr3 : RM) (k13 : GM → Option ((GM × RM) ⊕ (Nat × GM × RM))) (g6 : GM) : Option ((GM × RM) ⊕ (Nat × GM × RM)) :=
  if (g6 109 5) ≤ (g6 109 6) then (some (.inl (g6, gr3)))
  else (bx12 (f_X8_item g6) (fun ec9 g11 => some (.inr (ec9, g11, gr3))) fun g10 =>
  k13 g10)
def l_X8_read_13 (gr3 : RM) : Nat → GM → Option ((GM × RM) ⊕ (Nat × GM × RM))
  | 0, _ => none
  | k + 1, g6 => b_X8_read_13 gr3 (l_X8_read_13 gr3 k) g6
def f_X8_read (g : GM) (gr : RM) (a2 : Int32) : Option ((GM × RM) ⊕ (Nat × GM × RM)) :=
  bd2 (f_X8_begins g gr a2) fun g2 gr3 =>
  bd (f_X1_begins g2 83) fun g5 =>
  l_X8_read_13 gr3 fuel g5
