/-! walks: X0_lengthOf, X0_numberOf, X0_isTold, X0_fitsOf, X0_fits, X0_raised, X0_common, X0_partOf, X0_hope, X0_isRow, X0_row, X0_alterRow, X0_goesAs, X0_judge, X0_bytes, X0_within -/
def rm_X0_lengthOf : Room := { frames := 1, cells := 0, slots := 0, locals := 12 }
theorem he_X0_lengthOf : yX0_lengthOf.cls ≠ "java/lang/invoke/MethodHandle" ∧ yX0_lengthOf.cls ≠ "java/lang/invoke/VarHandle" ∧ (parseMethodDescriptor yX0_lengthOf.desc).map (fun d => d.parameters.length) = some 1 := by decide +kernel

set_option maxHeartbeats 4000000 in
set_option maxRecDepth 100000 in
theorem w_X0_lengthOf {l : Launch} {G : Gx} {sh : SM} {g : GM} {gl : LM} {gr : RM} {n : Nat} (hSk : Sk sh gr) (a0 : Nat)  {r : Int32} (h : f_X0_lengthOf sh a0 = some r) : MetI l G yX0_lengthOf (ws_ yX0_lengthOf cX0_lengthOf 1 (Option.some Jvm.ClassFile.FieldType.int)) rm_X0_lengthOf [.ref (adr G a0)] sh g gl gr n (some (.int r)) sh g gl gr n := by
  refine MetI.of (by decide) (Nat.le_of_ble_eq_true rfl) ?_
  intro p e s m below meth c ls hx hb hr hml hown hts hlk hnm hW hK hR hS hl
  have hown : s.vm.findClass RX0 = some m.cls := hown
  have hF : CallFix p m c cX0_lengthOf 1 s ([.ref (adr G a0)] : List Value).toArray lw_all RX0 := ⟨hx, hb, hml, hown, hts⟩
  have hl : lv_has ls 1 [(0, .ref (adr G a0))] := hl
  unfold f_X0_lengthOf at h
  refine lv_aload_n hx hb dX0_lengthOf_0 rfl (lv_at hl 0 rfl) ?_
  obtain ⟨c1, h⟩ := ogrd h
  by_cases c2 : (sh a0).1 = 2
  · replace h := ifp h c2
    refine r_instY hx hb hown (hts _ q988) hK hR c1 ((thc_2 hW hK c1).1 (cst_arr c2)) dX0_lengthOf_1 ?_
    refine lv_if_eq (tgt := 13) hx hb dX0_lengthOf_4 (by decide) (fun cc => absurd cc (by decide)) (fun _ => ?_)
    refine lv_aload_n hx hb dX0_lengthOf_7 rfl (lv_at hl 0 rfl) ?_
    refine r_castY hx hb hown (hts _ q988) hK hR c1 ((thc_2 hW hK c1).1 (cst_arr c2)) dX0_lengthOf_8 ?_
    refine r_alen hx hb hK hR (shp c2) (by decide) (by decide) 1 rfl dX0_lengthOf_11 ?_
    obtain rfl := s1i h
    exact r_iret0 hx hb hr hlk hR hS (Nat.zero_le _) (Nat.zero_le _) dX0_lengthOf_12
  · replace h := ifn h c2
    refine r_instN hx hb hown (hts _ q988) hK hR c1 ((thc_2 hW hK c1).2 (cst_ne (by decide) c2)) dX0_lengthOf_1 ?_
    refine lv_if_eq (tgt := 13) hx hb dX0_lengthOf_4 (by decide) (fun _ => ?_) (fun cc => absurd rfl cc)
    refine lv_aload_n hx hb dX0_lengthOf_13 rfl (lv_at hl 0 rfl) ?_
    by_cases c3 : (sh a0).1 = 3
    · replace h := ifp h c3
      refine r_instY hx hb hown (hts _ q989) hK hR c1 ((thc_3 hW hK c1).1 (cst_arr c3)) dX0_lengthOf_14 ?_
      refine lv_if_eq (tgt := 26) hx hb dX0_lengthOf_17 (by decide) (fun cc => absurd cc (by decide)) (fun _ => ?_)
      refine lv_aload_n hx hb dX0_lengthOf_20 rfl (lv_at hl 0 rfl) ?_
      refine r_castY hx hb hown (hts _ q989) hK hR c1 ((thc_3 hW hK c1).1 (cst_arr c3)) dX0_lengthOf_21 ?_
      refine r_alen hx hb hK hR (shp c3) (by decide) (by decide) 2 rfl dX0_lengthOf_24 ?_
      obtain rfl := s1i h
      exact r_iret0 hx hb hr hlk hR hS (Nat.zero_le _) (Nat.zero_le _) dX0_lengthOf_25
    · replace h := ifn h c3
      refine r_instN hx hb hown (hts _ q989) hK hR c1 ((thc_3 hW hK c1).2 (cst_ne (by decide) c3)) dX0_lengthOf_14 ?_
      refine lv_if_eq (tgt := 26) hx hb dX0_lengthOf_17 (by decide) (fun _ => ?_) (fun cc => absurd rfl cc)
      refine lv_aload_n hx hb dX0_lengthOf_26 rfl (lv_at hl 0 rfl) ?_
      have J46 : ∀ (x4 : Int32) (H : Heap) (locs : List Loc) (ls : Array Slot), Rep G sh g gl gr n H → va_S (own G) s.heap H locs → lv_has ls 1 [] → j_X0_lengthOf_46  x4 = some r → W p l e rm_X0_lengthOf s m ([.ref (adr G a0)] : List Value).toArray below meth c H locs 0 0 (MQ below (QR G (some (.int r)) sh g gl gr n) ([.ref (adr G a0)] : List Value).toArray s rm_X0_lengthOf.cells rm_X0_lengthOf.slots (own G)) (F0 m 46 ls [.int x4]) := by
        intro x4 H locs ls hR hS hl h
        unfold j_X0_lengthOf_46 at h
        obtain rfl := s1i h
        exact r_iret0 hx hb hr hlk hR hS (Nat.zero_le _) (Nat.zero_le _) dX0_lengthOf_46
      by_cases c5 : (sh a0).1 = 4
      · replace h := ifp h c5
        refine r_instY hx hb hown (hts _ q990) hK hR c1 ((thc_4 hW hK c1).1 (cst_arr c5)) dX0_lengthOf_27 ?_
        refine lv_if_eq (tgt := 41) hx hb dX0_lengthOf_30 (by decide) (fun cc => absurd cc (by decide)) (fun _ => ?_)
        refine lv_aload_n hx hb dX0_lengthOf_33 rfl (lv_at hl 0 rfl) ?_
        refine r_castY hx hb hown (hts _ q990) hK hR c1 ((thc_4 hW hK c1).1 (cst_arr c5)) dX0_lengthOf_34 ?_
        refine r_alen hx hb hK hR (shp c5) (by decide) (by decide) 3 rfl dX0_lengthOf_37 ?_
        refine lv_goto (tgt := 46) hx hb dX0_lengthOf_38 (by decide) ?_
        exact J46 (nI ((sh a0).2)) _ _ _ hR hS (lv_sub hl [] rfl) h
      · replace h := ifn h c5
        refine r_instN hx hb hown (hts _ q990) hK hR c1 ((thc_4 hW hK c1).2 (cst_ne (by decide) c5)) dX0_lengthOf_27 ?_
        refine lv_if_eq (tgt := 41) hx hb dX0_lengthOf_30 (by decide) (fun _ => ?_) (fun cc => absurd rfl cc)
        refine lv_aload_n hx hb dX0_lengthOf_41 rfl (lv_at hl 0 rfl) ?_
        obtain ⟨c6, h⟩ := ogrd h
        refine r_castY hx hb hown (hts _ q991) hK hR c1 ((thc_1 hW hK c1).1 (cst_arr c6)) dX0_lengthOf_42 ?_
        refine r_alen hx hb hK hR (shp c6) (by decide) (by decide) 0 rfl dX0_lengthOf_45 ?_
        exact J46 (nI ((sh a0).2)) _ _ _ hR hS (lv_sub hl [] rfl) h
def rm_X0_numberOf : Room := { frames := 1, cells := 0, slots := 0, locals := 12 }
theorem he_X0_numberOf : yX0_numberOf.cls ≠ "java/lang/invoke/MethodHandle" ∧ yX0_numberOf.cls ≠ "java/lang/invoke/VarHandle" ∧ (parseMethodDescriptor yX0_numberOf.desc).map (fun d => d.parameters.length) = some 2 := by decide +kernel

set_option maxHeartbeats 4000000 in
set_option maxRecDepth 100000 in
theorem w_X0_numberOf {l : Launch} {G : Gx} {sh : SM} {g : GM} {gl : LM} {gr : RM} {n : Nat} (hSk : Sk sh gr) (a0 : Nat) (a1 : Int32)  {r : Int64} (h : f_X0_numberOf sh g gl a0 a1 = some r) : MetI l G yX0_numberOf (ws_ yX0_numberOf cX0_numberOf 2 (Option.some Jvm.ClassFile.FieldType.long)) rm_X0_numberOf [.ref (adr G a0), .int a1] sh g gl gr n (some (.long r)) sh g gl gr n := by
  refine MetI.of (by decide) (Nat.le_of_ble_eq_true rfl) ?_
  intro p e s m below meth c ls hx hb hr hml hown hts hlk hnm hW hK hR hS hl
  have hown : s.vm.findClass RX0 = some m.cls := hown
  have hF : CallFix p m c cX0_numberOf 2 s ([.ref (adr G a0), .int a1] : List Value).toArray lw_all RX0 := ⟨hx, hb, hml, hown, hts⟩
  have hl : lv_has ls 2 [(0, .ref (adr G a0)), (1, .int a1)] := hl
  unfold f_X0_numberOf at h
  refine lv_aload_n hx hb dX0_numberOf_0 rfl (lv_at hl 0 rfl) ?_
  obtain ⟨c1, h⟩ := ogrd h
  by_cases c2 : (sh a0).1 = 2
  · replace h := ifp h c2
    refine r_instY hx hb hown (hts _ q988) hK hR c1 ((thc_2 hW hK c1).1 (cst_arr c2)) dX0_numberOf_1 ?_
    refine lv_if_eq (tgt := 15) hx hb dX0_numberOf_4 (by decide) (fun cc => absurd cc (by decide)) (fun _ => ?_)
    refine lv_aload_n hx hb dX0_numberOf_7 rfl (lv_at hl 0 rfl) ?_
    refine r_castY hx hb hown (hts _ q988) hK hR c1 ((thc_2 hW hK c1).1 (cst_arr c2)) dX0_numberOf_8 ?_
    refine lv_iload_n hx hb dX0_numberOf_11 rfl (lv_at hl 1 rfl) ?_
    obtain ⟨v4, e3, h⟩ := obd h
    refine r_ldb hx hb hK hR (shp c2) e3 dX0_numberOf_12 ?_
    refine lv_i2l hx hb dX0_numberOf_13 rfl ?_
    obtain rfl := s1i h
    exact r_lret0 hx hb hr hlk hR hS (Nat.zero_le _) (Nat.zero_le _) dX0_numberOf_14
  · replace h := ifn h c2
    refine r_instN hx hb hown (hts _ q988) hK hR c1 ((thc_2 hW hK c1).2 (cst_ne (by decide) c2)) dX0_numberOf_1 ?_
    refine lv_if_eq (tgt := 15) hx hb dX0_numberOf_4 (by decide) (fun _ => ?_) (fun cc => absurd rfl cc)
    refine lv_aload_n hx hb dX0_numberOf_15 rfl (lv_at hl 0 rfl) ?_
    by_cases c5 : (sh a0).1 = 3
    · replace h := ifp h c5
      refine r_instY hx hb hown (hts _ q989) hK hR c1 ((thc_3 hW hK c1).1 (cst_arr c5)) dX0_numberOf_16 ?_
      refine lv_if_eq (tgt := 30) hx hb dX0_numberOf_19 (by decide) (fun cc => absurd cc (by decide)) (fun _ => ?_)
      refine lv_aload_n hx hb dX0_numberOf_22 rfl (lv_at hl 0 rfl) ?_
      refine r_castY hx hb hown (hts _ q989) hK hR c1 ((thc_3 hW hK c1).1 (cst_arr c5)) dX0_numberOf_23 ?_
      refine lv_iload_n hx hb dX0_numberOf_26 rfl (lv_at hl 1 rfl) ?_
      obtain ⟨v7, e6, h⟩ := obd h
      refine r_lds hx hb hK hR (shp c5) e6 dX0_numberOf_27 ?_
      refine lv_i2l hx hb dX0_numberOf_28 rfl ?_
      obtain rfl := s1i h
      exact r_lret0 hx hb hr hlk hR hS (Nat.zero_le _) (Nat.zero_le _) dX0_numberOf_29
    · replace h := ifn h c5
      refine r_instN hx hb hown (hts _ q989) hK hR c1 ((thc_3 hW hK c1).2 (cst_ne (by decide) c5)) dX0_numberOf_16 ?_
      refine lv_if_eq (tgt := 30) hx hb dX0_numberOf_19 (by decide) (fun _ => ?_) (fun cc => absurd rfl cc)
      refine lv_aload_n hx hb dX0_numberOf_30 rfl (lv_at hl 0 rfl) ?_
      have J53 : ∀ (x8 : Int64) (H : Heap) (locs : List Loc) (ls : Array Slot), Rep G sh g gl gr n H → va_S (own G) s.heap H locs → lv_has ls 2 [] → j_X0_numberOf_53  x8 = some r → W p l e rm_X0_numberOf s m ([.ref (adr G a0), .int a1] : List Value).toArray below meth c H locs 0 0 (MQ below (QR G (some (.long r)) sh g gl gr n) ([.ref (adr G a0), .int a1] : List Value).toArray s rm_X0_numberOf.cells rm_X0_numberOf.slots (own G)) (F0 m 53 ls [.long x8]) := by
        intro x8 H locs ls hR hS hl h
        unfold j_X0_numberOf_53 at h
        obtain rfl := s1i h
        exact r_lret0 hx hb hr hlk hR hS (Nat.zero_le _) (Nat.zero_le _) dX0_numberOf_53
      by_cases c9 : (sh a0).1 = 4
      · replace h := ifp h c9
        refine r_instY hx hb hown (hts _ q990) hK hR c1 ((thc_4 hW hK c1).1 (cst_arr c9)) dX0_numberOf_31 ?_
        refine lv_if_eq (tgt := 46) hx hb dX0_numberOf_34 (by decide) (fun cc => absurd cc (by decide)) (fun _ => ?_)
        refine lv_aload_n hx hb dX0_numberOf_37 rfl (lv_at hl 0 rfl) ?_
        refine r_castY hx hb hown (hts _ q990) hK hR c1 ((thc_4 hW hK c1).1 (cst_arr c9)) dX0_numberOf_38 ?_
        refine lv_iload_n hx hb dX0_numberOf_41 rfl (lv_at hl 1 rfl) ?_
        obtain ⟨v11, e10, h⟩ := obd h
        refine r_ldl hx hb hK hR (shp c9) e10 dX0_numberOf_42 ?_
        refine lv_goto (tgt := 53) hx hb dX0_numberOf_43 (by decide) ?_
        exact J53 v11 _ _ _ hR hS (lv_sub hl [] rfl) h
      · replace h := ifn h c9
        refine r_instN hx hb hown (hts _ q990) hK hR c1 ((thc_4 hW hK c1).2 (cst_ne (by decide) c9)) dX0_numberOf_31 ?_
        refine lv_if_eq (tgt := 46) hx hb dX0_numberOf_34 (by decide) (fun _ => ?_) (fun cc => absurd rfl cc)
        refine lv_aload_n hx hb dX0_numberOf_46 rfl (lv_at hl 0 rfl) ?_
        obtain ⟨c12, h⟩ := ogrd h
        refine r_castY hx hb hown (hts _ q991) hK hR c1 ((thc_1 hW hK c1).1 (cst_arr c12)) dX0_numberOf_47 ?_
        refine lv_iload_n hx hb dX0_numberOf_50 rfl (lv_at hl 1 rfl) ?_
        obtain ⟨v14, e13, h⟩ := obd h
        refine r_ldi hx hb hK hR (shp c12) e13 dX0_numberOf_51 ?_
        refine lv_i2l hx hb dX0_numberOf_52 rfl ?_
        exact J53 v14.toInt64 _ _ _ hR hS (lv_sub hl [] rfl) h
def rm_X0_isTold : Room := { frames := 9, cells := 0, slots := 0, locals := 349 }
theorem hd_X0_isTold : yX0_isTold.cls = "IntentVats" ∧ yX0_isTold.cls ≠ "java/lang/invoke/MethodHandle" ∧ yX0_isTold.cls ≠ "java/lang/invoke/VarHandle" ∧ (parseMethodDescriptor yX0_isTold.desc).map (fun d => d.parameters.length) = some 2 := by decide +kernel
theorem he_X0_isTold : yX0_isTold.cls ≠ "java/lang/invoke/MethodHandle" ∧ yX0_isTold.cls ≠ "java/lang/invoke/VarHandle" ∧ (parseMethodDescriptor yX0_isTold.desc).map (fun d => d.parameters.length) = some 2 := hd_X0_isTold.2

set_option maxHeartbeats 4000000 in
set_option maxRecDepth 100000 in
theorem w_X0_isTold {l : Launch} {G : Gx} {sh : SM} {g : GM} {gl : LM} {gr : RM} {n : Nat} (hSk : Sk sh gr) (a1 : Nat) (a2 : Int32)  {r : Int32} {go : GM} (h : f_X0_isTold sh g gl a1 a2 = some (r, go)) : MetI l G yX0_isTold (ws_ yX0_isTold cX0_isTold 6 (Option.some Jvm.ClassFile.FieldType.boolean)) rm_X0_isTold [.ref (adr G 64), .ref (adr G a1), .int a2] sh g gl gr n (some (.int r)) sh go gl gr n := by
  refine MetI.of (by decide) (Nat.le_of_ble_eq_true rfl) ?_
  intro p e s m below meth c ls hx hb hr hml hown hts hlk hnm hW hK hR hS hl
  have hown : s.vm.findClass RX0 = some m.cls := hown
  have hF : CallFix p m c cX0_isTold 6 s ([.ref (adr G 64), .ref (adr G a1), .int a2] : List Value).toArray lw_all RX0 := ⟨hx, hb, hml, hown, hts⟩
  have hl : lv_has ls 6 [(0, .ref (adr G 64)), (1, .ref (adr G a1)), (2, .int a2)] := hl
  unfold f_X0_isTold at h
  refine lv_iconst (v := 0) hx hb dX0_isTold_0 ki_0 ?_
  refine lv_istore_n (lv' := [(3, .int 0), (0, .ref (adr G 64)), (1, .ref (adr G a1)), (2, .int a2)]) hx hb dX0_isTold_1 rfl hl (by decide) rfl (fun ls hl => ?_)
  have J2 : ∀ (k2 : Nat) (x1 : Int32) (g2 : GM) (H : Heap) (locs : List Loc) (ls : Array Slot), Rep G sh g2 gl gr n H → va_S (own G) s.heap H locs → lv_has ls 6 [(0, .ref (adr G 64)), (1, .ref (adr G a1)), (2, .int a2), (3, .int x1)] → l_X0_isTold_2 sh gl a1 a2 k2 x1 g2 = some (r, go) → W p l e rm_X0_isTold s m ([.ref (adr G 64), .ref (adr G a1), .int a2] : List Value).toArray below meth c H locs 0 0 (MQ below (QR G (some (.int r)) sh go gl gr n) ([.ref (adr G 64), .ref (adr G a1), .int a2] : List Value).toArray s rm_X0_isTold.cells rm_X0_isTold.slots (own G)) (F0 m 2 ls []) := by
    intro k2
    induction k2 with
    | zero => intro _ _ _ _ _ _ _ _; exact nofun
    | succ k2 ih2 =>
      intro x1 g2 H locs ls hR hS hl h
      unfold l_X0_isTold_2 b_X0_isTold_2 at h
      refine lv_iload_n hx hb dX0_isTold_2 rfl (lv_at hl 3 rfl) ?_
      refine lv_aload_n hx hb dX0_isTold_3 rfl (lv_at hl 1 rfl) ?_
      obtain ⟨r4, e3, h⟩ := obd h
      refine rc_S0 (rest := [.int x1]) (st1 := [.int r4, .int x1]) hF (w_X0_lengthOf hSk a1 e3) (va_cwS 1 hts (lw_S q985 q986 q100 q987) rfl rfl rfl he_X0_lengthOf ⟨Nat.le_of_ble_eq_true rfl, Nat.le_of_ble_eq_true rfl⟩) hW hR hS rfl hl.1 rfl (Nat.le_of_ble_eq_true rfl) rfl dX0_isTold_4 ⟨rfl, rfl⟩ ⟨Nat.zero_le _, Nat.zero_le _⟩ (fun H locs hR hS => ?_)
      refine lv_icmp_ge (tgt := 58) hx hb dX0_isTold_7 (by decide) (fun c5 => ?_) (fun c5 => ?_)
      · replace h := ifp h c5
        refine lv_iconst (v := 1) hx hb dX0_isTold_58 ki_1 ?_
        obtain ⟨rfl, rfl⟩ := s2i h
        exact r_zret0 hx hb hr hlk hR hS (Nat.zero_le _) (Nat.zero_le _) (by decide) dX0_isTold_59
      · replace h := ifn h c5
        refine lv_aload_n hx hb dX0_isTold_10 rfl (lv_at hl 0 rfl) ?_
        refine lv_aload_n hx hb dX0_isTold_11 rfl (lv_at hl 0 rfl) ?_
        refine r_getr hx hb hts cfX0 hown hK hR (sk_64 hSk) 3 (by decide) rfl (sr_64_3 hSk) (hts _ q452) (fun _ h => h) dX0_isTold_12 ?_
        obtain ⟨g7, e6, h⟩ := obd h
        refine rc_V0 (rest := []) (st1 := []) hF (w_X0_dayGoes hSk 92 (isMl_92) e6) (cwV 1 hts (lw_V q849 q851 qs19 q100 q852) rfl rfl rfl hd_X0_dayGoes ⟨Nat.le_of_ble_eq_true rfl, Nat.le_of_ble_eq_true rfl⟩) cfX0 (sk_64 hSk) hK hW hR hS rfl hl.1 rfl (Nat.le_of_ble_eq_true rfl) rfl dX0_isTold_15 ⟨rfl, rfl⟩ ⟨Nat.zero_le _, Nat.zero_le _⟩ (fun H locs hR hS => ?_)
        refine lv_aload_n hx hb dX0_isTold_18 rfl (lv_at hl 1 rfl) ?_
        refine lv_iload_n hx hb dX0_isTold_19 rfl (lv_at hl 3 rfl) ?_
        obtain ⟨r9, e8, h⟩ := obd h
        refine rc_S0 (rest := []) (st1 := [.long r9]) hF (w_X0_numberOf hSk a1 x1 e8) (va_cwS 2 hts (lw_S q992 q993 q100 q994) rfl rfl rfl he_X0_numberOf ⟨Nat.le_of_ble_eq_true rfl, Nat.le_of_ble_eq_true rfl⟩) hW hR hS rfl hl.1 rfl (Nat.le_of_ble_eq_true rfl) rfl dX0_isTold_20 ⟨rfl, rfl⟩ ⟨Nat.zero_le _, Nat.zero_le _⟩ (fun H locs hR hS => ?_)
        refine lv_lstore (lv' := [(4, .long r9), (0, .ref (adr G 64)), (1, .ref (adr G a1)), (2, .int a2), (3, .int x1)]) hx hb dX0_isTold_23 hl (by decide) rfl (fun ls hl => ?_)
        refine lv_lload hx hb dX0_isTold_25 (lv_at hl 0 rfl) ?_
        refine lv_ldc2 (v := (-1)) hx hb hown (hts _ q995) dX0_isTold_27 ?_
        refine W.lcmp hx hb dX0_isTold_30 ?_
        have J52 : ∀  (H : Heap) (locs : List Loc) (ls : Array Slot), Rep G sh g7 gl gr n H → va_S (own G) s.heap H locs → lv_has ls 6 [(0, .ref (adr G 64)), (1, .ref (adr G a1)), (2, .int a2), (3, .int x1)] → j_X0_isTold_52 x1 (l_X0_isTold_2 sh gl a1 a2 k2) g7  = some (r, go) → W p l e rm_X0_isTold s m ([.ref (adr G 64), .ref (adr G a1), .int a2] : List Value).toArray below meth c H locs 0 0 (MQ below (QR G (some (.int r)) sh go gl gr n) ([.ref (adr G 64), .ref (adr G a1), .int a2] : List Value).toArray s rm_X0_isTold.cells rm_X0_isTold.slots (own G)) (F0 m 52 ls []) := by
          intro  H locs ls hR hS hl h
          unfold j_X0_isTold_52 at h
          refine lv_iinc (v := x1 + 1) (lv' := [(3, .int (x1 + 1)), (0, .ref (adr G 64)), (1, .ref (adr G a1)), (2, .int a2)]) hx hb dX0_isTold_52 hl (k := 3) rfl rfl (by decide) rfl (fun ls hl => ?_)
          refine lv_goto (tgt := 2) hx hb dX0_isTold_55 (by decide) ?_
          exact ih2 (x1 + 1) g7 _ _ _ hR hS (lv_sub hl [1, 2, 3, 0] rfl) h
        refine lv_if_eq (tgt := 52) hx hb dX0_isTold_31 (by decide) (fun c10 => ?_) (fun c10 => ?_)
        · replace h := ifp h c10
          exact J52  _ _ _ hR hS (lv_sub hl [1, 2, 3, 4] rfl) h
        · replace h := ifn h c10
          refine lv_lload hx hb dX0_isTold_34 (lv_at hl 0 rfl) ?_
          refine lv_aload_n hx hb dX0_isTold_36 rfl (lv_at hl 1 rfl) ?_
          refine r_getr hx hb hts cfX0 hown hK hR (sk_64 hSk) 3 (by decide) rfl (sr_64_3 hSk) (hts _ q452) (fun _ h => h) dX0_isTold_37 ?_
          refine r_getrN hx hb hts cfX1 hown hK hR (sk_92 hSk) 10 (by decide) rfl (sr_92_10 hSk) (hW.nestF q186) (fun _ h => h) dX0_isTold_40 ?_
          refine lv_iload_n hx hb dX0_isTold_43 rfl (lv_at hl 3 rfl) ?_
          obtain ⟨v12, e11, h⟩ := obd h
          refine r_ldi hx hb hK hR (sk_99 hSk) e11 dX0_isTold_44 ?_
          refine lv_i2l hx hb dX0_isTold_45 rfl ?_
          refine W.lcmp hx hb dX0_isTold_46 ?_
          refine lv_if_eq (tgt := 52) hx hb dX0_isTold_47 (by decide) (fun c13 => ?_) (fun c13 => ?_)
          · replace h := ifp h c13
            exact J52  _ _ _ hR hS (lv_sub hl [1, 2, 3, 4] rfl) h
          · replace h := ifn h c13
            refine lv_iconst (v := 0) hx hb dX0_isTold_50 ki_0 ?_
            obtain ⟨rfl, rfl⟩ := s2i h
            exact r_zret0 hx hb hr hlk hR hS (Nat.zero_le _) (Nat.zero_le _) (by decide) dX0_isTold_51
  exact J2 fuel 0 g _ _ _ hR hS (lv_sub hl [1, 2, 3, 0] rfl) h
def rm_X0_fitsOf : Room := { frames := 10, cells := 0, slots := 0, locals := 374 }
theorem hd_X0_fitsOf : yX0_fitsOf.cls = "IntentVats" ∧ yX0_fitsOf.cls ≠ "java/lang/invoke/MethodHandle" ∧ yX0_fitsOf.cls ≠ "java/lang/invoke/VarHandle" ∧ (parseMethodDescriptor yX0_fitsOf.desc).map (fun d => d.parameters.length) = some 3 := by decide +kernel
theorem he_X0_fitsOf : yX0_fitsOf.cls ≠ "java/lang/invoke/MethodHandle" ∧ yX0_fitsOf.cls ≠ "java/lang/invoke/VarHandle" ∧ (parseMethodDescriptor yX0_fitsOf.desc).map (fun d => d.parameters.length) = some 3 := hd_X0_fitsOf.2

set_option maxHeartbeats 4000000 in
set_option maxRecDepth 100000 in
theorem w_X0_fitsOf {l : Launch} {G : Gx} {sh : SM} {g : GM} {gl : LM} {gr : RM} {n : Nat} (hSk : Sk sh gr) (a1 : Nat) (a2 : Int32) (a3 : Int32)  {r : Int32} {go : GM} (h : f_X0_fitsOf sh g gl a1 a2 a3 = some (r, go)) : MetI l G yX0_fitsOf (ws_ yX0_fitsOf cX0_fitsOf 7 (Option.some Jvm.ClassFile.FieldType.int)) rm_X0_fitsOf [.ref (adr G 64), .ref (adr G a1), .int a2, .int a3] sh g gl gr n (some (.int r)) sh go gl gr n := by
  refine MetI.of (by decide) (Nat.le_of_ble_eq_true rfl) ?_
  intro p e s m below meth c ls hx hb hr hml hown hts hlk hnm hW hK hR hS hl
  have hown : s.vm.findClass RX0 = some m.cls := hown
  have hF : CallFix p m c cX0_fitsOf 7 s ([.ref (adr G 64), .ref (adr G a1), .int a2, .int a3] : List Value).toArray lw_all RX0 := ⟨hx, hb, hml, hown, hts⟩
  have hl : lv_has ls 7 [(0, .ref (adr G 64)), (1, .ref (adr G a1)), (2, .int a2), (3, .int a3)] := hl
  unfold f_X0_fitsOf at h
  refine lv_iconst (v := 0) hx hb dX0_fitsOf_0 ki_0 ?_
  refine lv_istore (lv' := [(4, .int 0), (0, .ref (adr G 64)), (1, .ref (adr G a1)), (2, .int a2), (3, .int a3)]) hx hb dX0_fitsOf_1 hl (by decide) rfl (fun ls hl => ?_)
  refine lv_bipush (v := (-3)) hx hb dX0_fitsOf_3 kb_m3 ?_
  refine lv_istore (lv' := [(5, .int (-3)), (4, .int 0), (0, .ref (adr G 64)), (1, .ref (adr G a1)), (2, .int a2), (3, .int a3)]) hx hb dX0_fitsOf_5 hl (by decide) rfl (fun ls hl => ?_)
  refine lv_bipush (v := 9) hx hb dX0_fitsOf_7 kb_9 ?_
  refine lv_istore (lv' := [(6, .int 9), (5, .int (-3)), (4, .int 0), (0, .ref (adr G 64)), (1, .ref (adr G a1)), (2, .int a2), (3, .int a3)]) hx hb dX0_fitsOf_9 hl (by decide) rfl (fun ls hl => ?_)
  have J11 : ∀ (k11 : Nat) (x1 : Int32) (x2 : Int32) (x3 : Int32) (g4 : GM) (H : Heap) (locs : List Loc) (ls : Array Slot), Rep G sh g4 gl gr n H → va_S (own G) s.heap H locs → lv_has ls 7 [(0, .ref (adr G 64)), (1, .ref (adr G a1)), (2, .int a2), (3, .int a3), (4, .int x1), (5, .int x2), (6, .int x3)] → l_X0_fitsOf_11 sh gl a1 a2 a3 k11 x1 x2 x3 g4 = some (r, go) → W p l e rm_X0_fitsOf s m ([.ref (adr G 64), .ref (adr G a1), .int a2, .int a3] : List Value).toArray below meth c H locs 0 0 (MQ below (QR G (some (.int r)) sh go gl gr n) ([.ref (adr G 64), .ref (adr G a1), .int a2, .int a3] : List Value).toArray s rm_X0_fitsOf.cells rm_X0_fitsOf.slots (own G)) (F0 m 11 ls []) := by
    intro k11
    induction k11 with
    | zero => intro _ _ _ _ _ _ _ _ _ _; exact nofun
    | succ k11 ih11 =>
      intro x1 x2 x3 g4 H locs ls hR hS hl h
      unfold l_X0_fitsOf_11 b_X0_fitsOf_11 at h
      refine lv_iload hx hb dX0_fitsOf_11 (lv_at hl 6 rfl) ?_
      refine lv_iconst (v := (-1)) hx hb dX0_fitsOf_13 ki_m1 ?_
      refine lv_icmp_lt (tgt := 94) hx hb dX0_fitsOf_14 (by decide) (fun c5 => ?_) (fun c5 => ?_)
      · replace h := ifp h c5
        refine lv_iload_n hx hb dX0_fitsOf_94 rfl (lv_at hl 3 rfl) ?_
        have J105 : ∀ (x6 : Int32) (H : Heap) (locs : List Loc) (ls : Array Slot), Rep G sh g4 gl gr n H → va_S (own G) s.heap H locs → lv_has ls 7 [] → j_X0_fitsOf_105 g4 x6 = some (r, go) → W p l e rm_X0_fitsOf s m ([.ref (adr G 64), .ref (adr G a1), .int a2, .int a3] : List Value).toArray below meth c H locs 0 0 (MQ below (QR G (some (.int r)) sh go gl gr n) ([.ref (adr G 64), .ref (adr G a1), .int a2, .int a3] : List Value).toArray s rm_X0_fitsOf.cells rm_X0_fitsOf.slots (own G)) (F0 m 105 ls [.int x6]) := by
          intro x6 H locs ls hR hS hl h
          unfold j_X0_fitsOf_105 at h
          obtain ⟨rfl, rfl⟩ := s2i h
          exact r_iret0 hx hb hr hlk hR hS (Nat.zero_le _) (Nat.zero_le _) dX0_fitsOf_105
        refine lv_if_eq (tgt := 103) hx hb dX0_fitsOf_95 (by decide) (fun c7 => ?_) (fun c7 => ?_)
        · replace h := ifp h c7
          refine lv_iload hx hb dX0_fitsOf_103 (lv_at hl 5 rfl) ?_
          exact J105 x2 _ _ _ hR hS (lv_sub hl [] rfl) h
        · replace h := ifn h c7
          refine lv_iload hx hb dX0_fitsOf_98 (lv_at hl 4 rfl) ?_
          refine lv_goto (tgt := 105) hx hb dX0_fitsOf_100 (by decide) ?_
          exact J105 x1 _ _ _ hR hS (lv_sub hl [] rfl) h
      · replace h := ifn h c5
        refine lv_aload_n hx hb dX0_fitsOf_17 rfl (lv_at hl 0 rfl) ?_
        refine r_getr hx hb hts cfX0 hown hK hR (sk_64 hSk) 3 (by decide) rfl (sr_64_3 hSk) (hts _ q452) (fun _ h => h) dX0_fitsOf_18 ?_
        refine lv_aload_n hx hb dX0_fitsOf_21 rfl (lv_at hl 0 rfl) ?_
        refine r_getr hx hb hts cfX0 hown hK hR (sk_64 hSk) 0 (by decide) rfl (sr_64_0 hSk) (hts _ q449) (fun _ h => h) dX0_fitsOf_22 ?_
        obtain ⟨g9, e8, h⟩ := obd h
        refine rc_V0 (rest := []) (st1 := []) hF (w_X1_become hSk 92 65 (isMl_92) (isMl_65) e8) (cwV 1 hts (lw_V q516 q517 q518 q101 q519) rfl rfl rfl hd_X1_become ⟨Nat.le_of_ble_eq_true rfl, Nat.le_of_ble_eq_true rfl⟩) cfX1 (sk_92 hSk) hK hW hR hS rfl hl.1 rfl (Nat.le_of_ble_eq_true rfl) rfl dX0_fitsOf_25 ⟨rfl, rfl⟩ ⟨Nat.zero_le _, Nat.zero_le _⟩ (fun H locs hR hS => ?_)
        refine lv_aload_n hx hb dX0_fitsOf_28 rfl (lv_at hl 0 rfl) ?_
        refine r_getr hx hb hts cfX0 hown hK hR (sk_64 hSk) 3 (by decide) rfl (sr_64_3 hSk) (hts _ q452) (fun _ h => h) dX0_fitsOf_29 ?_
        refine r_getrN hx hb hts cfX1 hown hK hR (sk_92 hSk) 9 (by decide) rfl (sr_92_9 hSk) (hW.nestF q183) (fun _ h => h) dX0_fitsOf_32 ?_
        refine lv_iload_n hx hb dX0_fitsOf_35 rfl (lv_at hl 2 rfl) ?_
        refine lv_iload hx hb dX0_fitsOf_36 (lv_at hl 6 rfl) ?_
        obtain ⟨g11, e10, h⟩ := obd h
        refine r_sti hx hb hK hR hS (sk_98 hSk) e10 dX0_fitsOf_38 (fun H locs hR hS => ?_)
        refine lv_iload hx hb dX0_fitsOf_39 (lv_at hl 6 rfl) ?_
        refine lv_iconst (v := (-1)) hx hb dX0_fitsOf_41 ki_m1 ?_
        have J50 : ∀ (x12 : Int32) (H : Heap) (locs : List Loc) (ls : Array Slot), Rep G sh g11 gl gr n H → va_S (own G) s.heap H locs → lv_has ls 7 [(0, .ref (adr G 64)), (1, .ref (adr G a1)), (2, .int a2), (3, .int a3), (4, .int x1), (5, .int x2), (6, .int x3)] → j_X0_fitsOf_50 sh gl a1 a2 x1 x2 x3 (l_X0_fitsOf_11 sh gl a1 a2 a3 k11) g11 x12 = some (r, go) → W p l e rm_X0_fitsOf s m ([.ref (adr G 64), .ref (adr G a1), .int a2, .int a3] : List Value).toArray below meth c H locs 0 0 (MQ below (QR G (some (.int r)) sh go gl gr n) ([.ref (adr G 64), .ref (adr G a1), .int a2, .int a3] : List Value).toArray s rm_X0_fitsOf.cells rm_X0_fitsOf.slots (own G)) (F0 m 50 ls [.int x12]) := by
          intro x12 H locs ls hR hS hl h
          unfold j_X0_fitsOf_50 at h
          refine lv_aload_n hx hb dX0_fitsOf_50 rfl (lv_at hl 0 rfl) ?_
          refine r_getr hx hb hts cfX0 hown hK hR (sk_64 hSk) 0 (by decide) rfl (sr_64_0 hSk) (hts _ q449) (fun _ h => h) dX0_fitsOf_51 ?_
          refine r_getrN hx hb hts cfX1 hown hK hR (sk_65 hSk) 10 (by decide) rfl (sr_65_10 hSk) (hW.nestF q186) (fun _ h => h) dX0_fitsOf_54 ?_
          refine lv_iload_n hx hb dX0_fitsOf_57 rfl (lv_at hl 2 rfl) ?_
          obtain ⟨v14, e13, h⟩ := obd h
          refine r_ldi hx hb hK hR (sk_72 hSk) e13 dX0_fitsOf_58 ?_
          have J67 : ∀ (x15 : Int32) (H : Heap) (locs : List Loc) (ls : Array Slot), Rep G sh g11 gl gr n H → va_S (own G) s.heap H locs → lv_has ls 7 [(0, .ref (adr G 64)), (1, .ref (adr G a1)), (2, .int a2), (3, .int a3), (4, .int x1), (5, .int x2), (6, .int x3)] → j_X0_fitsOf_67 sh gl a1 a2 x1 x2 x3 (l_X0_fitsOf_11 sh gl a1 a2 a3 k11) g11 x12 x15 = some (r, go) → W p l e rm_X0_fitsOf s m ([.ref (adr G 64), .ref (adr G a1), .int a2, .int a3] : List Value).toArray below meth c H locs 0 0 (MQ below (QR G (some (.int r)) sh go gl gr n) ([.ref (adr G 64), .ref (adr G a1), .int a2, .int a3] : List Value).toArray s rm_X0_fitsOf.cells rm_X0_fitsOf.slots (own G)) (F0 m 67 ls [.int x15, .int x12]) := by
            intro x15 H locs ls hR hS hl h
            unfold j_X0_fitsOf_67 at h
            have J88 : ∀ (x16 : Int32) (x17 : Int32) (g18 : GM) (H : Heap) (locs : List Loc) (ls : Array Slot), Rep G sh g18 gl gr n H → va_S (own G) s.heap H locs → lv_has ls 7 [(0, .ref (adr G 64)), (1, .ref (adr G a1)), (2, .int a2), (3, .int a3), (4, .int x16), (5, .int x17), (6, .int x3)] → j_X0_fitsOf_88 x3 (l_X0_fitsOf_11 sh gl a1 a2 a3 k11) x16 x17 g18 = some (r, go) → W p l e rm_X0_fitsOf s m ([.ref (adr G 64), .ref (adr G a1), .int a2, .int a3] : List Value).toArray below meth c H locs 0 0 (MQ below (QR G (some (.int r)) sh go gl gr n) ([.ref (adr G 64), .ref (adr G a1), .int a2, .int a3] : List Value).toArray s rm_X0_fitsOf.cells rm_X0_fitsOf.slots (own G)) (F0 m 88 ls []) := by
              intro x16 x17 g18 H locs ls hR hS hl h
              unfold j_X0_fitsOf_88 at h
              refine lv_iinc (v := x3 + (-1)) (lv' := [(6, .int (x3 + (-1))), (0, .ref (adr G 64)), (1, .ref (adr G a1)), (2, .int a2), (3, .int a3), (4, .int x16), (5, .int x17)]) hx hb dX0_fitsOf_88 hl (k := 6) rfl rfl (by decide) rfl (fun ls hl => ?_)
              refine lv_goto (tgt := 11) hx hb dX0_fitsOf_91 (by decide) ?_
              exact ih11 x16 x17 (x3 + (-1)) g18 _ _ _ hR hS (lv_sub hl [1, 2, 3, 4, 5, 6, 0] rfl) h
            refine lv_icmp_ne (tgt := 88) hx hb dX0_fitsOf_67 (by decide) (fun c19 => ?_) (fun c19 => ?_)
            · replace h := ifn h c19
              exact J88 x1 x2 g11 _ _ _ hR hS (lv_sub hl [0, 1, 2, 3, 4, 5, 6] rfl) h
            · replace h := ifp h c19
              refine lv_aload_n hx hb dX0_fitsOf_70 rfl (lv_at hl 0 rfl) ?_
              refine lv_aload_n hx hb dX0_fitsOf_71 rfl (lv_at hl 1 rfl) ?_
              refine lv_iload_n hx hb dX0_fitsOf_72 rfl (lv_at hl 2 rfl) ?_
              obtain ⟨r21, g22, e20, h⟩ := obd2 h
              refine rc_V0 (rest := []) (st1 := [.int r21]) hF (w_X0_isTold hSk a1 a2 e20) (cwV 2 hts (lw_V q981 q983 qs28 q100 q984) rfl rfl rfl hd_X0_isTold ⟨Nat.le_of_ble_eq_true rfl, Nat.le_of_ble_eq_true rfl⟩) cfX0 (sk_64 hSk) hK hW hR hS rfl hl.1 rfl (Nat.le_of_ble_eq_true rfl) rfl dX0_fitsOf_73 ⟨rfl, rfl⟩ ⟨Nat.zero_le _, Nat.zero_le _⟩ (fun H locs hR hS => ?_)
              refine lv_if_eq (tgt := 88) hx hb dX0_fitsOf_76 (by decide) (fun c23 => ?_) (fun c23 => ?_)
              · replace h := ifp h c23
                exact J88 x1 x2 g22 _ _ _ hR hS (lv_sub hl [0, 1, 2, 3, 4, 5, 6] rfl) h
              · replace h := ifn h c23
                refine lv_iinc (v := x1 + 1) (lv' := [(4, .int (x1 + 1)), (0, .ref (adr G 64)), (1, .ref (adr G a1)), (2, .int a2), (3, .int a3), (5, .int x2), (6, .int x3)]) hx hb dX0_fitsOf_79 hl (k := 4) rfl rfl (by decide) rfl (fun ls hl => ?_)
                refine lv_iconst (v := 1) hx hb dX0_fitsOf_82 ki_1 ?_
                refine lv_iload hx hb dX0_fitsOf_83 (lv_at hl 6 rfl) ?_
                refine lv_iadd hx hb dX0_fitsOf_85 ?_
                refine lv_istore (lv' := [(5, .int (1 + x3)), (4, .int (x1 + 1)), (0, .ref (adr G 64)), (1, .ref (adr G a1)), (2, .int a2), (3, .int a3), (6, .int x3)]) hx hb dX0_fitsOf_86 hl (by decide) rfl (fun ls hl => ?_)
                exact J88 (x1 + 1) (1 + x3) g22 _ _ _ hR hS (lv_sub hl [2, 3, 4, 5, 1, 0, 6] rfl) h
          refine lv_if_ne (tgt := 66) hx hb dX0_fitsOf_59 (by decide) (fun c24 => ?_) (fun c24 => ?_)
          · replace h := ifn h c24
            refine lv_iconst (v := 0) hx hb dX0_fitsOf_66 ki_0 ?_
            exact J67 0 _ _ _ hR hS (lv_sub hl [0, 1, 2, 3, 4, 5, 6] rfl) h
          · replace h := ifp h c24
            refine lv_iconst (v := 1) hx hb dX0_fitsOf_62 ki_1 ?_
            refine lv_goto (tgt := 67) hx hb dX0_fitsOf_63 (by decide) ?_
            exact J67 1 _ _ _ hR hS (lv_sub hl [0, 1, 2, 3, 4, 5, 6] rfl) h
        refine lv_icmp_ne (tgt := 49) hx hb dX0_fitsOf_42 (by decide) (fun c25 => ?_) (fun c25 => ?_)
        · replace h := ifn h c25
          refine lv_iconst (v := 0) hx hb dX0_fitsOf_49 ki_0 ?_
          exact J50 0 _ _ _ hR hS (lv_sub hl [0, 1, 2, 3, 4, 5, 6] rfl) h
        · replace h := ifp h c25
          refine lv_iconst (v := 1) hx hb dX0_fitsOf_45 ki_1 ?_
          refine lv_goto (tgt := 50) hx hb dX0_fitsOf_46 (by decide) ?_
          exact J50 1 _ _ _ hR hS (lv_sub hl [0, 1, 2, 3, 4, 5, 6] rfl) h
  exact J11 fuel 0 (-3) 9 g _ _ _ hR hS (lv_sub hl [3, 4, 5, 6, 2, 1, 0] rfl) h
def rm_X0_fits : Room := { frames := 11, cells := 0, slots := 0, locals := 400 }
theorem hd_X0_fits : yX0_fits.cls = "IntentVats" ∧ yX0_fits.cls ≠ "java/lang/invoke/MethodHandle" ∧ yX0_fits.cls ≠ "java/lang/invoke/VarHandle" ∧ (parseMethodDescriptor yX0_fits.desc).map (fun d => d.parameters.length) = some 3 := by decide +kernel
theorem he_X0_fits : yX0_fits.cls ≠ "java/lang/invoke/MethodHandle" ∧ yX0_fits.cls ≠ "java/lang/invoke/VarHandle" ∧ (parseMethodDescriptor yX0_fits.desc).map (fun d => d.parameters.length) = some 3 := hd_X0_fits.2
set_option maxHeartbeats 4000000 in
set_option maxRecDepth 100000 in
theorem w_X0_fits {l : Launch} {G : Gx} {sh : SM} {g : GM} {gl : LM} {gr : RM} {n0 : Nat} (hSk : Sk sh gr) (a1 : Int32) (a2 : Int32) (a3 : Int32)  {oo : ((Int32 × GM) ⊕ (Nat × GM))} {o : XO} (h : f_X0_fits sh g gl gr a1 a2 a3 = some oo) (ho : o = (oo.elim (fun p => .inl (some (.int p.1), sh, p.2, gl, gr)) (fun q => .inr (q.1, sh, q.2, gl, gr)))) : MetX l G yX0_fits (wsW_ yX0_fits cX0_fits 5 (Option.some Jvm.ClassFile.FieldType.int) [(26, 53, 54, 94)]) rm_X0_fits [.ref (adr G 64), .int a1, .int a2, .int a3] sh g gl gr n0 o := by
  refine MetX.ofW (by decide) (Nat.le_of_ble_eq_true rfl) ?_
  intro p e s m below meth c ls hx hb hr hml hown hts hlk htb hW hK hR hS hl
  have hn : n0 ≤ n0 := Nat.le_refl _
  have hown : s.vm.findClass RX0 = some m.cls := hown
  have hF : CallFix p m c cX0_fits 5 s ([.ref (adr G 64), .int a1, .int a2, .int a3] : List Value).toArray lw_all RX0 := ⟨hx, hb, hml, hown, hts⟩
  have hl : lv_has ls 5 [(0, .ref (adr G 64)), (1, .int a1), (2, .int a2), (3, .int a3)] := hl
  unfold f_X0_fits at h
  refine lv_iload_n hx hb dX0_fits_0 rfl (lv_at hl 1 rfl) ?_
  obtain ⟨r2, e1, h⟩ := obd h
  refine rc_S0 (rest := []) (st1 := [.int r2]) hF (w_X0_isSheet hSk a1 e1) (va_cwS 1 hts (lw_S q966 q967 q100 q968) rfl rfl rfl he_X0_isSheet ⟨Nat.le_of_ble_eq_true rfl, Nat.le_of_ble_eq_true rfl⟩) hW hR hS rfl hl.1 rfl (Nat.le_of_ble_eq_true rfl) rfl dX0_fits_1 ⟨rfl, rfl⟩ ⟨Nat.zero_le _, Nat.zero_le _⟩ (fun H locs hR hS => ?_)
  have J24 : ∀  (n : Nat) (H : Heap) (locs : List Loc) (ls : Array Slot), n0 ≤ n → Rep G sh g gl gr n H → va_S (own G) s.heap H locs → lv_has ls 5 [] → j_X0_fits_24 g  = some oo → W p l e rm_X0_fits s m ([.ref (adr G 64), .int a1, .int a2, .int a3] : List Value).toArray below meth c H locs 0 0 (XQ G below n0 o ([.ref (adr G 64), .int a1, .int a2, .int a3] : List Value).toArray s rm_X0_fits) (F0 m 24 ls []) := by
    intro  n H locs ls hn hR hS hl h
    unfold j_X0_fits_24 at h
    refine lv_iconst (v := (-1)) hx hb dX0_fits_24 ki_m1 ?_
    obtain rfl := s1i h
    exact x_iret hx hb hr hlk hn hR hS (Nat.zero_le _) (Nat.zero_le _) ho dX0_fits_25
  refine lv_if_eq (tgt := 24) hx hb dX0_fits_4 (by decide) (fun c3 => ?_) (fun c3 => ?_)
  · replace h := ifp h c3
    exact J24  _ _ _ _ hn hR hS (lv_sub hl [] rfl) h
  · replace h := ifn h c3
    refine lv_aload_n hx hb dX0_fits_7 rfl (lv_at hl 0 rfl) ?_
    refine lv_iload_n hx hb dX0_fits_8 rfl (lv_at hl 2 rfl) ?_
    obtain ⟨r5, e4, h⟩ := obd h
    refine rc_V0 (rest := []) (st1 := [.int r5]) hF (w_X0_isCloth hSk a2 e4) (cwV 1 hts (lw_V q715 q717 qs15 q100 q718) rfl rfl rfl hd_X0_isCloth ⟨Nat.le_of_ble_eq_true rfl, Nat.le_of_ble_eq_true rfl⟩) cfX0 (sk_64 hSk) hK hW hR hS rfl hl.1 rfl (Nat.le_of_ble_eq_true rfl) rfl dX0_fits_9 ⟨rfl, rfl⟩ ⟨Nat.zero_le _, Nat.zero_le _⟩ (fun H locs hR hS => ?_)
    refine lv_if_eq (tgt := 24) hx hb dX0_fits_12 (by decide) (fun c6 => ?_) (fun c6 => ?_)
    · replace h := ifp h c6
      exact J24  _ _ _ _ hn hR hS (lv_sub hl [] rfl) h
    · replace h := ifn h c6
      refine lv_iload_n hx hb dX0_fits_15 rfl (lv_at hl 3 rfl) ?_
      refine lv_iconst (v := 0) hx hb dX0_fits_16 ki_0 ?_
      refine lv_iconst (v := 1) hx hb dX0_fits_17 ki_1 ?_
      obtain ⟨r8, e7, h⟩ := obd h
      refine rc_S0 (rest := []) (st1 := [.int r8]) hF (w_X0_in hSk a3 0 1 e7) (va_cwS 3 hts (lw_S q508 q509 q100 q510) rfl rfl rfl he_X0_in ⟨Nat.le_of_ble_eq_true rfl, Nat.le_of_ble_eq_true rfl⟩) hW hR hS rfl hl.1 rfl (Nat.le_of_ble_eq_true rfl) rfl dX0_fits_18 ⟨rfl, rfl⟩ ⟨Nat.zero_le _, Nat.zero_le _⟩ (fun H locs hR hS => ?_)
      refine lv_if_ne (tgt := 26) hx hb dX0_fits_21 (by decide) (fun c9 => ?_) (fun c9 => ?_)
      · replace h := ifn h c9
        refine lv_aload_n hx hb dX0_fits_26 rfl (lv_at hl 0 rfl) ?_
        refine lv_aload_n hx hb dX0_fits_27 rfl (lv_at hl 0 rfl) ?_
        refine lv_aload_n hx hb dX0_fits_28 rfl (lv_at hl 0 rfl) ?_
        refine r_getr hx hb hts cfX0 hown hK hR (sk_64 hSk) 12 (by decide) rfl (sr_64_12 hSk) (hts _ q461) (fun _ h => h) dX0_fits_29 ?_
        refine lv_iload_n hx hb dX0_fits_32 rfl (lv_at hl 1 rfl) ?_
        obtain ⟨j11, e10, h⟩ := obd h
        have qj11 := (chk_s e10).2.2
        refine r_ldr hx hb hK hR (sk_115 hSk) (by decide) (by decide) 7 rfl e10 (sra_115 hSk qj11) dX0_fits_33 ?_
        obtain ⟨r13, e12, h⟩ := obd h
        refine rc_V0 (rest := [.ref (adr G 64), .ref (adr G 64)]) (st1 := [va_rf (Option.map (adr G) r13), .ref (adr G 64), .ref (adr G 64)]) hF (w_X10_row hSk (116 + j11) e12) (cwV 0 hts (lw_V q969 q970 q971 q113 q972) rfl rfl rfl hd_X10_row ⟨Nat.le_of_ble_eq_true rfl, Nat.le_of_ble_eq_true rfl⟩) cfX10 (shs_115 hSk qj11) hK hW hR hS rfl hl.1 rfl (Nat.le_of_ble_eq_true rfl) rfl dX0_fits_34 ⟨rfl, rfl⟩ ⟨Nat.zero_le _, Nat.zero_le _⟩ (fun H locs hR hS => ?_)
        rcases obx11 h with ⟨ec16, e14, h⟩ | ⟨r15, e14, h⟩
        · refine xc_x (xr_V (ox := (.inr (ec16, sh, g, gl, gr))) (rest := [.ref (adr G 64)]) hF (w_X0_there hSk r13 e14 rfl) (cwV 1 hts (lw_V q973 q975 qs26 q100 q976) rfl rfl rfl hd_X0_there ⟨Nat.le_of_ble_eq_true rfl, Nat.le_of_ble_eq_true rfl⟩) cfX0 (sk_64 hSk) hK hW hR rfl hl.1 rfl (Nat.le_of_ble_eq_true rfl) dX0_fits_37 ⟨Nat.le_of_ble_eq_true rfl, Nat.le_of_ble_eq_true rfl⟩) hS (fun n H locs q9 ce9 hn2 hR hS hq9 hce9 hcv9 hcl9 => ?_)
          replace hn := Nat.le_trans hn hn2
          by_cases c17 : ec16 = 12
          · replace h := ifp h c17
            subst c17
            obtain rfl := hq9 121 rfl
            refine vx_catch (E := "IntentVats$Nothing") (name := "IntentVats$Nothing") hown [] ⟨26, 53, 54, 94⟩ [] (htb.trans rfl) (fun _ hz => nomatch hz) rfl (by decide) (hts _ q416) (hW.cab q418) hce9 hcv9 hcl9 ?_
            refine lv_astore (lv' := [(4, .ref (adr G 121)), (0, .ref (adr G 64)), (1, .int a1), (2, .int a2), (3, .int a3)]) hx hb dX0_fits_54 hl (by decide) rfl (fun ls hl => ?_)
            refine lv_bipush (v := (-11)) hx hb dX0_fits_56 kb_m11 ?_
            obtain rfl := s1i h
            exact x_iret hx hb hr hlk hn hR hS (Nat.zero_le _) (Nat.zero_le _) ho dX0_fits_58
          · replace h := ifn h c17
            cases h
        refine xc_r (xr_V (ox := (.inl (some (.ref (adr G r15)), sh, g, gl, gr))) (rest := [.ref (adr G 64)]) hF (w_X0_there hSk r13 e14 rfl) (cwV 1 hts (lw_V q973 q975 qs26 q100 q976) rfl rfl rfl hd_X0_there ⟨Nat.le_of_ble_eq_true rfl, Nat.le_of_ble_eq_true rfl⟩) cfX0 (sk_64 hSk) hK hW hR rfl hl.1 rfl (Nat.le_of_ble_eq_true rfl) dX0_fits_37 ⟨Nat.le_of_ble_eq_true rfl, Nat.le_of_ble_eq_true rfl⟩) hS (fun n H locs hn2 hR hS => ?_)
        replace hn := Nat.le_trans hn hn2
        refine W.widen (k := 0) (n := 0) (Nat.le_of_ble_eq_true rfl) (Nat.le_of_ble_eq_true rfl) ?_
        refine lv_iload_n hx hb dX0_fits_40 rfl (lv_at hl 2 rfl) ?_
        refine lv_iload_n hx hb dX0_fits_41 rfl (lv_at hl 3 rfl) ?_
        have J50 : ∀ (x18 : Int32) (n : Nat) (H : Heap) (locs : List Loc) (ls : Array Slot), n0 ≤ n → Rep G sh g gl gr n H → va_S (own G) s.heap H locs → lv_has ls 5 [] → j_X0_fits_50 sh g gl a2 r15 x18 = some oo → W p l e rm_X0_fits s m ([.ref (adr G 64), .int a1, .int a2, .int a3] : List Value).toArray below meth c H locs 0 0 (XQ G below n0 o ([.ref (adr G 64), .int a1, .int a2, .int a3] : List Value).toArray s rm_X0_fits) (F0 m 50 ls [.int x18, .int a2, .ref (adr G r15), .ref (adr G 64)]) := by
          intro x18 n H locs ls hn hR hS hl h
          unfold j_X0_fits_50 at h
          obtain ⟨r20, g21, e19, h⟩ := obd2 h
          refine rc_V0 (rest := []) (st1 := [.int r20]) hF (w_X0_fitsOf hSk r15 a2 x18 e19) (cwV 3 hts (lw_V q977 q979 qs27 q100 q980) rfl rfl rfl hd_X0_fitsOf ⟨Nat.le_of_ble_eq_true rfl, Nat.le_of_ble_eq_true rfl⟩) cfX0 (sk_64 hSk) hK hW hR hS rfl hl.1 rfl (Nat.le_of_ble_eq_true rfl) rfl dX0_fits_50 ⟨rfl, rfl⟩ ⟨Nat.zero_le _, Nat.zero_le _⟩ (fun H locs hR hS => ?_)
          obtain rfl := s1i h
          exact x_iret hx hb hr hlk hn hR hS (Nat.zero_le _) (Nat.zero_le _) ho dX0_fits_53
        refine lv_if_ne (tgt := 49) hx hb dX0_fits_42 (by decide) (fun c22 => ?_) (fun c22 => ?_)
        · replace h := ifn h c22
          refine lv_iconst (v := 0) hx hb dX0_fits_49 ki_0 ?_
          exact J50 0 _ _ _ _ hn hR hS (lv_sub hl [] rfl) h
        · replace h := ifp h c22
          refine lv_iconst (v := 1) hx hb dX0_fits_45 ki_1 ?_
          refine lv_goto (tgt := 50) hx hb dX0_fits_46 (by decide) ?_
          exact J50 1 _ _ _ _ hn hR hS (lv_sub hl [] rfl) h
      · replace h := ifp h c9
        exact J24  _ _ _ _ hn hR hS (lv_sub hl [] rfl) h
def rm_X0_raised : Room := { frames := 1, cells := 0, slots := 0, locals := 12 }
theorem he_X0_raised : yX0_raised.cls ≠ "java/lang/invoke/MethodHandle" ∧ yX0_raised.cls ≠ "java/lang/invoke/VarHandle" ∧ (parseMethodDescriptor yX0_raised.desc).map (fun d => d.parameters.length) = some 2 := by decide +kernel

set_option maxHeartbeats 4000000 in
set_option maxRecDepth 100000 in
theorem w_X0_raised {l : Launch} {G : Gx} {sh : SM} {g : GM} {gl : LM} {gr : RM} {n : Nat} (hSk : Sk sh gr) (a0 : Int64) (a2 : Int32)  {r : Int64} (h : f_X0_raised  a0 a2 = some r) : MetI l G yX0_raised (ws_ yX0_raised cX0_raised 6 (Option.some Jvm.ClassFile.FieldType.long)) rm_X0_raised [.long a0, .int a2] sh g gl gr n (some (.long r)) sh g gl gr n := by
  refine MetI.of (by decide) (Nat.le_of_ble_eq_true rfl) ?_
  intro p e s m below meth c ls hx hb hr hml hown hts hlk hnm hW hK hR hS hl
  have hown : s.vm.findClass RX0 = some m.cls := hown
  have hF : CallFix p m c cX0_raised 6 s ([.long a0, .int a2] : List Value).toArray lw_all RX0 := ⟨hx, hb, hml, hown, hts⟩
  have hl : lv_has ls 6 [(0, .long a0), (2, .int a2)] := hl
  unfold f_X0_raised at h
  refine lv_lconst (v := 1) hx hb dX0_raised_0 rfl ?_
  refine lv_lstore_n (lv' := [(3, .long 1), (0, .long a0), (2, .int a2)]) hx hb dX0_raised_1 rfl hl (by decide) rfl (fun ls hl => ?_)
  refine lv_iconst (v := 0) hx hb dX0_raised_2 ki_0 ?_
  refine lv_istore (lv' := [(5, .int 0), (3, .long 1), (0, .long a0), (2, .int a2)]) hx hb dX0_raised_3 hl (by decide) rfl (fun ls hl => ?_)
  have J5 : ∀ (k5 : Nat) (x1 : Int64) (x2 : Int32) (H : Heap) (locs : List Loc) (ls : Array Slot), Rep G sh g gl gr n H → va_S (own G) s.heap H locs → lv_has ls 6 [(0, .long a0), (2, .int a2), (3, .long x1), (5, .int x2)] → l_X0_raised_5 a0 a2 k5 x1 x2 = some r → W p l e rm_X0_raised s m ([.long a0, .int a2] : List Value).toArray below meth c H locs 0 0 (MQ below (QR G (some (.long r)) sh g gl gr n) ([.long a0, .int a2] : List Value).toArray s rm_X0_raised.cells rm_X0_raised.slots (own G)) (F0 m 5 ls []) := by
    intro k5
    induction k5 with
    | zero => intro _ _ _ _ _ _ _ _; exact nofun
    | succ k5 ih5 =>
      intro x1 x2 H locs ls hR hS hl h
      unfold l_X0_raised_5 b_X0_raised_5 at h
      refine lv_iload hx hb dX0_raised_5 (lv_at hl 3 rfl) ?_
      refine lv_iload_n hx hb dX0_raised_7 rfl (lv_at hl 1 rfl) ?_
      refine lv_icmp_ge (tgt := 21) hx hb dX0_raised_8 (by decide) (fun c3 => ?_) (fun c3 => ?_)
      · replace h := ifp h c3
        refine lv_lload_n hx hb dX0_raised_21 rfl (lv_at hl 2 rfl) ?_
        obtain rfl := s1i h
        exact r_lret0 hx hb hr hlk hR hS (Nat.zero_le _) (Nat.zero_le _) dX0_raised_22
      · replace h := ifn h c3
        refine lv_lload_n hx hb dX0_raised_11 rfl (lv_at hl 2 rfl) ?_
        refine lv_lload_n hx hb dX0_raised_12 rfl (lv_at hl 0 rfl) ?_
        refine lv_lmul hx hb dX0_raised_13 ?_
        refine lv_lstore_n (lv' := [(3, .long (x1 * a0)), (0, .long a0), (2, .int a2), (5, .int x2)]) hx hb dX0_raised_14 rfl hl (by decide) rfl (fun ls hl => ?_)
        refine lv_iinc (v := x2 + 1) (lv' := [(5, .int (x2 + 1)), (3, .long (x1 * a0)), (0, .long a0), (2, .int a2)]) hx hb dX0_raised_15 hl (k := 3) rfl rfl (by decide) rfl (fun ls hl => ?_)
        refine lv_goto (tgt := 5) hx hb dX0_raised_18 (by decide) ?_
        exact ih5 (x1 * a0) (x2 + 1) _ _ _ hR hS (lv_sub hl [2, 3, 1, 0] rfl) h
  exact J5 fuel 1 0 _ _ _ hR hS (lv_sub hl [2, 3, 1, 0] rfl) h
def rm_X0_common : Room := { frames := 1, cells := 0, slots := 0, locals := 40 }
theorem he_X0_common : yX0_common.cls ≠ "java/lang/invoke/MethodHandle" ∧ yX0_common.cls ≠ "java/lang/invoke/VarHandle" ∧ (parseMethodDescriptor yX0_common.desc).map (fun d => d.parameters.length) = some 2 := by decide +kernel

set_option maxHeartbeats 4000000 in
set_option maxRecDepth 100000 in
theorem w_X0_common {l : Launch} {G : Gx} {sh : SM} {g : GM} {gl : LM} {gr : RM} {n : Nat} (hSk : Sk sh gr) (a0 : Int64) (a2 : Int64)  {r : Int64} (h : f_X0_common  a0 a2 = some r) : MetI l G yX0_common (ws_ yX0_common cX0_common 10 (Option.some Jvm.ClassFile.FieldType.long)) rm_X0_common [.long a0, .long a2] sh g gl gr n (some (.long r)) sh g gl gr n := by
  refine MetI.of (by decide) (Nat.le_of_ble_eq_true rfl) ?_
  intro p e s m below meth c ls hx hb hr hml hown hts hlk hnm hW hK hR hS hl
  have hown : s.vm.findClass RX0 = some m.cls := hown
  have hF : CallFix p m c cX0_common 10 s ([.long a0, .long a2] : List Value).toArray lw_all RX0 := ⟨hx, hb, hml, hown, hts⟩
  have hl : lv_has ls 10 [(0, .long a0), (2, .long a2)] := hl
  unfold f_X0_common at h
  refine lv_lload_n hx hb dX0_common_0 rfl (lv_at hl 0 rfl) ?_
  refine va_mabs_long hx hb (hml.trans hl.1.symm) hown (hts _ q1013) (hts _ q1014) (hts _ q123) (hts _ q1015) (Nat.le_of_ble_eq_true rfl) (Nat.le_of_ble_eq_true rfl) (Nat.zero_le _) (Nat.zero_le _) dX0_common_1 ?_
  refine lv_lstore (lv' := [(4, .long (labs a0)), (0, .long a0), (2, .long a2)]) hx hb dX0_common_4 hl (by decide) rfl (fun ls hl => ?_)
  refine lv_lload_n hx hb dX0_common_6 rfl (lv_at hl 2 rfl) ?_
  refine va_mabs_long hx hb (hml.trans hl.1.symm) hown (hts _ q1013) (hts _ q1014) (hts _ q123) (hts _ q1015) (Nat.le_of_ble_eq_true rfl) (Nat.le_of_ble_eq_true rfl) (Nat.zero_le _) (Nat.zero_le _) dX0_common_7 ?_
  refine lv_lstore (lv' := [(6, .long (labs a2)), (4, .long (labs a0)), (0, .long a0), (2, .long a2)]) hx hb dX0_common_10 hl (by decide) rfl (fun ls hl => ?_)
  have J12 : ∀ (k12 : Nat) (x1 : Int64) (x2 : Int64) (H : Heap) (locs : List Loc) (ls : Array Slot), Rep G sh g gl gr n H → va_S (own G) s.heap H locs → lv_has ls 10 [(4, .long x1), (6, .long x2)] → l_X0_common_12  k12 x1 x2 = some r → W p l e rm_X0_common s m ([.long a0, .long a2] : List Value).toArray below meth c H locs 0 0 (MQ below (QR G (some (.long r)) sh g gl gr n) ([.long a0, .long a2] : List Value).toArray s rm_X0_common.cells rm_X0_common.slots (own G)) (F0 m 12 ls []) := by
    intro k12
    induction k12 with
    | zero => intro _ _ _ _ _ _ _ _; exact nofun
    | succ k12 ih12 =>
      intro x1 x2 H locs ls hR hS hl h
      unfold l_X0_common_12 b_X0_common_12 at h
      refine lv_lload hx hb dX0_common_12 (lv_at hl 1 rfl) ?_
      refine lv_lconst (v := 0) hx hb dX0_common_14 rfl ?_
      refine W.lcmp hx hb dX0_common_15 ?_
      refine lv_if_eq (tgt := 37) hx hb dX0_common_16 (by decide) (fun c3 => ?_) (fun c3 => ?_)
      · replace h := ifp h c3
        refine lv_lload hx hb dX0_common_37 (lv_at hl 0 rfl) ?_
        obtain rfl := s1i h
        exact r_lret0 hx hb hr hlk hR hS (Nat.zero_le _) (Nat.zero_le _) dX0_common_39
      · replace h := ifn h c3
        refine lv_lload hx hb dX0_common_19 (lv_at hl 0 rfl) ?_
        refine lv_lload hx hb dX0_common_21 (lv_at hl 1 rfl) ?_
        obtain ⟨c4, h⟩ := ogrd h
        refine lv_lrem hx hb dX0_common_23 c4 ?_
        refine lv_lstore (lv' := [(8, .long (x1 - x1 / x2 * x2)), (4, .long x1), (6, .long x2)]) hx hb dX0_common_24 hl (by decide) rfl (fun ls hl => ?_)
        refine lv_lload hx hb dX0_common_26 (lv_at hl 2 rfl) ?_
        refine lv_lstore (lv' := [(4, .long x2), (8, .long (x1 - x1 / x2 * x2)), (6, .long x2)]) hx hb dX0_common_28 hl (by decide) rfl (fun ls hl => ?_)
        refine lv_lload hx hb dX0_common_30 (lv_at hl 1 rfl) ?_
        refine lv_lstore (lv' := [(6, .long (x1 - x1 / x2 * x2)), (4, .long x2), (8, .long (x1 - x1 / x2 * x2))]) hx hb dX0_common_32 hl (by decide) rfl (fun ls hl => ?_)
        refine lv_goto (tgt := 12) hx hb dX0_common_34 (by decide) ?_
        exact ih12 x2 (x1 - x1 / x2 * x2) _ _ _ hR hS (lv_sub hl [1, 0] rfl) h
  exact J12 fuel (labs a0) (labs a2) _ _ _ hR hS (lv_sub hl [1, 0] rfl) h
def rm_X0_partOf : Room := { frames := 2, cells := 0, slots := 0, locals := 69 }
theorem he_X0_partOf : yX0_partOf.cls ≠ "java/lang/invoke/MethodHandle" ∧ yX0_partOf.cls ≠ "java/lang/invoke/VarHandle" ∧ (parseMethodDescriptor yX0_partOf.desc).map (fun d => d.parameters.length) = some 3 := by decide +kernel

set_option maxHeartbeats 4000000 in
set_option maxRecDepth 100000 in
theorem w_X0_partOf {l : Launch} {G : Gx} {sh : SM} {g : GM} {gl : LM} {gr : RM} {n : Nat} (hSk : Sk sh gr) (a0 : Int64) (a2 : Int64) (a4 : Int32)  {r : Int64} (h : f_X0_partOf  a0 a2 a4 = some r) : MetI l G yX0_partOf (ws_ yX0_partOf cX0_partOf 7 (Option.some Jvm.ClassFile.FieldType.long)) rm_X0_partOf [.long a0, .long a2, .int a4] sh g gl gr n (some (.long r)) sh g gl gr n := by
  refine MetI.of (by decide) (Nat.le_of_ble_eq_true rfl) ?_
  intro p e s m below meth c ls hx hb hr hml hown hts hlk hnm hW hK hR hS hl
  have hown : s.vm.findClass RX0 = some m.cls := hown
  have hF : CallFix p m c cX0_partOf 7 s ([.long a0, .long a2, .int a4] : List Value).toArray lw_all RX0 := ⟨hx, hb, hml, hown, hts⟩
  have hl : lv_has ls 7 [(0, .long a0), (2, .long a2), (4, .int a4)] := hl
  unfold f_X0_partOf at h
  refine lv_lload_n hx hb dX0_partOf_0 rfl (lv_at hl 0 rfl) ?_
  refine lv_lload_n hx hb dX0_partOf_1 rfl (lv_at hl 1 rfl) ?_
  obtain ⟨r2, e1, h⟩ := obd h
  refine rc_S0 (rest := []) (st1 := [.long r2]) hF (w_X0_common hSk a0 a2 e1) (va_cwS 2 hts (lw_S q1010 q1011 q100 q1012) rfl rfl rfl he_X0_common ⟨Nat.le_of_ble_eq_true rfl, Nat.le_of_ble_eq_true rfl⟩) hW hR hS rfl hl.1 rfl (Nat.le_of_ble_eq_true rfl) rfl dX0_partOf_2 ⟨rfl, rfl⟩ ⟨Nat.zero_le _, Nat.zero_le _⟩ (fun H locs hR hS => ?_)
  refine lv_lstore (lv' := [(5, .long r2), (0, .long a0), (2, .long a2), (4, .int a4)]) hx hb dX0_partOf_5 hl (by decide) rfl (fun ls hl => ?_)
  refine lv_iload hx hb dX0_partOf_7 (lv_at hl 3 rfl) ?_
  have J23 : ∀ (x3 : Int64) (H : Heap) (locs : List Loc) (ls : Array Slot), Rep G sh g gl gr n H → va_S (own G) s.heap H locs → lv_has ls 7 [] → j_X0_partOf_23  x3 = some r → W p l e rm_X0_partOf s m ([.long a0, .long a2, .int a4] : List Value).toArray below meth c H locs 0 0 (MQ below (QR G (some (.long r)) sh g gl gr n) ([.long a0, .long a2, .int a4] : List Value).toArray s rm_X0_partOf.cells rm_X0_partOf.slots (own G)) (F0 m 23 ls [.long x3]) := by
    intro x3 H locs ls hR hS hl h
    unfold j_X0_partOf_23 at h
    obtain rfl := s1i h
    exact r_lret0 hx hb hr hlk hR hS (Nat.zero_le _) (Nat.zero_le _) dX0_partOf_23
  refine lv_if_ne (tgt := 19) hx hb dX0_partOf_9 (by decide) (fun c4 => ?_) (fun c4 => ?_)
  · replace h := ifn h c4
    refine lv_lload_n hx hb dX0_partOf_19 rfl (lv_at hl 2 rfl) ?_
    refine lv_lload hx hb dX0_partOf_20 (lv_at hl 0 rfl) ?_
    obtain ⟨c5, h⟩ := ogrd h
    refine lv_ldiv hx hb dX0_partOf_22 c5 ?_
    exact J23 (a2 / r2) _ _ _ hR hS (lv_sub hl [] rfl) h
  · replace h := ifp h c4
    refine lv_lload_n hx hb dX0_partOf_12 rfl (lv_at hl 1 rfl) ?_
    refine lv_lload hx hb dX0_partOf_13 (lv_at hl 0 rfl) ?_
    obtain ⟨c6, h⟩ := ogrd h
    refine lv_ldiv hx hb dX0_partOf_15 c6 ?_
    refine lv_goto (tgt := 23) hx hb dX0_partOf_16 (by decide) ?_
    exact J23 (a0 / r2) _ _ _ hR hS (lv_sub hl [] rfl) h
def rm_X0_hope : Room := { frames := 3, cells := 0, slots := 0, locals := 95 }
theorem hd_X0_hope : yX0_hope.cls = "IntentVats" ∧ yX0_hope.cls ≠ "java/lang/invoke/MethodHandle" ∧ yX0_hope.cls ≠ "java/lang/invoke/VarHandle" ∧ (parseMethodDescriptor yX0_hope.desc).map (fun d => d.parameters.length) = some 2 := by decide +kernel
theorem he_X0_hope : yX0_hope.cls ≠ "java/lang/invoke/MethodHandle" ∧ yX0_hope.cls ≠ "java/lang/invoke/VarHandle" ∧ (parseMethodDescriptor yX0_hope.desc).map (fun d => d.parameters.length) = some 2 := hd_X0_hope.2

set_option maxHeartbeats 4000000 in
set_option maxRecDepth 100000 in
theorem w_X0_hope {l : Launch} {G : Gx} {sh : SM} {g : GM} {gl : LM} {gr : RM} {n : Nat} (hSk : Sk sh gr) (a1 : Int32) (a2 : Int32)  {r : Int64} (h : f_X0_hope g a1 a2 = some r) : MetI l G yX0_hope (ws_ yX0_hope cX0_hope 3 (Option.some Jvm.ClassFile.FieldType.long)) rm_X0_hope [.ref (adr G 64), .int a1, .int a2] sh g gl gr n (some (.long r)) sh g gl gr n := by
  refine MetI.of (by decide) (Nat.le_of_ble_eq_true rfl) ?_
  intro p e s m below meth c ls hx hb hr hml hown hts hlk hnm hW hK hR hS hl
  have hown : s.vm.findClass RX0 = some m.cls := hown
  have hF : CallFix p m c cX0_hope 3 s ([.ref (adr G 64), .int a1, .int a2] : List Value).toArray lw_all RX0 := ⟨hx, hb, hml, hown, hts⟩
  have hl : lv_has ls 3 [(0, .ref (adr G 64)), (1, .int a1), (2, .int a2)] := hl
  unfold f_X0_hope at h
  refine lv_iload_n hx hb dX0_hope_0 rfl (lv_at hl 1 rfl) ?_
  refine lv_iconst (v := 0) hx hb dX0_hope_1 ki_0 ?_
  refine lv_bipush (v := 99) hx hb dX0_hope_2 kb_99 ?_
  obtain ⟨r2, e1, h⟩ := obd h
  refine rc_S0 (rest := []) (st1 := [.int r2]) hF (w_X0_in hSk a1 0 99 e1) (va_cwS 3 hts (lw_S q508 q509 q100 q510) rfl rfl rfl he_X0_in ⟨Nat.le_of_ble_eq_true rfl, Nat.le_of_ble_eq_true rfl⟩) hW hR hS rfl hl.1 rfl (Nat.le_of_ble_eq_true rfl) rfl dX0_hope_4 ⟨rfl, rfl⟩ ⟨Nat.zero_le _, Nat.zero_le _⟩ (fun H locs hR hS => ?_)
  have J19 : ∀  (H : Heap) (locs : List Loc) (ls : Array Slot), Rep G sh g gl gr n H → va_S (own G) s.heap H locs → lv_has ls 3 [] → j_X0_hope_19   = some r → W p l e rm_X0_hope s m ([.ref (adr G 64), .int a1, .int a2] : List Value).toArray below meth c H locs 0 0 (MQ below (QR G (some (.long r)) sh g gl gr n) ([.ref (adr G 64), .int a1, .int a2] : List Value).toArray s rm_X0_hope.cells rm_X0_hope.slots (own G)) (F0 m 19 ls []) := by
    intro  H locs ls hR hS hl h
    unfold j_X0_hope_19 at h
    refine lv_ldc2 (v := (-1)) hx hb hown (hts _ q995) dX0_hope_19 ?_
    obtain rfl := s1i h
    exact r_lret0 hx hb hr hlk hR hS (Nat.zero_le _) (Nat.zero_le _) dX0_hope_22
  refine lv_if_eq (tgt := 19) hx hb dX0_hope_7 (by decide) (fun c3 => ?_) (fun c3 => ?_)
  · replace h := ifp h c3
    exact J19  _ _ _ hR hS (lv_sub hl [] rfl) h
  · replace h := ifn h c3
    refine lv_iload_n hx hb dX0_hope_10 rfl (lv_at hl 2 rfl) ?_
    refine lv_iconst (v := 0) hx hb dX0_hope_11 ki_0 ?_
    refine lv_iconst (v := 1) hx hb dX0_hope_12 ki_1 ?_
    obtain ⟨r5, e4, h⟩ := obd h
    refine rc_S0 (rest := []) (st1 := [.int r5]) hF (w_X0_in hSk a2 0 1 e4) (va_cwS 3 hts (lw_S q508 q509 q100 q510) rfl rfl rfl he_X0_in ⟨Nat.le_of_ble_eq_true rfl, Nat.le_of_ble_eq_true rfl⟩) hW hR hS rfl hl.1 rfl (Nat.le_of_ble_eq_true rfl) rfl dX0_hope_13 ⟨rfl, rfl⟩ ⟨Nat.zero_le _, Nat.zero_le _⟩ (fun H locs hR hS => ?_)
    refine lv_if_ne (tgt := 23) hx hb dX0_hope_16 (by decide) (fun c6 => ?_) (fun c6 => ?_)
    · replace h := ifn h c6
      refine lv_iload_n hx hb dX0_hope_23 rfl (lv_at hl 1 rfl) ?_
      refine lv_i2l hx hb dX0_hope_24 rfl ?_
      refine lv_aload_n hx hb dX0_hope_25 rfl (lv_at hl 0 rfl) ?_
      refine r_getr hx hb hts cfX0 hown hK hR (sk_64 hSk) 0 (by decide) rfl (sr_64_0 hSk) (hts _ q449) (fun _ h => h) dX0_hope_26 ?_
      refine r_getrN hx hb hts cfX1 hown hK hR (sk_65 hSk) 4 (by decide) rfl (sr_65_4 hSk) (hW.nestF q169) (fun _ h => h) dX0_hope_29 ?_
      refine lv_iconst (v := 3) hx hb dX0_hope_32 ki_3 ?_
      obtain ⟨v8, e7, h⟩ := obd h
      refine r_ldi hx hb hK hR (sk_66 hSk) e7 dX0_hope_33 ?_
      refine lv_i2l hx hb dX0_hope_34 rfl ?_
      refine lv_lmul hx hb dX0_hope_35 ?_
      refine lv_ldc2 (v := 100) hx hb hown (hts _ q1006) dX0_hope_36 ?_
      refine lv_iload_n hx hb dX0_hope_39 rfl (lv_at hl 2 rfl) ?_
      obtain ⟨r10, e9, h⟩ := obd h
      refine rc_S0 (rest := []) (st1 := [.long r10]) hF (w_X0_partOf hSk (a1.toInt64 * v8.toInt64) 100 a2 e9) (va_cwS 3 hts (lw_S q1007 q1008 q100 q1009) rfl rfl rfl he_X0_partOf ⟨Nat.le_of_ble_eq_true rfl, Nat.le_of_ble_eq_true rfl⟩) hW hR hS rfl hl.1 rfl (Nat.le_of_ble_eq_true rfl) rfl dX0_hope_40 ⟨rfl, rfl⟩ ⟨Nat.zero_le _, Nat.zero_le _⟩ (fun H locs hR hS => ?_)
      obtain rfl := s1i h
      exact r_lret0 hx hb hr hlk hR hS (Nat.zero_le _) (Nat.zero_le _) dX0_hope_43
    · replace h := ifp h c6
      exact J19  _ _ _ hR hS (lv_sub hl [] rfl) h
def rm_X0_isRow : Room := { frames := 2, cells := 0, slots := 0, locals := 34 }
theorem hd_X0_isRow : yX0_isRow.cls = "IntentVats" ∧ yX0_isRow.cls ≠ "java/lang/invoke/MethodHandle" ∧ yX0_isRow.cls ≠ "java/lang/invoke/VarHandle" ∧ (parseMethodDescriptor yX0_isRow.desc).map (fun d => d.parameters.length) = some 2 := by decide +kernel
theorem he_X0_isRow : yX0_isRow.cls ≠ "java/lang/invoke/MethodHandle" ∧ yX0_isRow.cls ≠ "java/lang/invoke/VarHandle" ∧ (parseMethodDescriptor yX0_isRow.desc).map (fun d => d.parameters.length) = some 2 := hd_X0_isRow.2

set_option maxHeartbeats 4000000 in
set_option maxRecDepth 100000 in
theorem w_X0_isRow {l : Launch} {G : Gx} {sh : SM} {g : GM} {gl : LM} {gr : RM} {n : Nat} (hSk : Sk sh gr) (a1 : Int32) (a2 : Int32)  {r : Int32} (h : f_X0_isRow g a1 a2 = some r) : MetI l G yX0_isRow (ws_ yX0_isRow cX0_isRow 3 (Option.some Jvm.ClassFile.FieldType.boolean)) rm_X0_isRow [.ref (adr G 64), .int a1, .int a2] sh g gl gr n (some (.int r)) sh g gl gr n := by
  refine MetI.of (by decide) (Nat.le_of_ble_eq_true rfl) ?_
  intro p e s m below meth c ls hx hb hr hml hown hts hlk hnm hW hK hR hS hl
  have hown : s.vm.findClass RX0 = some m.cls := hown
  have hF : CallFix p m c cX0_isRow 3 s ([.ref (adr G 64), .int a1, .int a2] : List Value).toArray lw_all RX0 := ⟨hx, hb, hml, hown, hts⟩
  have hl : lv_has ls 3 [(0, .ref (adr G 64)), (1, .int a1), (2, .int a2)] := hl
  unfold f_X0_isRow at h
  refine lv_iload_n hx hb dX0_isRow_0 rfl (lv_at hl 1 rfl) ?_
  refine lv_iconst (v := 0) hx hb dX0_isRow_1 ki_0 ?_
  refine lv_aload_n hx hb dX0_isRow_2 rfl (lv_at hl 0 rfl) ?_
  refine r_geti hx hb hts cfX0 hown hK hR (sk_64 hSk) 10 (by decide) rfl (hts _ q459) (fun _ h => h) dX0_isRow_3 ?_
  refine lv_iconst (v := 1) hx hb dX0_isRow_6 ki_1 ?_
  refine lv_isub hx hb dX0_isRow_7 ?_
  obtain ⟨r2, e1, h⟩ := obd h
  refine rc_S0 (rest := []) (st1 := [.int r2]) hF (w_X0_in hSk a1 0 ((g 64 10) - 1) e1) (va_cwS 3 hts (lw_S q508 q509 q100 q510) rfl rfl rfl he_X0_in ⟨Nat.le_of_ble_eq_true rfl, Nat.le_of_ble_eq_true rfl⟩) hW hR hS rfl hl.1 rfl (Nat.le_of_ble_eq_true rfl) rfl dX0_isRow_8 ⟨rfl, rfl⟩ ⟨Nat.zero_le _, Nat.zero_le _⟩ (fun H locs hR hS => ?_)
  have J28 : ∀ (x3 : Int32) (H : Heap) (locs : List Loc) (ls : Array Slot), Rep G sh g gl gr n H → va_S (own G) s.heap H locs → lv_has ls 3 [] → j_X0_isRow_28  x3 = some r → W p l e rm_X0_isRow s m ([.ref (adr G 64), .int a1, .int a2] : List Value).toArray below meth c H locs 0 0 (MQ below (QR G (some (.int r)) sh g gl gr n) ([.ref (adr G 64), .int a1, .int a2] : List Value).toArray s rm_X0_isRow.cells rm_X0_isRow.slots (own G)) (F0 m 28 ls [.int x3]) := by
    intro x3 H locs ls hR hS hl h
    unfold j_X0_isRow_28 at h
    obtain ⟨c4, h⟩ := ogrd h
    obtain rfl := s1i h
    exact r_zret0 hx hb hr hlk hR hS (Nat.zero_le _) (Nat.zero_le _) (nb01 c4) dX0_isRow_28
  have J27 : ∀  (H : Heap) (locs : List Loc) (ls : Array Slot), Rep G sh g gl gr n H → va_S (own G) s.heap H locs → lv_has ls 3 [] → j_X0_isRow_27   = some r → W p l e rm_X0_isRow s m ([.ref (adr G 64), .int a1, .int a2] : List Value).toArray below meth c H locs 0 0 (MQ below (QR G (some (.int r)) sh g gl gr n) ([.ref (adr G 64), .int a1, .int a2] : List Value).toArray s rm_X0_isRow.cells rm_X0_isRow.slots (own G)) (F0 m 27 ls []) := by
    intro  H locs ls hR hS hl h
    unfold j_X0_isRow_27 at h
    refine lv_iconst (v := 0) hx hb dX0_isRow_27 ki_0 ?_
    exact J28 0 _ _ _ hR hS (lv_sub hl [] rfl) h
  refine lv_if_eq (tgt := 27) hx hb dX0_isRow_11 (by decide) (fun c5 => ?_) (fun c5 => ?_)
  · replace h := ifp h c5
    exact J27  _ _ _ hR hS (lv_sub hl [] rfl) h
  · replace h := ifn h c5
    refine lv_iload_n hx hb dX0_isRow_14 rfl (lv_at hl 2 rfl) ?_
    refine lv_iconst (v := 0) hx hb dX0_isRow_15 ki_0 ?_
    refine lv_iconst (v := 2) hx hb dX0_isRow_16 ki_2 ?_
    obtain ⟨r7, e6, h⟩ := obd h
    refine rc_S0 (rest := []) (st1 := [.int r7]) hF (w_X0_in hSk a2 0 2 e6) (va_cwS 3 hts (lw_S q508 q509 q100 q510) rfl rfl rfl he_X0_in ⟨Nat.le_of_ble_eq_true rfl, Nat.le_of_ble_eq_true rfl⟩) hW hR hS rfl hl.1 rfl (Nat.le_of_ble_eq_true rfl) rfl dX0_isRow_17 ⟨rfl, rfl⟩ ⟨Nat.zero_le _, Nat.zero_le _⟩ (fun H locs hR hS => ?_)
    refine lv_if_eq (tgt := 27) hx hb dX0_isRow_20 (by decide) (fun c8 => ?_) (fun c8 => ?_)
    · replace h := ifp h c8
      exact J27  _ _ _ hR hS (lv_sub hl [] rfl) h
    · replace h := ifn h c8
      refine lv_iconst (v := 1) hx hb dX0_isRow_23 ki_1 ?_
      refine lv_goto (tgt := 28) hx hb dX0_isRow_24 (by decide) ?_
      exact J28 1 _ _ _ hR hS (lv_sub hl [] rfl) h
def rm_X0_row : Room := { frames := 3, cells := 0, slots := 0, locals := 56 }
theorem hd_X0_row : yX0_row.cls = "IntentVats" ∧ yX0_row.cls ≠ "java/lang/invoke/MethodHandle" ∧ yX0_row.cls ≠ "java/lang/invoke/VarHandle" ∧ (parseMethodDescriptor yX0_row.desc).map (fun d => d.parameters.length) = some 2 := by decide +kernel
theorem he_X0_row : yX0_row.cls ≠ "java/lang/invoke/MethodHandle" ∧ yX0_row.cls ≠ "java/lang/invoke/VarHandle" ∧ (parseMethodDescriptor yX0_row.desc).map (fun d => d.parameters.length) = some 2 := hd_X0_row.2

set_option maxHeartbeats 4000000 in
set_option maxRecDepth 100000 in
theorem w_X0_row {l : Launch} {G : Gx} {sh : SM} {g : GM} {gl : LM} {gr : RM} {n : Nat} (hSk : Sk sh gr) (a1 : Int32) (a2 : Int32)  {r : Int32} (h : f_X0_row sh g gr a1 a2 = some r) : MetI l G yX0_row (ws_ yX0_row cX0_row 3 (Option.some Jvm.ClassFile.FieldType.int)) rm_X0_row [.ref (adr G 64), .int a1, .int a2] sh g gl gr n (some (.int r)) sh g gl gr n := by
  refine MetI.of (by decide) (Nat.le_of_ble_eq_true rfl) ?_
  intro p e s m below meth c ls hx hb hr hml hown hts hlk hnm hW hK hR hS hl
  have hown : s.vm.findClass RX0 = some m.cls := hown
  have hF : CallFix p m c cX0_row 3 s ([.ref (adr G 64), .int a1, .int a2] : List Value).toArray lw_all RX0 := ⟨hx, hb, hml, hown, hts⟩
  have hl : lv_has ls 3 [(0, .ref (adr G 64)), (1, .int a1), (2, .int a2)] := hl
  unfold f_X0_row at h
  refine lv_aload_n hx hb dX0_row_0 rfl (lv_at hl 0 rfl) ?_
  refine lv_iload_n hx hb dX0_row_1 rfl (lv_at hl 1 rfl) ?_
  refine lv_iload_n hx hb dX0_row_2 rfl (lv_at hl 2 rfl) ?_
  obtain ⟨r2, e1, h⟩ := obd h
  refine rc_V0 (rest := []) (st1 := [.int r2]) hF (w_X0_isRow hSk a1 a2 e1) (cwV 2 hts (lw_V q1024 q1026 qs29 q100 q1027) rfl rfl rfl hd_X0_isRow ⟨Nat.le_of_ble_eq_true rfl, Nat.le_of_ble_eq_true rfl⟩) cfX0 (sk_64 hSk) hK hW hR hS rfl hl.1 rfl (Nat.le_of_ble_eq_true rfl) rfl dX0_row_3 ⟨rfl, rfl⟩ ⟨Nat.zero_le _, Nat.zero_le _⟩ (fun H locs hR hS => ?_)
  have J25 : ∀ (x3 : Int32) (H : Heap) (locs : List Loc) (ls : Array Slot), Rep G sh g gl gr n H → va_S (own G) s.heap H locs → lv_has ls 3 [] → j_X0_row_25  x3 = some r → W p l e rm_X0_row s m ([.ref (adr G 64), .int a1, .int a2] : List Value).toArray below meth c H locs 0 0 (MQ below (QR G (some (.int r)) sh g gl gr n) ([.ref (adr G 64), .int a1, .int a2] : List Value).toArray s rm_X0_row.cells rm_X0_row.slots (own G)) (F0 m 25 ls [.int x3]) := by
    intro x3 H locs ls hR hS hl h
    unfold j_X0_row_25 at h
    obtain rfl := s1i h
    exact r_iret0 hx hb hr hlk hR hS (Nat.zero_le _) (Nat.zero_le _) dX0_row_25
  refine lv_if_eq (tgt := 23) hx hb dX0_row_6 (by decide) (fun c4 => ?_) (fun c4 => ?_)
  · replace h := ifp h c4
    refine lv_bipush (v := (-9)) hx hb dX0_row_23 kb_m9 ?_
    exact J25 (-9) _ _ _ hR hS (lv_sub hl [] rfl) h
  · replace h := ifn h c4
    refine lv_aload_n hx hb dX0_row_9 rfl (lv_at hl 0 rfl) ?_
    refine r_getr hx hb hts cfX0 hown hK hR (sk_64 hSk) 9 (by decide) rfl (sr_64_9 hSk) (hts _ q458) (fun _ h => h) dX0_row_10 ?_
    refine lv_iload_n hx hb dX0_row_13 rfl (lv_at hl 1 rfl) ?_
    obtain ⟨o6, e5, h⟩ := obd h
    obtain ⟨v8, e7, h⟩ := obd h
    subst e7
    refine r_ldo hx hb hK hR (sk_113 hSk) (by decide) (by decide) 6 rfl (v := some v8) e5 dX0_row_14 ?_
    refine W.eq (g2 := F0 m 15 ls [.ref (adr G v8)]) rfl ?_
    obtain ⟨c9, h⟩ := ogrd h
    obtain ⟨v11, e10, h⟩ := obd h
    refine r_getrN hx hb hts cfX15 hown hK hR c9 0 (by decide) rfl e10 (hW.nestF q1046) (fun _ h => h) dX0_row_15 ?_
    refine lv_iload_n hx hb dX0_row_18 rfl (lv_at hl 2 rfl) ?_
    obtain ⟨c12, h⟩ := ogrd h
    obtain ⟨v14, e13, h⟩ := obd h
    refine r_ldi hx hb hK hR (shp c12) e13 dX0_row_19 ?_
    refine lv_goto (tgt := 25) hx hb dX0_row_20 (by decide) ?_
    exact J25 v14 _ _ _ hR hS (lv_sub hl [] rfl) h
def rm_X0_alterRow : Room := { frames := 3, cells := 0, slots := 0, locals := 56 }
theorem hd_X0_alterRow : yX0_alterRow.cls = "IntentVats" ∧ yX0_alterRow.cls ≠ "java/lang/invoke/MethodHandle" ∧ yX0_alterRow.cls ≠ "java/lang/invoke/VarHandle" ∧ (parseMethodDescriptor yX0_alterRow.desc).map (fun d => d.parameters.length) = some 3 := by decide +kernel
theorem he_X0_alterRow : yX0_alterRow.cls ≠ "java/lang/invoke/MethodHandle" ∧ yX0_alterRow.cls ≠ "java/lang/invoke/VarHandle" ∧ (parseMethodDescriptor yX0_alterRow.desc).map (fun d => d.parameters.length) = some 3 := hd_X0_alterRow.2

set_option maxHeartbeats 4000000 in
set_option maxRecDepth 100000 in
theorem w_X0_alterRow {l : Launch} {G : Gx} {sh : SM} {g : GM} {gl : LM} {gr : RM} {n : Nat} (hSk : Sk sh gr) (a1 : Int32) (a2 : Int32) (a3 : Int32)  {r : Int32} {go : GM} (h : f_X0_alterRow sh g gr a1 a2 a3 = some (r, go)) : MetI l G yX0_alterRow (ws_ yX0_alterRow cX0_alterRow 5 (Option.some Jvm.ClassFile.FieldType.int)) rm_X0_alterRow [.ref (adr G 64), .int a1, .int a2, .int a3] sh g gl gr n (some (.int r)) sh go gl gr n := by
  refine MetI.of (by decide) (Nat.le_of_ble_eq_true rfl) ?_
  intro p e s m below meth c ls hx hb hr hml hown hts hlk hnm hW hK hR hS hl
  have hown : s.vm.findClass RX0 = some m.cls := hown
  have hF : CallFix p m c cX0_alterRow 5 s ([.ref (adr G 64), .int a1, .int a2, .int a3] : List Value).toArray lw_all RX0 := ⟨hx, hb, hml, hown, hts⟩
  have hl : lv_has ls 5 [(0, .ref (adr G 64)), (1, .int a1), (2, .int a2), (3, .int a3)] := hl
  unfold f_X0_alterRow at h
  refine lv_aload_n hx hb dX0_alterRow_0 rfl (lv_at hl 0 rfl) ?_
  refine lv_iload_n hx hb dX0_alterRow_1 rfl (lv_at hl 1 rfl) ?_
  refine lv_iload_n hx hb dX0_alterRow_2 rfl (lv_at hl 2 rfl) ?_
  obtain ⟨r2, e1, h⟩ := obd h
  refine rc_V0 (rest := []) (st1 := [.int r2]) hF (w_X0_isRow hSk a1 a2 e1) (cwV 2 hts (lw_V q1024 q1026 qs29 q100 q1027) rfl rfl rfl hd_X0_isRow ⟨Nat.le_of_ble_eq_true rfl, Nat.le_of_ble_eq_true rfl⟩) cfX0 (sk_64 hSk) hK hW hR hS rfl hl.1 rfl (Nat.le_of_ble_eq_true rfl) rfl dX0_alterRow_3 ⟨rfl, rfl⟩ ⟨Nat.zero_le _, Nat.zero_le _⟩ (fun H locs hR hS => ?_)
  refine lv_if_ne (tgt := 12) hx hb dX0_alterRow_6 (by decide) (fun c3 => ?_) (fun c3 => ?_)
  · replace h := ifn h c3
    refine lv_aload_n hx hb dX0_alterRow_12 rfl (lv_at hl 0 rfl) ?_
    refine r_getr hx hb hts cfX0 hown hK hR (sk_64 hSk) 9 (by decide) rfl (sr_64_9 hSk) (hts _ q458) (fun _ h => h) dX0_alterRow_13 ?_
    refine lv_iload_n hx hb dX0_alterRow_16 rfl (lv_at hl 1 rfl) ?_
    obtain ⟨o5, e4, h⟩ := obd h
    obtain ⟨v7, e6, h⟩ := obd h
    subst e6
    refine r_ldo hx hb hK hR (sk_113 hSk) (by decide) (by decide) 6 rfl (v := some v7) e4 dX0_alterRow_17 ?_
    refine W.eq (g2 := F0 m 18 ls [.ref (adr G v7)]) rfl ?_
    obtain ⟨c8, h⟩ := ogrd h
    obtain ⟨v10, e9, h⟩ := obd h
    refine r_getrN hx hb hts cfX15 hown hK hR c8 0 (by decide) rfl e9 (hW.nestF q1046) (fun _ h => h) dX0_alterRow_18 ?_
    refine lv_iload_n hx hb dX0_alterRow_21 rfl (lv_at hl 2 rfl) ?_
    obtain ⟨c11, h⟩ := ogrd h
    obtain ⟨v13, e12, h⟩ := obd h
    refine r_ldi hx hb hK hR (shp c11) e12 dX0_alterRow_22 ?_
    refine lv_istore (lv' := [(4, .int v13), (0, .ref (adr G 64)), (1, .int a1), (2, .int a2), (3, .int a3)]) hx hb dX0_alterRow_23 hl (by decide) rfl (fun ls hl => ?_)
    refine lv_aload_n hx hb dX0_alterRow_25 rfl (lv_at hl 1 rfl) ?_
    refine r_getr hx hb hts cfX0 hown hK hR (sk_64 hSk) 9 (by decide) rfl (sr_64_9 hSk) (hts _ q458) (fun _ h => h) dX0_alterRow_26 ?_
    refine lv_iload_n hx hb dX0_alterRow_29 rfl (lv_at hl 2 rfl) ?_
    obtain ⟨o15, e14, h⟩ := obd h
    obtain ⟨v17, e16, h⟩ := obd h
    subst e16
    refine r_ldo hx hb hK hR (sk_113 hSk) (by decide) (by decide) 6 rfl (v := some v17) e14 dX0_alterRow_30 ?_
    refine W.eq (g2 := F0 m 31 ls [.ref (adr G v17)]) rfl ?_
    obtain ⟨c18, h⟩ := ogrd h
    obtain ⟨v20, e19, h⟩ := obd h
    refine r_getrN hx hb hts cfX15 hown hK hR c18 0 (by decide) rfl e19 (hW.nestF q1046) (fun _ h => h) dX0_alterRow_31 ?_
    refine lv_iload_n hx hb dX0_alterRow_34 rfl (lv_at hl 3 rfl) ?_
    refine lv_iload_n hx hb dX0_alterRow_35 rfl (lv_at hl 4 rfl) ?_
    obtain ⟨c21, h⟩ := ogrd h
    obtain ⟨g23, e22, h⟩ := obd h
    refine r_sti hx hb hK hR hS (shp c21) e22 dX0_alterRow_36 (fun H locs hR hS => ?_)
    refine lv_iload hx hb dX0_alterRow_37 (lv_at hl 0 rfl) ?_
    obtain ⟨rfl, rfl⟩ := s2i h
    exact r_iret0 hx hb hr hlk hR hS (Nat.zero_le _) (Nat.zero_le _) dX0_alterRow_39
  · replace h := ifp h c3
    refine lv_bipush (v := (-9)) hx hb dX0_alterRow_9 kb_m9 ?_
    obtain ⟨rfl, rfl⟩ := s2i h
    exact r_iret0 hx hb hr hlk hR hS (Nat.zero_le _) (Nat.zero_le _) dX0_alterRow_11
def rm_X0_goesAs : Room := { frames := 9, cells := 0, slots := 0, locals := 349 }
theorem hd_X0_goesAs : yX0_goesAs.cls = "IntentVats" ∧ yX0_goesAs.cls ≠ "java/lang/invoke/MethodHandle" ∧ yX0_goesAs.cls ≠ "java/lang/invoke/VarHandle" ∧ (parseMethodDescriptor yX0_goesAs.desc).map (fun d => d.parameters.length) = some 3 := by decide +kernel
theorem he_X0_goesAs : yX0_goesAs.cls ≠ "java/lang/invoke/MethodHandle" ∧ yX0_goesAs.cls ≠ "java/lang/invoke/VarHandle" ∧ (parseMethodDescriptor yX0_goesAs.desc).map (fun d => d.parameters.length) = some 3 := hd_X0_goesAs.2

set_option maxHeartbeats 4000000 in
set_option maxRecDepth 100000 in
theorem w_X0_goesAs {l : Launch} {G : Gx} {sh : SM} {g : GM} {gl : LM} {gr : RM} {n : Nat} (hSk : Sk sh gr) (b1 : Nat) (a2 : Int32) (a3 : Nat) (hm_b1 : isMl b1) (hs_a3 : sh a3 = (1, 3)) {go : GM} (h : f_X0_goesAs g b1 a2 a3 = some go) : MetI l G yX0_goesAs (ws_ yX0_goesAs cX0_goesAs 4 (Option.none : Option Jvm.ClassFile.FieldType)) rm_X0_goesAs [.ref (adr G 64), .ref (adr G b1), .int a2, .ref (adr G a3)] sh g gl gr n none sh go gl gr n := by
  refine MetI.of (by decide) (Nat.le_of_ble_eq_true rfl) ?_
  intro p e s m below meth c ls hx hb hr hml hown hts hlk hnm hW hK hR hS hl
  have hown : s.vm.findClass RX0 = some m.cls := hown
  have hF : CallFix p m c cX0_goesAs 4 s ([.ref (adr G 64), .ref (adr G b1), .int a2, .ref (adr G a3)] : List Value).toArray lw_all RX0 := ⟨hx, hb, hml, hown, hts⟩
  have hl : lv_has ls 4 [(0, .ref (adr G 64)), (1, .ref (adr G b1)), (2, .int a2), (3, .ref (adr G a3))] := hl
  unfold f_X0_goesAs at h
  refine lv_aload_n hx hb dX0_goesAs_0 rfl (lv_at hl 0 rfl) ?_
  refine lv_aload_n hx hb dX0_goesAs_1 rfl (lv_at hl 1 rfl) ?_
  obtain ⟨g2, e1, h⟩ := obd h
  refine rc_V0 (rest := []) (st1 := []) hF (w_X0_dayGoes hSk b1 hm_b1 e1) (cwV 1 hts (lw_V q849 q851 qs19 q100 q852) rfl rfl rfl hd_X0_dayGoes ⟨Nat.le_of_ble_eq_true rfl, Nat.le_of_ble_eq_true rfl⟩) cfX0 (sk_64 hSk) hK hW hR hS rfl hl.1 rfl (Nat.le_of_ble_eq_true rfl) rfl dX0_goesAs_2 ⟨rfl, rfl⟩ ⟨Nat.zero_le _, Nat.zero_le _⟩ (fun H locs hR hS => ?_)
  refine lv_aload_n hx hb dX0_goesAs_5 rfl (lv_at hl 3 rfl) ?_
  refine lv_iconst (v := 0) hx hb dX0_goesAs_6 ki_0 ?_
  refine lv_iconst (v := 1) hx hb dX0_goesAs_7 ki_1 ?_
  refine lv_aload_n hx hb dX0_goesAs_8 rfl (lv_at hl 1 rfl) ?_
  refine r_getrN hx hb hts cfX1 hown hK hR (mls_0 hSk hm_b1) 9 (by decide) rfl (mlr_9 hSk hm_b1) (hW.nestF q183) (fun _ h => h) dX0_goesAs_9 ?_
  refine lv_iload_n hx hb dX0_goesAs_12 rfl (lv_at hl 2 rfl) ?_
  obtain ⟨v4, e3, h⟩ := obd h
  refine r_ldi hx hb hK hR (mls_6 hSk hm_b1) e3 dX0_goesAs_13 ?_
  refine lv_iadd hx hb dX0_goesAs_14 ?_
  obtain ⟨g6, e5, h⟩ := obd h
  refine r_sti hx hb hK hR hS hs_a3 e5 dX0_goesAs_15 (fun H locs hR hS => ?_)
  refine lv_aload_n hx hb dX0_goesAs_16 rfl (lv_at hl 3 rfl) ?_
  refine lv_iconst (v := 1) hx hb dX0_goesAs_17 ki_1 ?_
  refine lv_aload_n hx hb dX0_goesAs_18 rfl (lv_at hl 1 rfl) ?_
  refine r_getrN hx hb hts cfX1 hown hK hR (mls_0 hSk hm_b1) 10 (by decide) rfl (mlr_10 hSk hm_b1) (hW.nestF q186) (fun _ h => h) dX0_goesAs_19 ?_
  refine lv_iload_n hx hb dX0_goesAs_22 rfl (lv_at hl 2 rfl) ?_
  obtain ⟨v8, e7, h⟩ := obd h
  refine r_ldi hx hb hK hR (mls_7 hSk hm_b1) e7 dX0_goesAs_23 ?_
  obtain ⟨g10, e9, h⟩ := obd h
  refine r_sti hx hb hK hR hS hs_a3 e9 dX0_goesAs_24 (fun H locs hR hS => ?_)
  refine lv_aload_n hx hb dX0_goesAs_25 rfl (lv_at hl 3 rfl) ?_
  refine lv_iconst (v := 2) hx hb dX0_goesAs_26 ki_2 ?_
  refine lv_aload_n hx hb dX0_goesAs_27 rfl (lv_at hl 1 rfl) ?_
  obtain ⟨r12, e11, h⟩ := obd h
  refine rc_V0 (rest := [.int 2, .ref (adr G a3)]) (st1 := [.int r12, .int 2, .ref (adr G a3)]) hF (w_X1_depths hSk b1 hm_b1 e11) (cwV 0 hts (lw_V q857 q858 q859 q101 q860) rfl rfl rfl hd_X1_depths ⟨Nat.le_of_ble_eq_true rfl, Nat.le_of_ble_eq_true rfl⟩) cfX1 (mls_0 hSk hm_b1) hK hW hR hS rfl hl.1 rfl (Nat.le_of_ble_eq_true rfl) rfl dX0_goesAs_28 ⟨rfl, rfl⟩ ⟨Nat.zero_le _, Nat.zero_le _⟩ (fun H locs hR hS => ?_)
  obtain ⟨g14, e13, h⟩ := obd h
  refine r_sti hx hb hK hR hS hs_a3 e13 dX0_goesAs_31 (fun H locs hR hS => ?_)
  obtain rfl := s1i h
  exact r_vret0 hx hb hr hlk hR hS (Nat.zero_le _) (Nat.zero_le _) dX0_goesAs_32
def rm_X0_judge : Room := { frames := 10, cells := 0, slots := 0, locals := 372 }
theorem hd_X0_judge : yX0_judge.cls = "IntentVats" ∧ yX0_judge.cls ≠ "java/lang/invoke/MethodHandle" ∧ yX0_judge.cls ≠ "java/lang/invoke/VarHandle" ∧ (parseMethodDescriptor yX0_judge.desc).map (fun d => d.parameters.length) = some 1 := by decide +kernel
theorem he_X0_judge : yX0_judge.cls ≠ "java/lang/invoke/MethodHandle" ∧ yX0_judge.cls ≠ "java/lang/invoke/VarHandle" ∧ (parseMethodDescriptor yX0_judge.desc).map (fun d => d.parameters.length) = some 1 := hd_X0_judge.2

set_option maxHeartbeats 4000000 in
set_option maxRecDepth 100000 in
theorem w_X0_judge {l : Launch} {G : Gx} {sh : SM} {g : GM} {gl : LM} {gr : RM} {n : Nat} (hSk : Sk sh gr) (a1 : Int32)  {r : Int32} {go : GM} (h : f_X0_judge sh g gr a1 = some (r, go)) : MetI l G yX0_judge (ws_ yX0_judge cX0_judge 6 (Option.some Jvm.ClassFile.FieldType.int)) rm_X0_judge [.ref (adr G 64), .int a1] sh g gl gr n (some (.int r)) sh go gl gr n := by
  refine MetI.of (by decide) (Nat.le_of_ble_eq_true rfl) ?_
  intro p e s m below meth c ls hx hb hr hml hown hts hlk hnm hW hK hR hS hl
  have hown : s.vm.findClass RX0 = some m.cls := hown
  have hF : CallFix p m c cX0_judge 6 s ([.ref (adr G 64), .int a1] : List Value).toArray lw_all RX0 := ⟨hx, hb, hml, hown, hts⟩
  have hl : lv_has ls 6 [(0, .ref (adr G 64)), (1, .int a1)] := hl
  unfold f_X0_judge at h
  refine lv_aload_n hx hb dX0_judge_0 rfl (lv_at hl 0 rfl) ?_
  refine lv_iload_n hx hb dX0_judge_1 rfl (lv_at hl 1 rfl) ?_
  obtain ⟨r2, e1, h⟩ := obd h
  refine rc_V0 (rest := []) (st1 := [.int r2]) hF (w_X0_isCloth hSk a1 e1) (cwV 1 hts (lw_V q715 q717 qs15 q100 q718) rfl rfl rfl hd_X0_isCloth ⟨Nat.le_of_ble_eq_true rfl, Nat.le_of_ble_eq_true rfl⟩) cfX0 (sk_64 hSk) hK hW hR hS rfl hl.1 rfl (Nat.le_of_ble_eq_true rfl) rfl dX0_judge_2 ⟨rfl, rfl⟩ ⟨Nat.zero_le _, Nat.zero_le _⟩ (fun H locs hR hS => ?_)
  refine lv_if_ne (tgt := 10) hx hb dX0_judge_5 (by decide) (fun c3 => ?_) (fun c3 => ?_)
  · replace h := ifn h c3
    refine lv_aload_n hx hb dX0_judge_10 rfl (lv_at hl 0 rfl) ?_
    refine r_getr hx hb hts cfX0 hown hK hR (sk_64 hSk) 3 (by decide) rfl (sr_64_3 hSk) (hts _ q452) (fun _ h => h) dX0_judge_11 ?_
    refine lv_aload_n hx hb dX0_judge_14 rfl (lv_at hl 0 rfl) ?_
    refine r_getr hx hb hts cfX0 hown hK hR (sk_64 hSk) 0 (by decide) rfl (sr_64_0 hSk) (hts _ q449) (fun _ h => h) dX0_judge_15 ?_
    obtain ⟨g5, e4, h⟩ := obd h
    refine rc_V0 (rest := []) (st1 := []) hF (w_X1_become hSk 92 65 (isMl_92) (isMl_65) e4) (cwV 1 hts (lw_V q516 q517 q518 q101 q519) rfl rfl rfl hd_X1_become ⟨Nat.le_of_ble_eq_true rfl, Nat.le_of_ble_eq_true rfl⟩) cfX1 (sk_92 hSk) hK hW hR hS rfl hl.1 rfl (Nat.le_of_ble_eq_true rfl) rfl dX0_judge_18 ⟨rfl, rfl⟩ ⟨Nat.zero_le _, Nat.zero_le _⟩ (fun H locs hR hS => ?_)
    refine lv_iconst (v := 0) hx hb dX0_judge_21 ki_0 ?_
    refine lv_istore_n (lv' := [(2, .int 0), (0, .ref (adr G 64)), (1, .int a1)]) hx hb dX0_judge_22 rfl hl (by decide) rfl (fun ls hl => ?_)
    refine lv_iconst (v := 0) hx hb dX0_judge_23 ki_0 ?_
    refine lv_istore_n (lv' := [(3, .int 0), (2, .int 0), (0, .ref (adr G 64)), (1, .int a1)]) hx hb dX0_judge_24 rfl hl (by decide) rfl (fun ls hl => ?_)
    have J25 : ∀ (k25 : Nat) (x6 : Int32) (g7 : GM) (H : Heap) (locs : List Loc) (ls : Array Slot), Rep G sh g7 gl gr n H → va_S (own G) s.heap H locs → lv_has ls 6 [(0, .ref (adr G 64)), (1, .int a1), (2, .int 0), (3, .int x6)] → l_X0_judge_25 sh gr a1 k25 x6 g7 = some (r, go) → W p l e rm_X0_judge s m ([.ref (adr G 64), .int a1] : List Value).toArray below meth c H locs 0 0 (MQ below (QR G (some (.int r)) sh go gl gr n) ([.ref (adr G 64), .int a1] : List Value).toArray s rm_X0_judge.cells rm_X0_judge.slots (own G)) (F0 m 25 ls []) := by
      intro k25
      induction k25 with
      | zero => intro _ _ _ _ _ _ _ _; exact nofun
      | succ k25 ih25 =>
        intro x6 g7 H locs ls hR hS hl h
        unfold l_X0_judge_25 b_X0_judge_25 at h
        refine lv_iload_n hx hb dX0_judge_25 rfl (lv_at hl 3 rfl) ?_
        refine lv_aload_n hx hb dX0_judge_26 rfl (lv_at hl 0 rfl) ?_
        refine r_geti hx hb hts cfX0 hown hK hR (sk_64 hSk) 10 (by decide) rfl (hts _ q459) (fun _ h => h) dX0_judge_27 ?_
        have J103 : ∀ (x8 : Int32) (g9 : GM) (H : Heap) (locs : List Loc) (ls : Array Slot), Rep G sh g9 gl gr n H → va_S (own G) s.heap H locs → lv_has ls 6 [(2, .int x8)] → j_X0_judge_103  x8 g9 = some (r, go) → W p l e rm_X0_judge s m ([.ref (adr G 64), .int a1] : List Value).toArray below meth c H locs 0 0 (MQ below (QR G (some (.int r)) sh go gl gr n) ([.ref (adr G 64), .int a1] : List Value).toArray s rm_X0_judge.cells rm_X0_judge.slots (own G)) (F0 m 103 ls []) := by
          intro x8 g9 H locs ls hR hS hl h
          unfold j_X0_judge_103 at h
          refine lv_iload_n hx hb dX0_judge_103 rfl (lv_at hl 0 rfl) ?_
          obtain ⟨rfl, rfl⟩ := s2i h
          exact r_iret0 hx hb hr hlk hR hS (Nat.zero_le _) (Nat.zero_le _) dX0_judge_104
        refine lv_icmp_ge (tgt := 103) hx hb dX0_judge_30 (by decide) (fun c10 => ?_) (fun c10 => ?_)
        · replace h := ifp h c10
          exact J103 0 g7 _ _ _ hR hS (lv_sub hl [2] rfl) h
        · replace h := ifn h c10
          refine lv_aload_n hx hb dX0_judge_33 rfl (lv_at hl 0 rfl) ?_
          refine lv_aload_n hx hb dX0_judge_34 rfl (lv_at hl 0 rfl) ?_
          refine r_getr hx hb hts cfX0 hown hK hR (sk_64 hSk) 3 (by decide) rfl (sr_64_3 hSk) (hts _ q452) (fun _ h => h) dX0_judge_35 ?_
          refine lv_iload_n hx hb dX0_judge_38 rfl (lv_at hl 1 rfl) ?_
          refine lv_aload_n hx hb dX0_judge_39 rfl (lv_at hl 0 rfl) ?_
          refine r_getr hx hb hts cfX0 hown hK hR (sk_64 hSk) 11 (by decide) rfl (sr_64_11 hSk) (hts _ q460) (fun _ h => h) dX0_judge_40 ?_
          obtain ⟨g12, e11, h⟩ := obd h
          refine rc_V0 (rest := []) (st1 := []) hF (w_X0_goesAs hSk 92 a1 114 (isMl_92) (sk_114 hSk) e11) (cwV 3 hts (lw_V q1050 q1052 qs31 q100 q1053) rfl rfl rfl hd_X0_goesAs ⟨Nat.le_of_ble_eq_true rfl, Nat.le_of_ble_eq_true rfl⟩) cfX0 (sk_64 hSk) hK hW hR hS rfl hl.1 rfl (Nat.le_of_ble_eq_true rfl) rfl dX0_judge_43 ⟨rfl, rfl⟩ ⟨Nat.zero_le _, Nat.zero_le _⟩ (fun H locs hR hS => ?_)
          refine lv_aload_n hx hb dX0_judge_46 rfl (lv_at hl 0 rfl) ?_
          refine r_getr hx hb hts cfX0 hown hK hR (sk_64 hSk) 9 (by decide) rfl (sr_64_9 hSk) (hts _ q458) (fun _ h => h) dX0_judge_47 ?_
          refine lv_iload_n hx hb dX0_judge_50 rfl (lv_at hl 3 rfl) ?_
          obtain ⟨o14, e13, h⟩ := obd h
          obtain ⟨v16, e15, h⟩ := obd h
          subst e15
          refine r_ldo hx hb hK hR (sk_113 hSk) (by decide) (by decide) 6 rfl (v := some v16) e13 dX0_judge_51 ?_
          refine W.eq (g2 := F0 m 52 ls [.ref (adr G v16)]) rfl ?_
          obtain ⟨c17, h⟩ := ogrd h
          obtain ⟨v19, e18, h⟩ := obd h
          refine r_getrN hx hb hts cfX15 hown hK hR c17 0 (by decide) rfl e18 (hW.nestF q1046) (fun _ h => h) dX0_judge_52 ?_
          refine lv_astore (lv' := [(4, .ref (adr G v19)), (0, .ref (adr G 64)), (1, .int a1), (2, .int 0), (3, .int x6)]) hx hb dX0_judge_55 hl (by decide) rfl (fun ls hl => ?_)
          refine lv_iconst (v := 0) hx hb dX0_judge_57 ki_0 ?_
          refine lv_istore (lv' := [(5, .int 0), (4, .ref (adr G v19)), (0, .ref (adr G 64)), (1, .int a1), (2, .int 0), (3, .int x6)]) hx hb dX0_judge_58 hl (by decide) rfl (fun ls hl => ?_)
          have J60 : ∀ (k60 : Nat) (x20 : Int32) (H : Heap) (locs : List Loc) (ls : Array Slot), Rep G sh g12 gl gr n H → va_S (own G) s.heap H locs → lv_has ls 6 [(0, .ref (adr G 64)), (1, .int a1), (2, .int 0), (3, .int x6), (4, .ref (adr G v19)), (5, .int x20)] → l_X0_judge_60 sh x6 (l_X0_judge_25 sh gr a1 k25) g12 v19 k60 x20 = some (r, go) → W p l e rm_X0_judge s m ([.ref (adr G 64), .int a1] : List Value).toArray below meth c H locs 0 0 (MQ below (QR G (some (.int r)) sh go gl gr n) ([.ref (adr G 64), .int a1] : List Value).toArray s rm_X0_judge.cells rm_X0_judge.slots (own G)) (F0 m 60 ls []) := by
            intro k60
            induction k60 with
            | zero => intro _ _ _ _ _ _ _; exact nofun
            | succ k60 ih60 =>
              intro x20 H locs ls hR hS hl h
              unfold l_X0_judge_60 b_X0_judge_60 at h
              refine lv_iload hx hb dX0_judge_60 (lv_at hl 5 rfl) ?_
              refine lv_iconst (v := 3) hx hb dX0_judge_62 ki_3 ?_
              refine lv_icmp_ge (tgt := 97) hx hb dX0_judge_63 (by decide) (fun c21 => ?_) (fun c21 => ?_)
              · replace h := ifp h c21
                refine lv_iinc (v := x6 + 1) (lv' := [(3, .int (x6 + 1)), (0, .ref (adr G 64)), (1, .int a1), (2, .int 0), (4, .ref (adr G v19)), (5, .int x20)]) hx hb dX0_judge_97 hl (k := 3) rfl rfl (by decide) rfl (fun ls hl => ?_)
                refine lv_goto (tgt := 25) hx hb dX0_judge_100 (by decide) ?_
                exact ih25 (x6 + 1) g12 _ _ _ hR hS (lv_sub hl [1, 2, 3, 0] rfl) h
              · replace h := ifn h c21
                refine lv_aload hx hb dX0_judge_66 (lv_at hl 4 rfl) ?_
                refine lv_iload hx hb dX0_judge_68 (lv_at hl 5 rfl) ?_
                obtain ⟨c22, h⟩ := ogrd h
                obtain ⟨v24, e23, h⟩ := obd h
                refine r_ldi hx hb hK hR (shp c22) e23 dX0_judge_70 ?_
                refine lv_aload_n hx hb dX0_judge_71 rfl (lv_at hl 0 rfl) ?_
                refine r_getr hx hb hts cfX0 hown hK hR (sk_64 hSk) 11 (by decide) rfl (sr_64_11 hSk) (hts _ q460) (fun _ h => h) dX0_judge_72 ?_
                refine lv_iload hx hb dX0_judge_75 (lv_at hl 5 rfl) ?_
                obtain ⟨v26, e25, h⟩ := obd h
                refine r_ldi hx hb hK hR (sk_114 hSk) e25 dX0_judge_77 ?_
                refine lv_icmp_ne (tgt := 84) hx hb dX0_judge_78 (by decide) (fun c27 => ?_) (fun c27 => ?_)
                · replace h := ifn h c27
                  refine lv_iload_n hx hb dX0_judge_84 rfl (lv_at hl 3 rfl) ?_
                  refine lv_iconst (v := 1) hx hb dX0_judge_85 ki_1 ?_
                  refine lv_iadd hx hb dX0_judge_86 ?_
                  refine lv_istore_n (lv' := [(2, .int (x6 + 1)), (0, .ref (adr G 64)), (1, .int a1), (3, .int x6), (4, .ref (adr G v19)), (5, .int x20)]) hx hb dX0_judge_87 rfl hl (by decide) rfl (fun ls hl => ?_)
                  refine lv_goto (tgt := 103) hx hb dX0_judge_88 (by decide) ?_
                  exact J103 (x6 + 1) g12 _ _ _ hR hS (lv_sub hl [0] rfl) h
                · replace h := ifp h c27
                  refine lv_goto (tgt := 91) hx hb dX0_judge_81 (by decide) ?_
                  refine lv_iinc (v := x20 + 1) (lv' := [(5, .int (x20 + 1)), (0, .ref (adr G 64)), (1, .int a1), (2, .int 0), (3, .int x6), (4, .ref (adr G v19))]) hx hb dX0_judge_91 hl (k := 5) rfl rfl (by decide) rfl (fun ls hl => ?_)
                  refine lv_goto (tgt := 60) hx hb dX0_judge_94 (by decide) ?_
                  exact ih60 (x20 + 1) _ _ _ hR hS (lv_sub hl [1, 2, 3, 4, 5, 0] rfl) h
          exact J60 fuel 0 _ _ _ hR hS (lv_sub hl [2, 3, 4, 5, 1, 0] rfl) h
    exact J25 fuel 0 g5 _ _ _ hR hS (lv_sub hl [2, 3, 1, 0] rfl) h
  · replace h := ifp h c3
    refine lv_iconst (v := (-1)) hx hb dX0_judge_8 ki_m1 ?_
    obtain ⟨rfl, rfl⟩ := s2i h
    exact r_iret0 hx hb hr hlk hR hS (Nat.zero_le _) (Nat.zero_le _) dX0_judge_9
def rm_X0_bytes : Room := { frames := 20, cells := 3, slots := 1010, locals := 10600 }
theorem he_X0_bytes : yX0_bytes.cls ≠ "java/lang/invoke/MethodHandle" ∧ yX0_bytes.cls ≠ "java/lang/invoke/VarHandle" ∧ (parseMethodDescriptor yX0_bytes.desc).map (fun d => d.parameters.length) = some 1 := by decide +kernel
set_option maxHeartbeats 4000000 in
set_option maxRecDepth 100000 in
theorem w_X0_bytes {l : Launch} {G : Gx} {sh : SM} {g : GM} {gl : LM} {gr : RM} {n0 : Nat} (hSk : Sk sh gr) (a0 : Nat)  {oo : (Nat ⊕ Nat)} {o : XO} (h : f_X0_bytes sh a0 = some oo) (ho : o = (oo.elim (fun p => .inl (some (.ref (adr G p)), sh, g, gl, gr)) (fun q => .inr (q, sh, g, gl, gr)))) : MetX l G yX0_bytes (ws_ yX0_bytes cX0_bytes 1 (Option.some (Jvm.ClassFile.FieldType.array Jvm.ClassFile.FieldType.byte))) rm_X0_bytes [.ref (adr G a0)] sh g gl gr n0 o := by
  refine MetX.of (by decide) (Nat.le_of_ble_eq_true rfl) ?_
  intro p e s m below meth c ls hx hb hr hml hown hts hlk htb hW hK hR hS hl
  have hn : n0 ≤ n0 := Nat.le_refl _
  have hown : s.vm.findClass RX0 = some m.cls := hown
  have hF : CallFix p m c cX0_bytes 1 s ([.ref (adr G a0)] : List Value).toArray lw_all RX0 := ⟨hx, hb, hml, hown, hts⟩
  have hl : lv_has ls 1 [(0, .ref (adr G a0))] := hl
  unfold f_X0_bytes at h
  refine lv_aload_n hx hb dX0_bytes_0 rfl (lv_at hl 0 rfl) ?_
  obtain ⟨c1, h⟩ := ogrd h
  by_cases c2 : (sh a0).1 = 2
  · replace h := ifp h c2
    refine r_castY hx hb hown (hts _ q988) hK hR c1 ((thc_2 hW hK c1).1 (cst_arr c2)) dX0_bytes_1 ?_
    obtain rfl := s1i h
    exact x_aret (v := some (adr G a0)) hx hb hr (Or.inr ⟨_, rfl⟩) hlk hn hR hS (Nat.zero_le _) (Nat.zero_le _) ho dX0_bytes_4
  · replace h := ifn h c2
    obtain rfl := s1i h
    exact x_cast hx hb hown (hts _ q988) hW hts hK c1 ((thc_2 hW hK c1).2 (cst_ne (by decide) c2)) (by decide) htb hlk hn hR hS (Nat.le_of_ble_eq_true rfl) (Nat.le_of_ble_eq_true rfl) (Nat.le_of_ble_eq_true rfl) (Nat.le_of_ble_eq_true rfl) (Nat.le_of_ble_eq_true rfl) (Nat.le_of_ble_eq_true rfl) (Nat.le_of_ble_eq_true rfl) (hml.trans hl.1.symm) ho dX0_bytes_1
def rm_X0_within : Room := { frames := 3, cells := 0, slots := 0, locals := 12 }
theorem hd_X0_within : yX0_within.cls = "IntentVats" ∧ yX0_within.cls ≠ "java/lang/invoke/MethodHandle" ∧ yX0_within.cls ≠ "java/lang/invoke/VarHandle" ∧ (parseMethodDescriptor yX0_within.desc).map (fun d => d.parameters.length) = some 2 := by decide +kernel
theorem he_X0_within : yX0_within.cls ≠ "java/lang/invoke/MethodHandle" ∧ yX0_within.cls ≠ "java/lang/invoke/VarHandle" ∧ (parseMethodDescriptor yX0_within.desc).map (fun d => d.parameters.length) = some 2 := hd_X0_within.2
set_option maxHeartbeats 4000000 in
set_option maxRecDepth 100000 in
theorem w_X0_within {l : Launch} {G : Gx} {sh : SM} {g : GM} {gl : LM} {gr : RM} {n0 : Nat} (hSk : Sk sh gr) (a1 : Int32) (a2 : Int32)  {oo : (Unit ⊕ Nat)} {o : XO} (h : f_X0_within  a1 a2 = some oo) (ho : o = (oo.elim (fun _ => .inl (none, sh, g, gl, gr)) (fun q => .inr (q, sh, g, gl, gr)))) : MetX l G yX0_within (ws_ yX0_within cX0_within 3 (Option.none : Option Jvm.ClassFile.FieldType)) rm_X0_within [.ref (adr G 64), .int a1, .int a2] sh g gl gr n0 o := by
  refine MetX.of (by decide) (Nat.le_of_ble_eq_true rfl) ?_
  intro p e s m below meth c ls hx hb hr hml hown hts hlk htb hW hK hR hS hl
  have hn : n0 ≤ n0 := Nat.le_refl _
  have hown : s.vm.findClass RX0 = some m.cls := hown
  have hF : CallFix p m c cX0_within 3 s ([.ref (adr G 64), .int a1, .int a2] : List Value).toArray lw_all RX0 := ⟨hx, hb, hml, hown, hts⟩
  have hl : lv_has ls 3 [(0, .ref (adr G 64)), (1, .int a1), (2, .int a2)] := hl
  unfold f_X0_within at h
  refine lv_iload_n hx hb dX0_within_0 rfl (lv_at hl 1 rfl) ?_
  have J9 : ∀  (n : Nat) (H : Heap) (locs : List Loc) (ls : Array Slot), n0 ≤ n → Rep G sh g gl gr n H → va_S (own G) s.heap H locs → lv_has ls 3 [(0, .ref (adr G 64))] → j_X0_within_9   = some oo → W p l e rm_X0_within s m ([.ref (adr G 64), .int a1, .int a2] : List Value).toArray below meth c H locs 0 0 (XQ G below n0 o ([.ref (adr G 64), .int a1, .int a2] : List Value).toArray s rm_X0_within) (F0 m 9 ls []) := by
    intro  n H locs ls hn hR hS hl h
    unfold j_X0_within_9 at h
    refine lv_aload_n hx hb dX0_within_9 rfl (lv_at hl 0 rfl) ?_
    refine r_getr hx hb hts cfX0 hown hK hR (sk_64 hSk) 13 (by decide) rfl (sr_64_13 hSk) (hts _ q462) (fun _ h => h) dX0_within_10 ?_
    obtain rfl := s1i h
    exact x_throw hx hb cfX11 hK (sk_120 hSk) rfl rfl htb hlk hn hR hS (Nat.zero_le _) (Nat.zero_le _) ho dX0_within_13
  refine lv_if_lt (tgt := 9) hx hb dX0_within_1 (by decide) (fun c1 => ?_) (fun c1 => ?_)
  · replace h := ifp h c1
    exact J9  _ _ _ _ hn hR hS (lv_sub hl [0] rfl) h
  · replace h := ifn h c1
    refine lv_iload_n hx hb dX0_within_4 rfl (lv_at hl 1 rfl) ?_
    refine lv_iload_n hx hb dX0_within_5 rfl (lv_at hl 2 rfl) ?_
    refine lv_icmp_lt (tgt := 14) hx hb dX0_within_6 (by decide) (fun c2 => ?_) (fun c2 => ?_)
    · replace h := ifp h c2
      obtain rfl := s1i h
      exact x_vret hx hb hr hlk hn hR hS (Nat.zero_le _) (Nat.zero_le _) ho dX0_within_14
    · replace h := ifn h c2
      exact J9  _ _ _ _ hn hR hS (lv_sub hl [0] rfl) h
