/-! walks: X14_become, X14_lends, X14_laysBack, X14_luck, X14_hungSet, X14_aboutSet, X14_isAtOdds, X14_oddsAmong, X14_state, X14_isAhead, X14_behind, X14_gone, X14_depth, X14_firstAbout, X14_comes, X14_bare, X14_spoiltIn, X14_spoilt -/
def rm_X14_become : Room := { frames := 1, cells := 0, slots := 0, locals := 12 }
theorem he_X14_become : yX14_become.cls ≠ "java/lang/invoke/MethodHandle" ∧ yX14_become.cls ≠ "java/lang/invoke/VarHandle" ∧ (parseMethodDescriptor yX14_become.desc).map (fun d => d.parameters.length) = some 2 := by decide +kernel

set_option maxHeartbeats 4000000 in
set_option maxRecDepth 100000 in
theorem w_X14_become {l : Launch} {G : Gx} {sh : SM} {g : GM} {gl : LM} {gr : RM} {n : Nat} (hSk : Sk sh gr) (a0 : Nat) (a1 : Nat) (hs_a0 : sh a0 = (1, 69)) (hs_a1 : sh a1 = (1, 69)) {go : GM} (h : f_X14_become g a0 a1 = some go) : MetI l G yX14_become (ws_ yX14_become cX14_become 3 (Option.none : Option Jvm.ClassFile.FieldType)) rm_X14_become [.ref (adr G a0), .ref (adr G a1)] sh g gl gr n none sh go gl gr n := by
  refine MetI.of (by decide) (Nat.le_of_ble_eq_true rfl) ?_
  intro p e s m below meth c ls hx hb hr hml hown hts hlk hnm hW hK hR hS hl
  have hown : s.vm.findClass RX14 = some m.cls := hown
  have hF : CallFix p m c cX14_become 3 s ([.ref (adr G a0), .ref (adr G a1)] : List Value).toArray lw_all RX14 := ⟨hx, hb, hml, hown, hts⟩
  have hl : lv_has ls 3 [(0, .ref (adr G a0)), (1, .ref (adr G a1))] := hl
  unfold f_X14_become at h
  refine lv_iconst (v := 0) hx hb dX14_become_0 ki_0 ?_
  refine lv_istore_n (lv' := [(2, .int 0), (0, .ref (adr G a0)), (1, .ref (adr G a1))]) hx hb dX14_become_1 rfl hl (by decide) rfl (fun ls hl => ?_)
  have J2 : ∀ (k2 : Nat) (x1 : Int32) (g2 : GM) (H : Heap) (locs : List Loc) (ls : Array Slot), Rep G sh g2 gl gr n H → va_S (own G) s.heap H locs → lv_has ls 3 [(0, .ref (adr G a0)), (1, .ref (adr G a1)), (2, .int x1)] → l_X14_become_2 a0 a1 k2 x1 g2 = some go → W p l e rm_X14_become s m ([.ref (adr G a0), .ref (adr G a1)] : List Value).toArray below meth c H locs 0 0 (MQ below (QR G none sh go gl gr n) ([.ref (adr G a0), .ref (adr G a1)] : List Value).toArray s rm_X14_become.cells rm_X14_become.slots (own G)) (F0 m 2 ls []) := by
    intro k2
    induction k2 with
    | zero => intro _ _ _ _ _ _ _ _; exact nofun
    | succ k2 ih2 =>
      intro x1 g2 H locs ls hR hS hl h
      unfold l_X14_become_2 b_X14_become_2 at h
      refine lv_iload_n hx hb dX14_become_2 rfl (lv_at hl 2 rfl) ?_
      refine lv_bipush (v := 69) hx hb dX14_become_3 kb_69 ?_
      refine lv_icmp_ge (tgt := 20) hx hb dX14_become_5 (by decide) (fun c3 => ?_) (fun c3 => ?_)
      · replace h := ifp h c3
        obtain rfl := s1i h
        exact r_vret0 hx hb hr hlk hR hS (Nat.zero_le _) (Nat.zero_le _) dX14_become_20
      · replace h := ifn h c3
        refine lv_aload_n hx hb dX14_become_8 rfl (lv_at hl 1 rfl) ?_
        refine lv_iload_n hx hb dX14_become_9 rfl (lv_at hl 2 rfl) ?_
        refine lv_aload_n hx hb dX14_become_10 rfl (lv_at hl 0 rfl) ?_
        refine lv_iload_n hx hb dX14_become_11 rfl (lv_at hl 2 rfl) ?_
        obtain ⟨v5, e4, h⟩ := obd h
        refine r_ldi hx hb hK hR hs_a0 e4 dX14_become_12 ?_
        obtain ⟨g7, e6, h⟩ := obd h
        refine r_sti hx hb hK hR hS hs_a1 e6 dX14_become_13 (fun H locs hR hS => ?_)
        refine lv_iinc (v := x1 + 1) (lv' := [(2, .int (x1 + 1)), (0, .ref (adr G a0)), (1, .ref (adr G a1))]) hx hb dX14_become_14 hl (k := 2) rfl rfl (by decide) rfl (fun ls hl => ?_)
        refine lv_goto (tgt := 2) hx hb dX14_become_17 (by decide) ?_
        exact ih2 (x1 + 1) g7 _ _ _ hR hS (lv_sub hl [1, 2, 0] rfl) h
  exact J2 fuel 0 g _ _ _ hR hS (lv_sub hl [1, 2, 0] rfl) h
def rm_X14_lends : Room := { frames := 2, cells := 0, slots := 0, locals := 34 }
theorem hd_X14_lends : yX14_lends.cls = "IntentVatsModel" ∧ yX14_lends.cls ≠ "java/lang/invoke/MethodHandle" ∧ yX14_lends.cls ≠ "java/lang/invoke/VarHandle" ∧ (parseMethodDescriptor yX14_lends.desc).map (fun d => d.parameters.length) = some 0 := by decide +kernel
theorem he_X14_lends : yX14_lends.cls ≠ "java/lang/invoke/MethodHandle" ∧ yX14_lends.cls ≠ "java/lang/invoke/VarHandle" ∧ (parseMethodDescriptor yX14_lends.desc).map (fun d => d.parameters.length) = some 0 := hd_X14_lends.2

set_option maxHeartbeats 4000000 in
set_option maxRecDepth 100000 in
theorem w_X14_lends {l : Launch} {G : Gx} {sh : SM} {g : GM} {gl : LM} {gr : RM} {n : Nat} (hSk : Sk sh gr)   {go : GM} (h : f_X14_lends g  = some go) : MetI l G yX14_lends (ws_ yX14_lends cX14_lends 1 (Option.none : Option Jvm.ClassFile.FieldType)) rm_X14_lends [.ref (adr G 128)] sh g gl gr n none sh go gl gr n := by
  refine MetI.of (by decide) (Nat.le_of_ble_eq_true rfl) ?_
  intro p e s m below meth c ls hx hb hr hml hown hts hlk hnm hW hK hR hS hl
  have hown : s.vm.findClass RX14 = some m.cls := hown
  have hF : CallFix p m c cX14_lends 1 s ([.ref (adr G 128)] : List Value).toArray lw_all RX14 := ⟨hx, hb, hml, hown, hts⟩
  have hl : lv_has ls 1 [(0, .ref (adr G 128))] := hl
  unfold f_X14_lends at h
  refine lv_aload_n hx hb dX14_lends_0 rfl (lv_at hl 0 rfl) ?_
  refine r_getr hx hb hts cfX14 hown hK hR (sk_128 hSk) 2 (by decide) rfl (sr_128_2 hSk) (hts _ q1523) (fun _ h => h) dX14_lends_1 ?_
  refine lv_aload_n hx hb dX14_lends_4 rfl (lv_at hl 0 rfl) ?_
  refine r_getr hx hb hts cfX14 hown hK hR (sk_128 hSk) 4 (by decide) rfl (sr_128_4 hSk) (hts _ q1525) (fun _ h => h) dX14_lends_5 ?_
  obtain ⟨g2, e1, h⟩ := obd h
  refine rc_S0 (rest := []) (st1 := []) hF (w_X14_become hSk 131 133 (sk_131 hSk) (sk_133 hSk) e1) (va_cwS 2 hts (lw_S q1763 q1764 q117 q1765) rfl rfl rfl he_X14_become ⟨Nat.le_of_ble_eq_true rfl, Nat.le_of_ble_eq_true rfl⟩) hW hR hS rfl hl.1 rfl (Nat.le_of_ble_eq_true rfl) rfl dX14_lends_8 ⟨rfl, rfl⟩ ⟨Nat.zero_le _, Nat.zero_le _⟩ (fun H locs hR hS => ?_)
  obtain rfl := s1i h
  exact r_vret0 hx hb hr hlk hR hS (Nat.zero_le _) (Nat.zero_le _) dX14_lends_11
def rm_X14_laysBack : Room := { frames := 2, cells := 0, slots := 0, locals := 34 }
theorem hd_X14_laysBack : yX14_laysBack.cls = "IntentVatsModel" ∧ yX14_laysBack.cls ≠ "java/lang/invoke/MethodHandle" ∧ yX14_laysBack.cls ≠ "java/lang/invoke/VarHandle" ∧ (parseMethodDescriptor yX14_laysBack.desc).map (fun d => d.parameters.length) = some 0 := by decide +kernel
theorem he_X14_laysBack : yX14_laysBack.cls ≠ "java/lang/invoke/MethodHandle" ∧ yX14_laysBack.cls ≠ "java/lang/invoke/VarHandle" ∧ (parseMethodDescriptor yX14_laysBack.desc).map (fun d => d.parameters.length) = some 0 := hd_X14_laysBack.2

set_option maxHeartbeats 4000000 in
set_option maxRecDepth 100000 in
theorem w_X14_laysBack {l : Launch} {G : Gx} {sh : SM} {g : GM} {gl : LM} {gr : RM} {n : Nat} (hSk : Sk sh gr)   {go : GM} (h : f_X14_laysBack g  = some go) : MetI l G yX14_laysBack (ws_ yX14_laysBack cX14_laysBack 1 (Option.none : Option Jvm.ClassFile.FieldType)) rm_X14_laysBack [.ref (adr G 128)] sh g gl gr n none sh go gl gr n := by
  refine MetI.of (by decide) (Nat.le_of_ble_eq_true rfl) ?_
  intro p e s m below meth c ls hx hb hr hml hown hts hlk hnm hW hK hR hS hl
  have hown : s.vm.findClass RX14 = some m.cls := hown
  have hF : CallFix p m c cX14_laysBack 1 s ([.ref (adr G 128)] : List Value).toArray lw_all RX14 := ⟨hx, hb, hml, hown, hts⟩
  have hl : lv_has ls 1 [(0, .ref (adr G 128))] := hl
  unfold f_X14_laysBack at h
  refine lv_aload_n hx hb dX14_laysBack_0 rfl (lv_at hl 0 rfl) ?_
  refine r_getr hx hb hts cfX14 hown hK hR (sk_128 hSk) 4 (by decide) rfl (sr_128_4 hSk) (hts _ q1525) (fun _ h => h) dX14_laysBack_1 ?_
  refine lv_aload_n hx hb dX14_laysBack_4 rfl (lv_at hl 0 rfl) ?_
  refine r_getr hx hb hts cfX14 hown hK hR (sk_128 hSk) 2 (by decide) rfl (sr_128_2 hSk) (hts _ q1523) (fun _ h => h) dX14_laysBack_5 ?_
  obtain ⟨g2, e1, h⟩ := obd h
  refine rc_S0 (rest := []) (st1 := []) hF (w_X14_become hSk 133 131 (sk_133 hSk) (sk_131 hSk) e1) (va_cwS 2 hts (lw_S q1763 q1764 q117 q1765) rfl rfl rfl he_X14_become ⟨Nat.le_of_ble_eq_true rfl, Nat.le_of_ble_eq_true rfl⟩) hW hR hS rfl hl.1 rfl (Nat.le_of_ble_eq_true rfl) rfl dX14_laysBack_8 ⟨rfl, rfl⟩ ⟨Nat.zero_le _, Nat.zero_le _⟩ (fun H locs hR hS => ?_)
  obtain rfl := s1i h
  exact r_vret0 hx hb hr hlk hR hS (Nat.zero_le _) (Nat.zero_le _) dX14_laysBack_11
def rm_X14_luck : Room := { frames := 6, cells := 0, slots := 0, locals := 131 }
theorem hd_X14_luck : yX14_luck.cls = "IntentVatsModel" ∧ yX14_luck.cls ≠ "java/lang/invoke/MethodHandle" ∧ yX14_luck.cls ≠ "java/lang/invoke/VarHandle" ∧ (parseMethodDescriptor yX14_luck.desc).map (fun d => d.parameters.length) = some 1 := by decide +kernel
theorem he_X14_luck : yX14_luck.cls ≠ "java/lang/invoke/MethodHandle" ∧ yX14_luck.cls ≠ "java/lang/invoke/VarHandle" ∧ (parseMethodDescriptor yX14_luck.desc).map (fun d => d.parameters.length) = some 1 := hd_X14_luck.2

set_option maxHeartbeats 4000000 in
set_option maxRecDepth 100000 in
theorem w_X14_luck {l : Launch} {G : Gx} {sh : SM} {g : GM} {gl : LM} {gr : RM} {n : Nat} (hSk : Sk sh gr) (a1 : Int32)  {r : Int32} {go : GM} (h : f_X14_luck g a1 = some (r, go)) : MetI l G yX14_luck (ws_ yX14_luck cX14_luck 6 (Option.some Jvm.ClassFile.FieldType.int)) rm_X14_luck [.ref (adr G 128), .int a1] sh g gl gr n (some (.int r)) sh go gl gr n := by
  refine MetI.of (by decide) (Nat.le_of_ble_eq_true rfl) ?_
  intro p e s m below meth c ls hx hb hr hml hown hts hlk hnm hW hK hR hS hl
  have hown : s.vm.findClass RX14 = some m.cls := hown
  have hF : CallFix p m c cX14_luck 6 s ([.ref (adr G 128), .int a1] : List Value).toArray lw_all RX14 := ⟨hx, hb, hml, hown, hts⟩
  have hl : lv_has ls 6 [(0, .ref (adr G 128)), (1, .int a1)] := hl
  unfold f_X14_luck at h
  refine lv_iload_n hx hb dX14_luck_0 rfl (lv_at hl 1 rfl) ?_
  refine lv_i2l hx hb dX14_luck_1 rfl ?_
  refine lv_lconst (v := 1) hx hb dX14_luck_2 rfl ?_
  refine lv_ldc2 (v := 30) hx hb hown (hts _ q1758) dX14_luck_3 ?_
  obtain ⟨r2, e1, h⟩ := obd h
  refine rc_S0 (rest := []) (st1 := [.int r2]) hF (w_X14_in hSk a1.toInt64 1 30 e1) (va_cwS 3 hts (lw_S q1602 q1603 q117 q1604) rfl rfl rfl he_X14_in ⟨Nat.le_of_ble_eq_true rfl, Nat.le_of_ble_eq_true rfl⟩) hW hR hS rfl hl.1 rfl (Nat.le_of_ble_eq_true rfl) rfl dX14_luck_6 ⟨rfl, rfl⟩ ⟨Nat.zero_le _, Nat.zero_le _⟩ (fun H locs hR hS => ?_)
  refine lv_if_ne (tgt := 14) hx hb dX14_luck_9 (by decide) (fun c3 => ?_) (fun c3 => ?_)
  · replace h := ifn h c3
    refine lv_aload_n hx hb dX14_luck_14 rfl (lv_at hl 0 rfl) ?_
    obtain ⟨g5, e4, h⟩ := obd h
    refine rc_V0 (rest := []) (st1 := []) hF (w_X14_lends hSk e4) (cwV 0 hts (lw_V q1759 q1761 qs60 q117 q1762) rfl rfl rfl hd_X14_lends ⟨Nat.le_of_ble_eq_true rfl, Nat.le_of_ble_eq_true rfl⟩) cfX14 (sk_128 hSk) hK hW hR hS rfl hl.1 rfl (Nat.le_of_ble_eq_true rfl) rfl dX14_luck_15 ⟨rfl, rfl⟩ ⟨Nat.zero_le _, Nat.zero_le _⟩ (fun H locs hR hS => ?_)
    refine lv_aload_n hx hb dX14_luck_18 rfl (lv_at hl 0 rfl) ?_
    obtain ⟨g7, e6, h⟩ := obd h
    refine rc_V0 (rest := []) (st1 := []) hF (w_X14_aDay hSk e6) (cwV 0 hts (lw_V q1729 q1731 qs56 q117 q1732) rfl rfl rfl hd_X14_aDay ⟨Nat.le_of_ble_eq_true rfl, Nat.le_of_ble_eq_true rfl⟩) cfX14 (sk_128 hSk) hK hW hR hS rfl hl.1 rfl (Nat.le_of_ble_eq_true rfl) rfl dX14_luck_19 ⟨rfl, rfl⟩ ⟨Nat.zero_le _, Nat.zero_le _⟩ (fun H locs hR hS => ?_)
    refine lv_aload_n hx hb dX14_luck_22 rfl (lv_at hl 0 rfl) ?_
    obtain ⟨r9, e8, h⟩ := obd h
    refine rc_V0 (rest := []) (st1 := [.int r9]) hF (w_X14_depths hSk e8) (cwV 0 hts (lw_V q1733 q1735 qs57 q117 q1736) rfl rfl rfl hd_X14_depths ⟨Nat.le_of_ble_eq_true rfl, Nat.le_of_ble_eq_true rfl⟩) cfX14 (sk_128 hSk) hK hW hR hS rfl hl.1 rfl (Nat.le_of_ble_eq_true rfl) rfl dX14_luck_23 ⟨rfl, rfl⟩ ⟨Nat.zero_le _, Nat.zero_le _⟩ (fun H locs hR hS => ?_)
    refine lv_istore_n (lv' := [(2, .int r9), (0, .ref (adr G 128)), (1, .int a1)]) hx hb dX14_luck_26 rfl hl (by decide) rfl (fun ls hl => ?_)
    refine lv_aload_n hx hb dX14_luck_27 rfl (lv_at hl 1 rfl) ?_
    obtain ⟨g11, e10, h⟩ := obd h
    refine rc_V0 (rest := []) (st1 := []) hF (w_X14_laysBack hSk e10) (cwV 0 hts (lw_V q1766 q1768 qs61 q117 q1769) rfl rfl rfl hd_X14_laysBack ⟨Nat.le_of_ble_eq_true rfl, Nat.le_of_ble_eq_true rfl⟩) cfX14 (sk_128 hSk) hK hW hR hS rfl hl.1 rfl (Nat.le_of_ble_eq_true rfl) rfl dX14_luck_28 ⟨rfl, rfl⟩ ⟨Nat.zero_le _, Nat.zero_le _⟩ (fun H locs hR hS => ?_)
    refine lv_aload_n hx hb dX14_luck_31 rfl (lv_at hl 1 rfl) ?_
    refine r_getr hx hb hts cfX14 hown hK hR (sk_128 hSk) 2 (by decide) rfl (sr_128_2 hSk) (hts _ q1523) (fun _ h => h) dX14_luck_32 ?_
    refine lv_iconst (v := 5) hx hb dX14_luck_35 ki_5 ?_
    obtain ⟨v13, e12, h⟩ := obd h
    refine r_ldi hx hb hK hR (sk_131 hSk) e12 dX14_luck_36 ?_
    refine lv_istore_n (lv' := [(3, .int v13), (2, .int r9), (0, .ref (adr G 128)), (1, .int a1)]) hx hb dX14_luck_37 rfl hl (by decide) rfl (fun ls hl => ?_)
    refine lv_iconst (v := 0) hx hb dX14_luck_38 ki_0 ?_
    refine lv_istore (lv' := [(4, .int 0), (3, .int v13), (2, .int r9), (0, .ref (adr G 128)), (1, .int a1)]) hx hb dX14_luck_39 hl (by decide) rfl (fun ls hl => ?_)
    refine lv_iconst (v := 0) hx hb dX14_luck_41 ki_0 ?_
    refine lv_istore (lv' := [(5, .int 0), (4, .int 0), (3, .int v13), (2, .int r9), (0, .ref (adr G 128)), (1, .int a1)]) hx hb dX14_luck_42 hl (by decide) rfl (fun ls hl => ?_)
    have J44 : ∀ (k44 : Nat) (x14 : Int32) (x15 : Int32) (x16 : Int32) (g17 : GM) (H : Heap) (locs : List Loc) (ls : Array Slot), Rep G sh g17 gl gr n H → va_S (own G) s.heap H locs → lv_has ls 6 [(0, .ref (adr G 128)), (1, .int a1), (2, .int r9), (3, .int x14), (4, .int x15), (5, .int x16)] → l_X14_luck_44 a1 r9 k44 x14 x15 x16 g17 = some (r, go) → W p l e rm_X14_luck s m ([.ref (adr G 128), .int a1] : List Value).toArray below meth c H locs 0 0 (MQ below (QR G (some (.int r)) sh go gl gr n) ([.ref (adr G 128), .int a1] : List Value).toArray s rm_X14_luck.cells rm_X14_luck.slots (own G)) (F0 m 44 ls []) := by
      intro k44
      induction k44 with
      | zero => intro _ _ _ _ _ _ _ _ _ _; exact nofun
      | succ k44 ih44 =>
        intro x14 x15 x16 g17 H locs ls hR hS hl h
        unfold l_X14_luck_44 b_X14_luck_44 at h
        refine lv_iload hx hb dX14_luck_44 (lv_at hl 5 rfl) ?_
        refine lv_iload_n hx hb dX14_luck_46 rfl (lv_at hl 1 rfl) ?_
        refine lv_icmp_ge (tgt := 96) hx hb dX14_luck_47 (by decide) (fun c18 => ?_) (fun c18 => ?_)
        · replace h := ifp h c18
          refine lv_iload hx hb dX14_luck_96 (lv_at hl 4 rfl) ?_
          obtain ⟨rfl, rfl⟩ := s2i h
          exact r_iret0 hx hb hr hlk hR hS (Nat.zero_le _) (Nat.zero_le _) dX14_luck_98
        · replace h := ifn h c18
          refine lv_aload_n hx hb dX14_luck_50 rfl (lv_at hl 0 rfl) ?_
          refine r_getr hx hb hts cfX14 hown hK hR (sk_128 hSk) 2 (by decide) rfl (sr_128_2 hSk) (hts _ q1523) (fun _ h => h) dX14_luck_51 ?_
          refine lv_iconst (v := 5) hx hb dX14_luck_54 ki_5 ?_
          refine lv_iload_n hx hb dX14_luck_55 rfl (lv_at hl 3 rfl) ?_
          obtain ⟨g20, e19, h⟩ := obd h
          refine r_sti hx hb hK hR hS (sk_131 hSk) e19 dX14_luck_56 (fun H locs hR hS => ?_)
          refine lv_aload_n hx hb dX14_luck_57 rfl (lv_at hl 0 rfl) ?_
          obtain ⟨g22, e21, h⟩ := obd h
          refine rc_V0 (rest := []) (st1 := []) hF (w_X14_byDraws hSk e21) (cwV 0 hts (lw_V q1745 q1747 qs58 q117 q1748) rfl rfl rfl hd_X14_byDraws ⟨Nat.le_of_ble_eq_true rfl, Nat.le_of_ble_eq_true rfl⟩) cfX14 (sk_128 hSk) hK hW hR hS rfl hl.1 rfl (Nat.le_of_ble_eq_true rfl) rfl dX14_luck_58 ⟨rfl, rfl⟩ ⟨Nat.zero_le _, Nat.zero_le _⟩ (fun H locs hR hS => ?_)
          refine lv_aload_n hx hb dX14_luck_61 rfl (lv_at hl 0 rfl) ?_
          refine r_getr hx hb hts cfX14 hown hK hR (sk_128 hSk) 2 (by decide) rfl (sr_128_2 hSk) (hts _ q1523) (fun _ h => h) dX14_luck_62 ?_
          refine lv_iconst (v := 5) hx hb dX14_luck_65 ki_5 ?_
          obtain ⟨v24, e23, h⟩ := obd h
          refine r_ldi hx hb hK hR (sk_131 hSk) e23 dX14_luck_66 ?_
          refine lv_istore_n (lv' := [(3, .int v24), (0, .ref (adr G 128)), (1, .int a1), (2, .int r9), (4, .int x15), (5, .int x16)]) hx hb dX14_luck_67 rfl hl (by decide) rfl (fun ls hl => ?_)
          refine lv_iload hx hb dX14_luck_68 (lv_at hl 4 rfl) ?_
          refine lv_aload_n hx hb dX14_luck_70 rfl (lv_at hl 1 rfl) ?_
          obtain ⟨r26, e25, h⟩ := obd h
          refine rc_V0 (rest := [.int x15]) (st1 := [.int r26, .int x15]) hF (w_X14_depths hSk e25) (cwV 0 hts (lw_V q1733 q1735 qs57 q117 q1736) rfl rfl rfl hd_X14_depths ⟨Nat.le_of_ble_eq_true rfl, Nat.le_of_ble_eq_true rfl⟩) cfX14 (sk_128 hSk) hK hW hR hS rfl hl.1 rfl (Nat.le_of_ble_eq_true rfl) rfl dX14_luck_71 ⟨rfl, rfl⟩ ⟨Nat.zero_le _, Nat.zero_le _⟩ (fun H locs hR hS => ?_)
          refine lv_iload_n hx hb dX14_luck_74 rfl (lv_at hl 3 rfl) ?_
          have J83 : ∀ (x27 : Int32) (H : Heap) (locs : List Loc) (ls : Array Slot), Rep G sh g22 gl gr n H → va_S (own G) s.heap H locs → lv_has ls 6 [(0, .ref (adr G 128)), (1, .int a1), (2, .int r9), (3, .int v24), (5, .int x16)] → j_X14_luck_83 x15 x16 (l_X14_luck_44 a1 r9 k44) g22 v24 x27 = some (r, go) → W p l e rm_X14_luck s m ([.ref (adr G 128), .int a1] : List Value).toArray below meth c H locs 0 0 (MQ below (QR G (some (.int r)) sh go gl gr n) ([.ref (adr G 128), .int a1] : List Value).toArray s rm_X14_luck.cells rm_X14_luck.slots (own G)) (F0 m 83 ls [.int x27, .int x15]) := by
            intro x27 H locs ls hR hS hl h
            unfold j_X14_luck_83 at h
            refine lv_iadd hx hb dX14_luck_83 ?_
            refine lv_istore (lv' := [(4, .int (x15 + x27)), (0, .ref (adr G 128)), (1, .int a1), (2, .int r9), (3, .int v24), (5, .int x16)]) hx hb dX14_luck_84 hl (by decide) rfl (fun ls hl => ?_)
            refine lv_aload_n hx hb dX14_luck_86 rfl (lv_at hl 1 rfl) ?_
            obtain ⟨g29, e28, h⟩ := obd h
            refine rc_V0 (rest := []) (st1 := []) hF (w_X14_laysBack hSk e28) (cwV 0 hts (lw_V q1766 q1768 qs61 q117 q1769) rfl rfl rfl hd_X14_laysBack ⟨Nat.le_of_ble_eq_true rfl, Nat.le_of_ble_eq_true rfl⟩) cfX14 (sk_128 hSk) hK hW hR hS rfl hl.1 rfl (Nat.le_of_ble_eq_true rfl) rfl dX14_luck_87 ⟨rfl, rfl⟩ ⟨Nat.zero_le _, Nat.zero_le _⟩ (fun H locs hR hS => ?_)
            refine lv_iinc (v := x16 + 1) (lv' := [(5, .int (x16 + 1)), (4, .int (x15 + x27)), (0, .ref (adr G 128)), (1, .int a1), (2, .int r9), (3, .int v24)]) hx hb dX14_luck_90 hl (k := 5) rfl rfl (by decide) rfl (fun ls hl => ?_)
            refine lv_goto (tgt := 44) hx hb dX14_luck_93 (by decide) ?_
            exact ih44 v24 (x15 + x27) (x16 + 1) g29 _ _ _ hR hS (lv_sub hl [2, 3, 4, 5, 1, 0] rfl) h
          refine lv_icmp_le (tgt := 82) hx hb dX14_luck_75 (by decide) (fun c30 => ?_) (fun c30 => ?_)
          · replace h := ifp h c30
            refine lv_iconst (v := 0) hx hb dX14_luck_82 ki_0 ?_
            exact J83 0 _ _ _ hR hS (lv_sub hl [1, 2, 3, 0, 5] rfl) h
          · replace h := ifn h c30
            refine lv_iconst (v := 1) hx hb dX14_luck_78 ki_1 ?_
            refine lv_goto (tgt := 83) hx hb dX14_luck_79 (by decide) ?_
            exact J83 1 _ _ _ hR hS (lv_sub hl [1, 2, 3, 0, 5] rfl) h
    exact J44 fuel v13 0 0 g11 _ _ _ hR hS (lv_sub hl [4, 5, 3, 2, 1, 0] rfl) h
  · replace h := ifp h c3
    refine lv_iconst (v := (-1)) hx hb dX14_luck_12 ki_m1 ?_
    obtain ⟨rfl, rfl⟩ := s2i h
    exact r_iret0 hx hb hr hlk hR hS (Nat.zero_le _) (Nat.zero_le _) dX14_luck_13
def rm_X14_hungSet : Room := { frames := 2, cells := 0, slots := 0, locals := 34 }
theorem hd_X14_hungSet : yX14_hungSet.cls = "IntentVatsModel" ∧ yX14_hungSet.cls ≠ "java/lang/invoke/MethodHandle" ∧ yX14_hungSet.cls ≠ "java/lang/invoke/VarHandle" ∧ (parseMethodDescriptor yX14_hungSet.desc).map (fun d => d.parameters.length) = some 0 := by decide +kernel
theorem he_X14_hungSet : yX14_hungSet.cls ≠ "java/lang/invoke/MethodHandle" ∧ yX14_hungSet.cls ≠ "java/lang/invoke/VarHandle" ∧ (parseMethodDescriptor yX14_hungSet.desc).map (fun d => d.parameters.length) = some 0 := hd_X14_hungSet.2

set_option maxHeartbeats 4000000 in
set_option maxRecDepth 100000 in
theorem w_X14_hungSet {l : Launch} {G : Gx} {sh : SM} {g : GM} {gl : LM} {gr : RM} {n : Nat} (hSk : Sk sh gr)   {r : Int32} (h : f_X14_hungSet g  = some r) : MetI l G yX14_hungSet (ws_ yX14_hungSet cX14_hungSet 3 (Option.some Jvm.ClassFile.FieldType.int)) rm_X14_hungSet [.ref (adr G 128)] sh g gl gr n (some (.int r)) sh g gl gr n := by
  refine MetI.of (by decide) (Nat.le_of_ble_eq_true rfl) ?_
  intro p e s m below meth c ls hx hb hr hml hown hts hlk hnm hW hK hR hS hl
  have hown : s.vm.findClass RX14 = some m.cls := hown
  have hF : CallFix p m c cX14_hungSet 3 s ([.ref (adr G 128)] : List Value).toArray lw_all RX14 := ⟨hx, hb, hml, hown, hts⟩
  have hl : lv_has ls 3 [(0, .ref (adr G 128))] := hl
  unfold f_X14_hungSet at h
  refine lv_iconst (v := 0) hx hb dX14_hungSet_0 ki_0 ?_
  refine lv_istore_n (lv' := [(1, .int 0), (0, .ref (adr G 128))]) hx hb dX14_hungSet_1 rfl hl (by decide) rfl (fun ls hl => ?_)
  refine lv_iconst (v := 0) hx hb dX14_hungSet_2 ki_0 ?_
  refine lv_istore_n (lv' := [(2, .int 0), (1, .int 0), (0, .ref (adr G 128))]) hx hb dX14_hungSet_3 rfl hl (by decide) rfl (fun ls hl => ?_)
  have J4 : ∀ (k4 : Nat) (x1 : Int32) (x2 : Int32) (H : Heap) (locs : List Loc) (ls : Array Slot), Rep G sh g gl gr n H → va_S (own G) s.heap H locs → lv_has ls 3 [(0, .ref (adr G 128)), (1, .int x1), (2, .int x2)] → l_X14_hungSet_4 g k4 x1 x2 = some r → W p l e rm_X14_hungSet s m ([.ref (adr G 128)] : List Value).toArray below meth c H locs 0 0 (MQ below (QR G (some (.int r)) sh g gl gr n) ([.ref (adr G 128)] : List Value).toArray s rm_X14_hungSet.cells rm_X14_hungSet.slots (own G)) (F0 m 4 ls []) := by
    intro k4
    induction k4 with
    | zero => intro _ _ _ _ _ _ _ _; exact nofun
    | succ k4 ih4 =>
      intro x1 x2 H locs ls hR hS hl h
      unfold l_X14_hungSet_4 b_X14_hungSet_4 at h
      refine lv_iload_n hx hb dX14_hungSet_4 rfl (lv_at hl 2 rfl) ?_
      refine lv_aload_n hx hb dX14_hungSet_5 rfl (lv_at hl 0 rfl) ?_
      refine r_getr hx hb hts cfX14 hown hK hR (sk_128 hSk) 2 (by decide) rfl (sr_128_2 hSk) (hts _ q1523) (fun _ h => h) dX14_hungSet_6 ?_
      refine lv_bipush (v := 6) hx hb dX14_hungSet_9 kb_6 ?_
      obtain ⟨v4, e3, h⟩ := obd h
      refine r_ldi hx hb hK hR (sk_131 hSk) e3 dX14_hungSet_11 ?_
      refine lv_icmp_ge (tgt := 32) hx hb dX14_hungSet_12 (by decide) (fun c5 => ?_) (fun c5 => ?_)
      · replace h := ifp h c5
        refine lv_iload_n hx hb dX14_hungSet_32 rfl (lv_at hl 1 rfl) ?_
        obtain rfl := s1i h
        exact r_iret0 hx hb hr hlk hR hS (Nat.zero_le _) (Nat.zero_le _) dX14_hungSet_33
      · replace h := ifn h c5
        refine lv_iload_n hx hb dX14_hungSet_15 rfl (lv_at hl 1 rfl) ?_
        refine lv_aload_n hx hb dX14_hungSet_16 rfl (lv_at hl 0 rfl) ?_
        refine lv_iload_n hx hb dX14_hungSet_17 rfl (lv_at hl 2 rfl) ?_
        refine lv_iconst (v := 3) hx hb dX14_hungSet_18 ki_3 ?_
        obtain ⟨r7, e6, h⟩ := obd h
        refine rc_V0 (rest := [.int x1]) (st1 := [.int r7, .int x1]) hF (w_X14_its hSk x2 3 e6) (cwV 2 hts (lw_V q1662 q1664 qs48 q117 q1665) rfl rfl rfl hd_X14_its ⟨Nat.le_of_ble_eq_true rfl, Nat.le_of_ble_eq_true rfl⟩) cfX14 (sk_128 hSk) hK hW hR hS rfl hl.1 rfl (Nat.le_of_ble_eq_true rfl) rfl dX14_hungSet_19 ⟨rfl, rfl⟩ ⟨Nat.zero_le _, Nat.zero_le _⟩ (fun H locs hR hS => ?_)
        refine lv_iload_n hx hb dX14_hungSet_22 rfl (lv_at hl 2 rfl) ?_
        refine lv_ishl hx hb dX14_hungSet_23 ?_
        refine lv_ior hx hb dX14_hungSet_24 ?_
        refine lv_istore_n (lv' := [(1, .int (x1 ||| (r7 <<< (x2 &&& 31)))), (0, .ref (adr G 128)), (2, .int x2)]) hx hb dX14_hungSet_25 rfl hl (by decide) rfl (fun ls hl => ?_)
        refine lv_iinc (v := x2 + 1) (lv' := [(2, .int (x2 + 1)), (1, .int (x1 ||| (r7 <<< (x2 &&& 31)))), (0, .ref (adr G 128))]) hx hb dX14_hungSet_26 hl (k := 2) rfl rfl (by decide) rfl (fun ls hl => ?_)
        refine lv_goto (tgt := 4) hx hb dX14_hungSet_29 (by decide) ?_
        exact ih4 (x1 ||| (r7 <<< (x2 &&& 31))) (x2 + 1) _ _ _ hR hS (lv_sub hl [2, 1, 0] rfl) h
  exact J4 fuel 0 0 _ _ _ hR hS (lv_sub hl [2, 1, 0] rfl) h
def rm_X14_aboutSet : Room := { frames := 2, cells := 0, slots := 0, locals := 34 }
theorem hd_X14_aboutSet : yX14_aboutSet.cls = "IntentVatsModel" ∧ yX14_aboutSet.cls ≠ "java/lang/invoke/MethodHandle" ∧ yX14_aboutSet.cls ≠ "java/lang/invoke/VarHandle" ∧ (parseMethodDescriptor yX14_aboutSet.desc).map (fun d => d.parameters.length) = some 0 := by decide +kernel
theorem he_X14_aboutSet : yX14_aboutSet.cls ≠ "java/lang/invoke/MethodHandle" ∧ yX14_aboutSet.cls ≠ "java/lang/invoke/VarHandle" ∧ (parseMethodDescriptor yX14_aboutSet.desc).map (fun d => d.parameters.length) = some 0 := hd_X14_aboutSet.2

set_option maxHeartbeats 4000000 in
set_option maxRecDepth 100000 in
theorem w_X14_aboutSet {l : Launch} {G : Gx} {sh : SM} {g : GM} {gl : LM} {gr : RM} {n : Nat} (hSk : Sk sh gr)   {r : Int32} (h : f_X14_aboutSet g  = some r) : MetI l G yX14_aboutSet (ws_ yX14_aboutSet cX14_aboutSet 3 (Option.some Jvm.ClassFile.FieldType.int)) rm_X14_aboutSet [.ref (adr G 128)] sh g gl gr n (some (.int r)) sh g gl gr n := by
  refine MetI.of (by decide) (Nat.le_of_ble_eq_true rfl) ?_
  intro p e s m below meth c ls hx hb hr hml hown hts hlk hnm hW hK hR hS hl
  have hown : s.vm.findClass RX14 = some m.cls := hown
  have hF : CallFix p m c cX14_aboutSet 3 s ([.ref (adr G 128)] : List Value).toArray lw_all RX14 := ⟨hx, hb, hml, hown, hts⟩
  have hl : lv_has ls 3 [(0, .ref (adr G 128))] := hl
  unfold f_X14_aboutSet at h
  refine lv_iconst (v := 0) hx hb dX14_aboutSet_0 ki_0 ?_
  refine lv_istore_n (lv' := [(1, .int 0), (0, .ref (adr G 128))]) hx hb dX14_aboutSet_1 rfl hl (by decide) rfl (fun ls hl => ?_)
  refine lv_iconst (v := 0) hx hb dX14_aboutSet_2 ki_0 ?_
  refine lv_istore_n (lv' := [(2, .int 0), (1, .int 0), (0, .ref (adr G 128))]) hx hb dX14_aboutSet_3 rfl hl (by decide) rfl (fun ls hl => ?_)
  have J4 : ∀ (k4 : Nat) (x1 : Int32) (x2 : Int32) (H : Heap) (locs : List Loc) (ls : Array Slot), Rep G sh g gl gr n H → va_S (own G) s.heap H locs → lv_has ls 3 [(0, .ref (adr G 128)), (1, .int x1), (2, .int x2)] → l_X14_aboutSet_4 g k4 x1 x2 = some r → W p l e rm_X14_aboutSet s m ([.ref (adr G 128)] : List Value).toArray below meth c H locs 0 0 (MQ below (QR G (some (.int r)) sh g gl gr n) ([.ref (adr G 128)] : List Value).toArray s rm_X14_aboutSet.cells rm_X14_aboutSet.slots (own G)) (F0 m 4 ls []) := by
    intro k4
    induction k4 with
    | zero => intro _ _ _ _ _ _ _ _; exact nofun
    | succ k4 ih4 =>
      intro x1 x2 H locs ls hR hS hl h
      unfold l_X14_aboutSet_4 b_X14_aboutSet_4 at h
      refine lv_iload_n hx hb dX14_aboutSet_4 rfl (lv_at hl 2 rfl) ?_
      refine lv_aload_n hx hb dX14_aboutSet_5 rfl (lv_at hl 0 rfl) ?_
      refine r_getr hx hb hts cfX14 hown hK hR (sk_128 hSk) 2 (by decide) rfl (sr_128_2 hSk) (hts _ q1523) (fun _ h => h) dX14_aboutSet_6 ?_
      refine lv_bipush (v := 6) hx hb dX14_aboutSet_9 kb_6 ?_
      obtain ⟨v4, e3, h⟩ := obd h
      refine r_ldi hx hb hK hR (sk_131 hSk) e3 dX14_aboutSet_11 ?_
      refine lv_icmp_ge (tgt := 40) hx hb dX14_aboutSet_12 (by decide) (fun c5 => ?_) (fun c5 => ?_)
      · replace h := ifp h c5
        refine lv_iload_n hx hb dX14_aboutSet_40 rfl (lv_at hl 1 rfl) ?_
        obtain rfl := s1i h
        exact r_iret0 hx hb hr hlk hR hS (Nat.zero_le _) (Nat.zero_le _) dX14_aboutSet_41
      · replace h := ifn h c5
        refine lv_iload_n hx hb dX14_aboutSet_15 rfl (lv_at hl 1 rfl) ?_
        refine lv_aload_n hx hb dX14_aboutSet_16 rfl (lv_at hl 0 rfl) ?_
        refine lv_iload_n hx hb dX14_aboutSet_17 rfl (lv_at hl 2 rfl) ?_
        refine lv_iconst (v := 1) hx hb dX14_aboutSet_18 ki_1 ?_
        obtain ⟨r7, e6, h⟩ := obd h
        refine rc_V0 (rest := [.int x1]) (st1 := [.int r7, .int x1]) hF (w_X14_its hSk x2 1 e6) (cwV 2 hts (lw_V q1662 q1664 qs48 q117 q1665) rfl rfl rfl hd_X14_its ⟨Nat.le_of_ble_eq_true rfl, Nat.le_of_ble_eq_true rfl⟩) cfX14 (sk_128 hSk) hK hW hR hS rfl hl.1 rfl (Nat.le_of_ble_eq_true rfl) rfl dX14_aboutSet_19 ⟨rfl, rfl⟩ ⟨Nat.zero_le _, Nat.zero_le _⟩ (fun H locs hR hS => ?_)
        have J32 : ∀ (x8 : Int32) (H : Heap) (locs : List Loc) (ls : Array Slot), Rep G sh g gl gr n H → va_S (own G) s.heap H locs → lv_has ls 3 [(0, .ref (adr G 128)), (2, .int x2)] → j_X14_aboutSet_32 x1 x2 (l_X14_aboutSet_4 g k4) x8 = some r → W p l e rm_X14_aboutSet s m ([.ref (adr G 128)] : List Value).toArray below meth c H locs 0 0 (MQ below (QR G (some (.int r)) sh g gl gr n) ([.ref (adr G 128)] : List Value).toArray s rm_X14_aboutSet.cells rm_X14_aboutSet.slots (own G)) (F0 m 32 ls [.int x8, .int x1]) := by
          intro x8 H locs ls hR hS hl h
          unfold j_X14_aboutSet_32 at h
          refine lv_ior hx hb dX14_aboutSet_32 ?_
          refine lv_istore_n (lv' := [(1, .int (x1 ||| x8)), (0, .ref (adr G 128)), (2, .int x2)]) hx hb dX14_aboutSet_33 rfl hl (by decide) rfl (fun ls hl => ?_)
          refine lv_iinc (v := x2 + 1) (lv' := [(2, .int (x2 + 1)), (1, .int (x1 ||| x8)), (0, .ref (adr G 128))]) hx hb dX14_aboutSet_34 hl (k := 2) rfl rfl (by decide) rfl (fun ls hl => ?_)
          refine lv_goto (tgt := 4) hx hb dX14_aboutSet_37 (by decide) ?_
          exact ih4 (x1 ||| x8) (x2 + 1) _ _ _ hR hS (lv_sub hl [2, 1, 0] rfl) h
        refine lv_if_lt (tgt := 31) hx hb dX14_aboutSet_22 (by decide) (fun c9 => ?_) (fun c9 => ?_)
        · replace h := ifp h c9
          refine lv_iconst (v := 0) hx hb dX14_aboutSet_31 ki_0 ?_
          exact J32 0 _ _ _ hR hS (lv_sub hl [0, 2] rfl) h
        · replace h := ifn h c9
          refine lv_iconst (v := 1) hx hb dX14_aboutSet_25 ki_1 ?_
          refine lv_iload_n hx hb dX14_aboutSet_26 rfl (lv_at hl 2 rfl) ?_
          refine lv_ishl hx hb dX14_aboutSet_27 ?_
          refine lv_goto (tgt := 32) hx hb dX14_aboutSet_28 (by decide) ?_
          exact J32 (1 <<< (x2 &&& 31)) _ _ _ hR hS (lv_sub hl [0, 2] rfl) h
  exact J4 fuel 0 0 _ _ _ hR hS (lv_sub hl [2, 1, 0] rfl) h
def rm_X14_isAtOdds : Room := { frames := 2, cells := 0, slots := 0, locals := 34 }
theorem hd_X14_isAtOdds : yX14_isAtOdds.cls = "IntentVatsModel" ∧ yX14_isAtOdds.cls ≠ "java/lang/invoke/MethodHandle" ∧ yX14_isAtOdds.cls ≠ "java/lang/invoke/VarHandle" ∧ (parseMethodDescriptor yX14_isAtOdds.desc).map (fun d => d.parameters.length) = some 2 := by decide +kernel
theorem he_X14_isAtOdds : yX14_isAtOdds.cls ≠ "java/lang/invoke/MethodHandle" ∧ yX14_isAtOdds.cls ≠ "java/lang/invoke/VarHandle" ∧ (parseMethodDescriptor yX14_isAtOdds.desc).map (fun d => d.parameters.length) = some 2 := hd_X14_isAtOdds.2

set_option maxHeartbeats 4000000 in
set_option maxRecDepth 100000 in
theorem w_X14_isAtOdds {l : Launch} {G : Gx} {sh : SM} {g : GM} {gl : LM} {gr : RM} {n : Nat} (hSk : Sk sh gr) (a1 : Int32) (a2 : Int32)  {r : Int32} (h : f_X14_isAtOdds g a1 a2 = some r) : MetI l G yX14_isAtOdds (ws_ yX14_isAtOdds cX14_isAtOdds 4 (Option.some Jvm.ClassFile.FieldType.boolean)) rm_X14_isAtOdds [.ref (adr G 128), .int a1, .int a2] sh g gl gr n (some (.int r)) sh g gl gr n := by
  refine MetI.of (by decide) (Nat.le_of_ble_eq_true rfl) ?_
  intro p e s m below meth c ls hx hb hr hml hown hts hlk hnm hW hK hR hS hl
  have hown : s.vm.findClass RX14 = some m.cls := hown
  have hF : CallFix p m c cX14_isAtOdds 4 s ([.ref (adr G 128), .int a1, .int a2] : List Value).toArray lw_all RX14 := ⟨hx, hb, hml, hown, hts⟩
  have hl : lv_has ls 4 [(0, .ref (adr G 128)), (1, .int a1), (2, .int a2)] := hl
  unfold f_X14_isAtOdds at h
  refine lv_aload_n hx hb dX14_isAtOdds_0 rfl (lv_at hl 0 rfl) ?_
  refine lv_iload_n hx hb dX14_isAtOdds_1 rfl (lv_at hl 1 rfl) ?_
  refine lv_iconst (v := 3) hx hb dX14_isAtOdds_2 ki_3 ?_
  obtain ⟨r2, e1, h⟩ := obd h
  refine rc_V0 (rest := []) (st1 := [.int r2]) hF (w_X14_its hSk a1 3 e1) (cwV 2 hts (lw_V q1662 q1664 qs48 q117 q1665) rfl rfl rfl hd_X14_its ⟨Nat.le_of_ble_eq_true rfl, Nat.le_of_ble_eq_true rfl⟩) cfX14 (sk_128 hSk) hK hW hR hS rfl hl.1 rfl (Nat.le_of_ble_eq_true rfl) rfl dX14_isAtOdds_3 ⟨rfl, rfl⟩ ⟨Nat.zero_le _, Nat.zero_le _⟩ (fun H locs hR hS => ?_)
  have J23 : ∀ (x3 : Int32) (H : Heap) (locs : List Loc) (ls : Array Slot), Rep G sh g gl gr n H → va_S (own G) s.heap H locs → lv_has ls 4 [(0, .ref (adr G 128)), (1, .int a1), (2, .int a2)] → j_X14_isAtOdds_23 g a1 a2 x3 = some r → W p l e rm_X14_isAtOdds s m ([.ref (adr G 128), .int a1, .int a2] : List Value).toArray below meth c H locs 0 0 (MQ below (QR G (some (.int r)) sh g gl gr n) ([.ref (adr G 128), .int a1, .int a2] : List Value).toArray s rm_X14_isAtOdds.cells rm_X14_isAtOdds.slots (own G)) (F0 m 23 ls [.int x3]) := by
    intro x3 H locs ls hR hS hl h
    unfold j_X14_isAtOdds_23 at h
    refine lv_istore_n (lv' := [(3, .int x3), (0, .ref (adr G 128)), (1, .int a1), (2, .int a2)]) hx hb dX14_isAtOdds_23 rfl hl (by decide) rfl (fun ls hl => ?_)
    refine lv_iload_n hx hb dX14_isAtOdds_24 rfl (lv_at hl 0 rfl) ?_
    have J66 : ∀ (x4 : Int32) (H : Heap) (locs : List Loc) (ls : Array Slot), Rep G sh g gl gr n H → va_S (own G) s.heap H locs → lv_has ls 4 [] → j_X14_isAtOdds_66  x4 = some r → W p l e rm_X14_isAtOdds s m ([.ref (adr G 128), .int a1, .int a2] : List Value).toArray below meth c H locs 0 0 (MQ below (QR G (some (.int r)) sh g gl gr n) ([.ref (adr G 128), .int a1, .int a2] : List Value).toArray s rm_X14_isAtOdds.cells rm_X14_isAtOdds.slots (own G)) (F0 m 66 ls [.int x4]) := by
      intro x4 H locs ls hR hS hl h
      unfold j_X14_isAtOdds_66 at h
      obtain ⟨c5, h⟩ := ogrd h
      obtain rfl := s1i h
      exact r_zret0 hx hb hr hlk hR hS (Nat.zero_le _) (Nat.zero_le _) (nb01 c5) dX14_isAtOdds_66
    have J65 : ∀  (H : Heap) (locs : List Loc) (ls : Array Slot), Rep G sh g gl gr n H → va_S (own G) s.heap H locs → lv_has ls 4 [] → j_X14_isAtOdds_65   = some r → W p l e rm_X14_isAtOdds s m ([.ref (adr G 128), .int a1, .int a2] : List Value).toArray below meth c H locs 0 0 (MQ below (QR G (some (.int r)) sh g gl gr n) ([.ref (adr G 128), .int a1, .int a2] : List Value).toArray s rm_X14_isAtOdds.cells rm_X14_isAtOdds.slots (own G)) (F0 m 65 ls []) := by
      intro  H locs ls hR hS hl h
      unfold j_X14_isAtOdds_65 at h
      refine lv_iconst (v := 0) hx hb dX14_isAtOdds_65 ki_0 ?_
      exact J66 0 _ _ _ hR hS (lv_sub hl [] rfl) h
    refine lv_if_eq (tgt := 65) hx hb dX14_isAtOdds_25 (by decide) (fun c6 => ?_) (fun c6 => ?_)
    · replace h := ifp h c6
      exact J65  _ _ _ hR hS (lv_sub hl [] rfl) h
    · replace h := ifn h c6
      refine lv_aload_n hx hb dX14_isAtOdds_28 rfl (lv_at hl 1 rfl) ?_
      refine lv_iload_n hx hb dX14_isAtOdds_29 rfl (lv_at hl 2 rfl) ?_
      refine lv_iconst (v := 1) hx hb dX14_isAtOdds_30 ki_1 ?_
      obtain ⟨r8, e7, h⟩ := obd h
      refine rc_V0 (rest := []) (st1 := [.int r8]) hF (w_X14_its hSk a1 1 e7) (cwV 2 hts (lw_V q1662 q1664 qs48 q117 q1665) rfl rfl rfl hd_X14_its ⟨Nat.le_of_ble_eq_true rfl, Nat.le_of_ble_eq_true rfl⟩) cfX14 (sk_128 hSk) hK hW hR hS rfl hl.1 rfl (Nat.le_of_ble_eq_true rfl) rfl dX14_isAtOdds_31 ⟨rfl, rfl⟩ ⟨Nat.zero_le _, Nat.zero_le _⟩ (fun H locs hR hS => ?_)
      refine lv_if_lt (tgt := 65) hx hb dX14_isAtOdds_34 (by decide) (fun c9 => ?_) (fun c9 => ?_)
      · replace h := ifp h c9
        exact J65  _ _ _ hR hS (lv_sub hl [] rfl) h
      · replace h := ifn h c9
        refine lv_aload_n hx hb dX14_isAtOdds_37 rfl (lv_at hl 1 rfl) ?_
        refine lv_iload_n hx hb dX14_isAtOdds_38 rfl (lv_at hl 3 rfl) ?_
        refine lv_iconst (v := 1) hx hb dX14_isAtOdds_39 ki_1 ?_
        obtain ⟨r11, e10, h⟩ := obd h
        refine rc_V0 (rest := []) (st1 := [.int r11]) hF (w_X14_its hSk a2 1 e10) (cwV 2 hts (lw_V q1662 q1664 qs48 q117 q1665) rfl rfl rfl hd_X14_its ⟨Nat.le_of_ble_eq_true rfl, Nat.le_of_ble_eq_true rfl⟩) cfX14 (sk_128 hSk) hK hW hR hS rfl hl.1 rfl (Nat.le_of_ble_eq_true rfl) rfl dX14_isAtOdds_40 ⟨rfl, rfl⟩ ⟨Nat.zero_le _, Nat.zero_le _⟩ (fun H locs hR hS => ?_)
        refine lv_if_lt (tgt := 65) hx hb dX14_isAtOdds_43 (by decide) (fun c12 => ?_) (fun c12 => ?_)
        · replace h := ifp h c12
          exact J65  _ _ _ hR hS (lv_sub hl [] rfl) h
        · replace h := ifn h c12
          refine lv_aload_n hx hb dX14_isAtOdds_46 rfl (lv_at hl 1 rfl) ?_
          refine lv_iload_n hx hb dX14_isAtOdds_47 rfl (lv_at hl 2 rfl) ?_
          refine lv_iconst (v := 1) hx hb dX14_isAtOdds_48 ki_1 ?_
          obtain ⟨r14, e13, h⟩ := obd h
          refine rc_V0 (rest := []) (st1 := [.int r14]) hF (w_X14_its hSk a1 1 e13) (cwV 2 hts (lw_V q1662 q1664 qs48 q117 q1665) rfl rfl rfl hd_X14_its ⟨Nat.le_of_ble_eq_true rfl, Nat.le_of_ble_eq_true rfl⟩) cfX14 (sk_128 hSk) hK hW hR hS rfl hl.1 rfl (Nat.le_of_ble_eq_true rfl) rfl dX14_isAtOdds_49 ⟨rfl, rfl⟩ ⟨Nat.zero_le _, Nat.zero_le _⟩ (fun H locs hR hS => ?_)
          refine lv_aload_n hx hb dX14_isAtOdds_52 rfl (lv_at hl 1 rfl) ?_
          refine lv_iload_n hx hb dX14_isAtOdds_53 rfl (lv_at hl 3 rfl) ?_
          refine lv_iconst (v := 1) hx hb dX14_isAtOdds_54 ki_1 ?_
          obtain ⟨r16, e15, h⟩ := obd h
          refine rc_V0 (rest := [.int r14]) (st1 := [.int r16, .int r14]) hF (w_X14_its hSk a2 1 e15) (cwV 2 hts (lw_V q1662 q1664 qs48 q117 q1665) rfl rfl rfl hd_X14_its ⟨Nat.le_of_ble_eq_true rfl, Nat.le_of_ble_eq_true rfl⟩) cfX14 (sk_128 hSk) hK hW hR hS rfl hl.1 rfl (Nat.le_of_ble_eq_true rfl) rfl dX14_isAtOdds_55 ⟨rfl, rfl⟩ ⟨Nat.zero_le _, Nat.zero_le _⟩ (fun H locs hR hS => ?_)
          refine lv_icmp_eq (tgt := 65) hx hb dX14_isAtOdds_58 (by decide) (fun c17 => ?_) (fun c17 => ?_)
          · replace h := ifp h c17
            exact J65  _ _ _ hR hS (lv_sub hl [] rfl) h
          · replace h := ifn h c17
            refine lv_iconst (v := 1) hx hb dX14_isAtOdds_61 ki_1 ?_
            refine lv_goto (tgt := 66) hx hb dX14_isAtOdds_62 (by decide) ?_
            exact J66 1 _ _ _ hR hS (lv_sub hl [] rfl) h
  have J22 : ∀  (H : Heap) (locs : List Loc) (ls : Array Slot), Rep G sh g gl gr n H → va_S (own G) s.heap H locs → lv_has ls 4 [(0, .ref (adr G 128)), (1, .int a1), (2, .int a2)] → j_X14_isAtOdds_22 g a1 a2  = some r → W p l e rm_X14_isAtOdds s m ([.ref (adr G 128), .int a1, .int a2] : List Value).toArray below meth c H locs 0 0 (MQ below (QR G (some (.int r)) sh g gl gr n) ([.ref (adr G 128), .int a1, .int a2] : List Value).toArray s rm_X14_isAtOdds.cells rm_X14_isAtOdds.slots (own G)) (F0 m 22 ls []) := by
    intro  H locs ls hR hS hl h
    unfold j_X14_isAtOdds_22 at h
    refine lv_iconst (v := 0) hx hb dX14_isAtOdds_22 ki_0 ?_
    exact J23 0 _ _ _ hR hS (lv_sub hl [0, 1, 2] rfl) h
  refine lv_if_ne (tgt := 22) hx hb dX14_isAtOdds_6 (by decide) (fun c18 => ?_) (fun c18 => ?_)
  · replace h := ifn h c18
    exact J22  _ _ _ hR hS (lv_sub hl [0, 1, 2] rfl) h
  · replace h := ifp h c18
    refine lv_aload_n hx hb dX14_isAtOdds_9 rfl (lv_at hl 0 rfl) ?_
    refine lv_iload_n hx hb dX14_isAtOdds_10 rfl (lv_at hl 2 rfl) ?_
    refine lv_iconst (v := 3) hx hb dX14_isAtOdds_11 ki_3 ?_
    obtain ⟨r20, e19, h⟩ := obd h
    refine rc_V0 (rest := []) (st1 := [.int r20]) hF (w_X14_its hSk a2 3 e19) (cwV 2 hts (lw_V q1662 q1664 qs48 q117 q1665) rfl rfl rfl hd_X14_its ⟨Nat.le_of_ble_eq_true rfl, Nat.le_of_ble_eq_true rfl⟩) cfX14 (sk_128 hSk) hK hW hR hS rfl hl.1 rfl (Nat.le_of_ble_eq_true rfl) rfl dX14_isAtOdds_12 ⟨rfl, rfl⟩ ⟨Nat.zero_le _, Nat.zero_le _⟩ (fun H locs hR hS => ?_)
    refine lv_if_ne (tgt := 22) hx hb dX14_isAtOdds_15 (by decide) (fun c21 => ?_) (fun c21 => ?_)
    · replace h := ifn h c21
      exact J22  _ _ _ hR hS (lv_sub hl [0, 1, 2] rfl) h
    · replace h := ifp h c21
      refine lv_iconst (v := 1) hx hb dX14_isAtOdds_18 ki_1 ?_
      refine lv_goto (tgt := 23) hx hb dX14_isAtOdds_19 (by decide) ?_
      exact J23 1 _ _ _ hR hS (lv_sub hl [0, 1, 2] rfl) h
def rm_X14_oddsAmong : Room := { frames := 3, cells := 0, slots := 0, locals := 57 }
theorem hd_X14_oddsAmong : yX14_oddsAmong.cls = "IntentVatsModel" ∧ yX14_oddsAmong.cls ≠ "java/lang/invoke/MethodHandle" ∧ yX14_oddsAmong.cls ≠ "java/lang/invoke/VarHandle" ∧ (parseMethodDescriptor yX14_oddsAmong.desc).map (fun d => d.parameters.length) = some 0 := by decide +kernel
theorem he_X14_oddsAmong : yX14_oddsAmong.cls ≠ "java/lang/invoke/MethodHandle" ∧ yX14_oddsAmong.cls ≠ "java/lang/invoke/VarHandle" ∧ (parseMethodDescriptor yX14_oddsAmong.desc).map (fun d => d.parameters.length) = some 0 := hd_X14_oddsAmong.2

set_option maxHeartbeats 4000000 in
set_option maxRecDepth 100000 in
theorem w_X14_oddsAmong {l : Launch} {G : Gx} {sh : SM} {g : GM} {gl : LM} {gr : RM} {n : Nat} (hSk : Sk sh gr)   {r : Int32} (h : f_X14_oddsAmong g  = some r) : MetI l G yX14_oddsAmong (ws_ yX14_oddsAmong cX14_oddsAmong 4 (Option.some Jvm.ClassFile.FieldType.int)) rm_X14_oddsAmong [.ref (adr G 128)] sh g gl gr n (some (.int r)) sh g gl gr n := by
  refine MetI.of (by decide) (Nat.le_of_ble_eq_true rfl) ?_
  intro p e s m below meth c ls hx hb hr hml hown hts hlk hnm hW hK hR hS hl
  have hown : s.vm.findClass RX14 = some m.cls := hown
  have hF : CallFix p m c cX14_oddsAmong 4 s ([.ref (adr G 128)] : List Value).toArray lw_all RX14 := ⟨hx, hb, hml, hown, hts⟩
  have hl : lv_has ls 4 [(0, .ref (adr G 128))] := hl
  unfold f_X14_oddsAmong at h
  refine lv_iconst (v := 0) hx hb dX14_oddsAmong_0 ki_0 ?_
  refine lv_istore_n (lv' := [(1, .int 0), (0, .ref (adr G 128))]) hx hb dX14_oddsAmong_1 rfl hl (by decide) rfl (fun ls hl => ?_)
  refine lv_iconst (v := 0) hx hb dX14_oddsAmong_2 ki_0 ?_
  refine lv_istore_n (lv' := [(2, .int 0), (1, .int 0), (0, .ref (adr G 128))]) hx hb dX14_oddsAmong_3 rfl hl (by decide) rfl (fun ls hl => ?_)
  have J4 : ∀ (k4 : Nat) (x1 : Int32) (x2 : Int32) (H : Heap) (locs : List Loc) (ls : Array Slot), Rep G sh g gl gr n H → va_S (own G) s.heap H locs → lv_has ls 4 [(0, .ref (adr G 128)), (1, .int x1), (2, .int x2)] → l_X14_oddsAmong_4 g k4 x1 x2 = some r → W p l e rm_X14_oddsAmong s m ([.ref (adr G 128)] : List Value).toArray below meth c H locs 0 0 (MQ below (QR G (some (.int r)) sh g gl gr n) ([.ref (adr G 128)] : List Value).toArray s rm_X14_oddsAmong.cells rm_X14_oddsAmong.slots (own G)) (F0 m 4 ls []) := by
    intro k4
    induction k4 with
    | zero => intro _ _ _ _ _ _ _ _; exact nofun
    | succ k4 ih4 =>
      intro x1 x2 H locs ls hR hS hl h
      unfold l_X14_oddsAmong_4 b_X14_oddsAmong_4 at h
      refine lv_iload_n hx hb dX14_oddsAmong_4 rfl (lv_at hl 2 rfl) ?_
      refine lv_aload_n hx hb dX14_oddsAmong_5 rfl (lv_at hl 0 rfl) ?_
      refine r_getr hx hb hts cfX14 hown hK hR (sk_128 hSk) 2 (by decide) rfl (sr_128_2 hSk) (hts _ q1523) (fun _ h => h) dX14_oddsAmong_6 ?_
      refine lv_bipush (v := 6) hx hb dX14_oddsAmong_9 kb_6 ?_
      obtain ⟨v4, e3, h⟩ := obd h
      refine r_ldi hx hb hK hR (sk_131 hSk) e3 dX14_oddsAmong_11 ?_
      refine lv_icmp_ge (tgt := 51) hx hb dX14_oddsAmong_12 (by decide) (fun c5 => ?_) (fun c5 => ?_)
      · replace h := ifp h c5
        refine lv_iload_n hx hb dX14_oddsAmong_51 rfl (lv_at hl 1 rfl) ?_
        obtain rfl := s1i h
        exact r_iret0 hx hb hr hlk hR hS (Nat.zero_le _) (Nat.zero_le _) dX14_oddsAmong_52
      · replace h := ifn h c5
        refine lv_iconst (v := 0) hx hb dX14_oddsAmong_15 ki_0 ?_
        refine lv_istore_n (lv' := [(3, .int 0), (0, .ref (adr G 128)), (1, .int x1), (2, .int x2)]) hx hb dX14_oddsAmong_16 rfl hl (by decide) rfl (fun ls hl => ?_)
        have J17 : ∀ (k17 : Nat) (x6 : Int32) (x7 : Int32) (H : Heap) (locs : List Loc) (ls : Array Slot), Rep G sh g gl gr n H → va_S (own G) s.heap H locs → lv_has ls 4 [(0, .ref (adr G 128)), (1, .int x6), (2, .int x2), (3, .int x7)] → l_X14_oddsAmong_17 g x2 (l_X14_oddsAmong_4 g k4) k17 x6 x7 = some r → W p l e rm_X14_oddsAmong s m ([.ref (adr G 128)] : List Value).toArray below meth c H locs 0 0 (MQ below (QR G (some (.int r)) sh g gl gr n) ([.ref (adr G 128)] : List Value).toArray s rm_X14_oddsAmong.cells rm_X14_oddsAmong.slots (own G)) (F0 m 17 ls []) := by
          intro k17
          induction k17 with
          | zero => intro _ _ _ _ _ _ _ _; exact nofun
          | succ k17 ih17 =>
            intro x6 x7 H locs ls hR hS hl h
            unfold l_X14_oddsAmong_17 b_X14_oddsAmong_17 at h
            refine lv_iload_n hx hb dX14_oddsAmong_17 rfl (lv_at hl 3 rfl) ?_
            refine lv_iload_n hx hb dX14_oddsAmong_18 rfl (lv_at hl 2 rfl) ?_
            refine lv_icmp_ge (tgt := 45) hx hb dX14_oddsAmong_19 (by decide) (fun c8 => ?_) (fun c8 => ?_)
            · replace h := ifp h c8
              refine lv_iinc (v := x2 + 1) (lv' := [(2, .int (x2 + 1)), (0, .ref (adr G 128)), (1, .int x6), (3, .int x7)]) hx hb dX14_oddsAmong_45 hl (k := 2) rfl rfl (by decide) rfl (fun ls hl => ?_)
              refine lv_goto (tgt := 4) hx hb dX14_oddsAmong_48 (by decide) ?_
              exact ih4 x6 (x2 + 1) _ _ _ hR hS (lv_sub hl [1, 2, 0] rfl) h
            · replace h := ifn h c8
              refine lv_iload_n hx hb dX14_oddsAmong_22 rfl (lv_at hl 1 rfl) ?_
              refine lv_aload_n hx hb dX14_oddsAmong_23 rfl (lv_at hl 0 rfl) ?_
              refine lv_iload_n hx hb dX14_oddsAmong_24 rfl (lv_at hl 2 rfl) ?_
              refine lv_iload_n hx hb dX14_oddsAmong_25 rfl (lv_at hl 3 rfl) ?_
              obtain ⟨r10, e9, h⟩ := obd h
              refine rc_V0 (rest := [.int x6]) (st1 := [.int r10, .int x6]) hF (w_X14_isAtOdds hSk x2 x7 e9) (cwV 2 hts (lw_V q1786 q1788 qs65 q117 q1789) rfl rfl rfl hd_X14_isAtOdds ⟨Nat.le_of_ble_eq_true rfl, Nat.le_of_ble_eq_true rfl⟩) cfX14 (sk_128 hSk) hK hW hR hS rfl hl.1 rfl (Nat.le_of_ble_eq_true rfl) rfl dX14_oddsAmong_26 ⟨rfl, rfl⟩ ⟨Nat.zero_le _, Nat.zero_le _⟩ (fun H locs hR hS => ?_)
              have J37 : ∀ (x11 : Int32) (H : Heap) (locs : List Loc) (ls : Array Slot), Rep G sh g gl gr n H → va_S (own G) s.heap H locs → lv_has ls 4 [(0, .ref (adr G 128)), (2, .int x2), (3, .int x7)] → j_X14_oddsAmong_37 x6 x7 (l_X14_oddsAmong_17 g x2 (l_X14_oddsAmong_4 g k4) k17) x11 = some r → W p l e rm_X14_oddsAmong s m ([.ref (adr G 128)] : List Value).toArray below meth c H locs 0 0 (MQ below (QR G (some (.int r)) sh g gl gr n) ([.ref (adr G 128)] : List Value).toArray s rm_X14_oddsAmong.cells rm_X14_oddsAmong.slots (own G)) (F0 m 37 ls [.int x11, .int x6]) := by
                intro x11 H locs ls hR hS hl h
                unfold j_X14_oddsAmong_37 at h
                refine lv_iadd hx hb dX14_oddsAmong_37 ?_
                refine lv_istore_n (lv' := [(1, .int (x6 + x11)), (0, .ref (adr G 128)), (2, .int x2), (3, .int x7)]) hx hb dX14_oddsAmong_38 rfl hl (by decide) rfl (fun ls hl => ?_)
                refine lv_iinc (v := x7 + 1) (lv' := [(3, .int (x7 + 1)), (1, .int (x6 + x11)), (0, .ref (adr G 128)), (2, .int x2)]) hx hb dX14_oddsAmong_39 hl (k := 3) rfl rfl (by decide) rfl (fun ls hl => ?_)
                refine lv_goto (tgt := 17) hx hb dX14_oddsAmong_42 (by decide) ?_
                exact ih17 (x6 + x11) (x7 + 1) _ _ _ hR hS (lv_sub hl [2, 1, 3, 0] rfl) h
              refine lv_if_eq (tgt := 36) hx hb dX14_oddsAmong_29 (by decide) (fun c12 => ?_) (fun c12 => ?_)
              · replace h := ifp h c12
                refine lv_iconst (v := 0) hx hb dX14_oddsAmong_36 ki_0 ?_
                exact J37 0 _ _ _ hR hS (lv_sub hl [0, 2, 3] rfl) h
              · replace h := ifn h c12
                refine lv_iconst (v := 1) hx hb dX14_oddsAmong_32 ki_1 ?_
                refine lv_goto (tgt := 37) hx hb dX14_oddsAmong_33 (by decide) ?_
                exact J37 1 _ _ _ hR hS (lv_sub hl [0, 2, 3] rfl) h
        exact J17 fuel x1 0 _ _ _ hR hS (lv_sub hl [1, 2, 3, 0] rfl) h
  exact J4 fuel 0 0 _ _ _ hR hS (lv_sub hl [2, 1, 0] rfl) h
def rm_X14_state : Room := { frames := 4, cells := 0, slots := 0, locals := 80 }
theorem hd_X14_state : yX14_state.cls = "IntentVatsModel" ∧ yX14_state.cls ≠ "java/lang/invoke/MethodHandle" ∧ yX14_state.cls ≠ "java/lang/invoke/VarHandle" ∧ (parseMethodDescriptor yX14_state.desc).map (fun d => d.parameters.length) = some 1 := by decide +kernel
theorem he_X14_state : yX14_state.cls ≠ "java/lang/invoke/MethodHandle" ∧ yX14_state.cls ≠ "java/lang/invoke/VarHandle" ∧ (parseMethodDescriptor yX14_state.desc).map (fun d => d.parameters.length) = some 1 := hd_X14_state.2

set_option maxHeartbeats 4000000 in
set_option maxRecDepth 100000 in
theorem w_X14_state {l : Launch} {G : Gx} {sh : SM} {g : GM} {gl : LM} {gr : RM} {n : Nat} (hSk : Sk sh gr) (a1 : Int32)  {r : Int32} (h : f_X14_state g a1 = some r) : MetI l G yX14_state (ws_ yX14_state cX14_state 2 (Option.some Jvm.ClassFile.FieldType.int)) rm_X14_state [.ref (adr G 128), .int a1] sh g gl gr n (some (.int r)) sh g gl gr n := by
  refine MetI.of (by decide) (Nat.le_of_ble_eq_true rfl) ?_
  intro p e s m below meth c ls hx hb hr hml hown hts hlk hnm hW hK hR hS hl
  have hown : s.vm.findClass RX14 = some m.cls := hown
  have hF : CallFix p m c cX14_state 2 s ([.ref (adr G 128), .int a1] : List Value).toArray lw_all RX14 := ⟨hx, hb, hml, hown, hts⟩
  have hl : lv_has ls 2 [(0, .ref (adr G 128)), (1, .int a1)] := hl
  unfold f_X14_state at h
  refine lv_iload_n hx hb dX14_state_0 rfl (lv_at hl 1 rfl) ?_
  by_cases c1 : a1 = 0
  · replace h := ifp h c1
    refine lv_tableIn (off := 39) (tgt := 40) hx hb dX14_state_1 (by rw [c1]; decide) (by rw [c1]; decide) (by rw [c1]; decide) (by decide) ?_
    refine lv_aload_n hx hb dX14_state_40 rfl (lv_at hl 0 rfl) ?_
    refine r_getr hx hb hts cfX14 hown hK hR (sk_128 hSk) 2 (by decide) rfl (sr_128_2 hSk) (hts _ q1523) (fun _ h => h) dX14_state_41 ?_
    refine lv_iconst (v := 4) hx hb dX14_state_44 ki_4 ?_
    obtain ⟨v3, e2, h⟩ := obd h
    refine r_ldi hx hb hK hR (sk_131 hSk) e2 dX14_state_45 ?_
    obtain rfl := s1i h
    exact r_iret0 hx hb hr hlk hR hS (Nat.zero_le _) (Nat.zero_le _) dX14_state_46
  · replace h := ifn h c1
    by_cases c4 : a1 = 1
    · replace h := ifp h c4
      refine lv_tableIn (off := 46) (tgt := 47) hx hb dX14_state_1 (by rw [c4]; decide) (by rw [c4]; decide) (by rw [c4]; decide) (by decide) ?_
      refine lv_iconst (v := 1) hx hb dX14_state_47 ki_1 ?_
      refine lv_aload_n hx hb dX14_state_48 rfl (lv_at hl 0 rfl) ?_
      refine r_getr hx hb hts cfX14 hown hK hR (sk_128 hSk) 2 (by decide) rfl (sr_128_2 hSk) (hts _ q1523) (fun _ h => h) dX14_state_49 ?_
      refine lv_bipush (v := 23) hx hb dX14_state_52 kb_23 ?_
      refine lv_aload_n hx hb dX14_state_54 rfl (lv_at hl 0 rfl) ?_
      refine r_getr hx hb hts cfX14 hown hK hR (sk_128 hSk) 2 (by decide) rfl (sr_128_2 hSk) (hts _ q1523) (fun _ h => h) dX14_state_55 ?_
      refine lv_iconst (v := 4) hx hb dX14_state_58 ki_4 ?_
      obtain ⟨v6, e5, h⟩ := obd h
      refine r_ldi hx hb hK hR (sk_131 hSk) e5 dX14_state_59 ?_
      refine lv_bipush (v := 6) hx hb dX14_state_60 kb_6 ?_
      refine lv_irem hx hb dX14_state_62 (by decide) ?_
      refine lv_iadd hx hb dX14_state_63 ?_
      obtain ⟨v8, e7, h⟩ := obd h
      refine r_ldi hx hb hK hR (sk_131 hSk) e7 dX14_state_64 ?_
      refine lv_iadd hx hb dX14_state_65 ?_
      obtain rfl := s1i h
      exact r_iret0 hx hb hr hlk hR hS (Nat.zero_le _) (Nat.zero_le _) dX14_state_66
    · replace h := ifn h c4
      by_cases c9 : a1 = 2
      · replace h := ifp h c9
        refine lv_tableIn (off := 66) (tgt := 67) hx hb dX14_state_1 (by rw [c9]; decide) (by rw [c9]; decide) (by rw [c9]; decide) (by decide) ?_
        refine lv_aload_n hx hb dX14_state_67 rfl (lv_at hl 0 rfl) ?_
        obtain ⟨r11, e10, h⟩ := obd h
        refine rc_V0 (rest := []) (st1 := [.int r11]) hF (w_X14_hungSet hSk e10) (cwV 0 hts (lw_V q1774 q1776 qs62 q117 q1777) rfl rfl rfl hd_X14_hungSet ⟨Nat.le_of_ble_eq_true rfl, Nat.le_of_ble_eq_true rfl⟩) cfX14 (sk_128 hSk) hK hW hR hS rfl hl.1 rfl (Nat.le_of_ble_eq_true rfl) rfl dX14_state_68 ⟨rfl, rfl⟩ ⟨Nat.zero_le _, Nat.zero_le _⟩ (fun H locs hR hS => ?_)
        obtain rfl := s1i h
        exact r_iret0 hx hb hr hlk hR hS (Nat.zero_le _) (Nat.zero_le _) dX14_state_71
      · replace h := ifn h c9
        by_cases c12 : a1 = 3
        · replace h := ifp h c12
          refine lv_tableIn (off := 71) (tgt := 72) hx hb dX14_state_1 (by rw [c12]; decide) (by rw [c12]; decide) (by rw [c12]; decide) (by decide) ?_
          refine lv_aload_n hx hb dX14_state_72 rfl (lv_at hl 0 rfl) ?_
          obtain ⟨r14, e13, h⟩ := obd h
          refine rc_V0 (rest := []) (st1 := [.int r14]) hF (w_X14_aboutSet hSk e13) (cwV 0 hts (lw_V q1778 q1780 qs63 q117 q1781) rfl rfl rfl hd_X14_aboutSet ⟨Nat.le_of_ble_eq_true rfl, Nat.le_of_ble_eq_true rfl⟩) cfX14 (sk_128 hSk) hK hW hR hS rfl hl.1 rfl (Nat.le_of_ble_eq_true rfl) rfl dX14_state_73 ⟨rfl, rfl⟩ ⟨Nat.zero_le _, Nat.zero_le _⟩ (fun H locs hR hS => ?_)
          obtain rfl := s1i h
          exact r_iret0 hx hb hr hlk hR hS (Nat.zero_le _) (Nat.zero_le _) dX14_state_76
        · replace h := ifn h c12
          by_cases c15 : a1 = 4
          · replace h := ifp h c15
            refine lv_tableIn (off := 76) (tgt := 77) hx hb dX14_state_1 (by rw [c15]; decide) (by rw [c15]; decide) (by rw [c15]; decide) (by decide) ?_
            refine lv_aload_n hx hb dX14_state_77 rfl (lv_at hl 0 rfl) ?_
            obtain ⟨r17, e16, h⟩ := obd h
            refine rc_V0 (rest := []) (st1 := [.int r17]) hF (w_X14_depths hSk e16) (cwV 0 hts (lw_V q1733 q1735 qs57 q117 q1736) rfl rfl rfl hd_X14_depths ⟨Nat.le_of_ble_eq_true rfl, Nat.le_of_ble_eq_true rfl⟩) cfX14 (sk_128 hSk) hK hW hR hS rfl hl.1 rfl (Nat.le_of_ble_eq_true rfl) rfl dX14_state_78 ⟨rfl, rfl⟩ ⟨Nat.zero_le _, Nat.zero_le _⟩ (fun H locs hR hS => ?_)
            obtain rfl := s1i h
            exact r_iret0 hx hb hr hlk hR hS (Nat.zero_le _) (Nat.zero_le _) dX14_state_81
          · replace h := ifn h c15
            by_cases c18 : a1 = 5
            · replace h := ifp h c18
              refine lv_tableIn (off := 81) (tgt := 82) hx hb dX14_state_1 (by rw [c18]; decide) (by rw [c18]; decide) (by rw [c18]; decide) (by decide) ?_
              refine lv_aload_n hx hb dX14_state_82 rfl (lv_at hl 0 rfl) ?_
              obtain ⟨r20, e19, h⟩ := obd h
              refine rc_V0 (rest := []) (st1 := [.int r20]) hF (w_X14_oddsAmong hSk e19) (cwV 0 hts (lw_V q1782 q1784 qs64 q117 q1785) rfl rfl rfl hd_X14_oddsAmong ⟨Nat.le_of_ble_eq_true rfl, Nat.le_of_ble_eq_true rfl⟩) cfX14 (sk_128 hSk) hK hW hR hS rfl hl.1 rfl (Nat.le_of_ble_eq_true rfl) rfl dX14_state_83 ⟨rfl, rfl⟩ ⟨Nat.zero_le _, Nat.zero_le _⟩ (fun H locs hR hS => ?_)
              obtain rfl := s1i h
              exact r_iret0 hx hb hr hlk hR hS (Nat.zero_le _) (Nat.zero_le _) dX14_state_86
            · replace h := ifn h c18
              have dc1 : Int32.toInt a1 ≠ 0 := ne32 c1 (by decide)
              have dc4 : Int32.toInt a1 ≠ 1 := ne32 c4 (by decide)
              have dc9 : Int32.toInt a1 ≠ 2 := ne32 c9 (by decide)
              have dc12 : Int32.toInt a1 ≠ 3 := ne32 c12 (by decide)
              have dc15 : Int32.toInt a1 ≠ 4 := ne32 c15 (by decide)
              have dc18 : Int32.toInt a1 ≠ 5 := ne32 c18 (by decide)
              refine lv_tableOut (tgt := 87) hx hb dX14_state_1 (by omega) (by decide) ?_
              refine lv_iconst (v := (-1)) hx hb dX14_state_87 ki_m1 ?_
              obtain rfl := s1i h
              exact r_iret0 hx hb hr hlk hR hS (Nat.zero_le _) (Nat.zero_le _) dX14_state_88
def rm_X14_isAhead : Room := { frames := 2, cells := 0, slots := 0, locals := 37 }
theorem he_X14_isAhead : yX14_isAhead.cls ≠ "java/lang/invoke/MethodHandle" ∧ yX14_isAhead.cls ≠ "java/lang/invoke/VarHandle" ∧ (parseMethodDescriptor yX14_isAhead.desc).map (fun d => d.parameters.length) = some 1 := by decide +kernel

set_option maxHeartbeats 4000000 in
set_option maxRecDepth 100000 in
theorem w_X14_isAhead {l : Launch} {G : Gx} {sh : SM} {g : GM} {gl : LM} {gr : RM} {n : Nat} (hSk : Sk sh gr) (a0 : Int32)  {r : Int32} (h : f_X14_isAhead  a0 = some r) : MetI l G yX14_isAhead (ws_ yX14_isAhead cX14_isAhead 1 (Option.some Jvm.ClassFile.FieldType.boolean)) rm_X14_isAhead [.int a0] sh g gl gr n (some (.int r)) sh g gl gr n := by
  refine MetI.of (by decide) (Nat.le_of_ble_eq_true rfl) ?_
  intro p e s m below meth c ls hx hb hr hml hown hts hlk hnm hW hK hR hS hl
  have hown : s.vm.findClass RX14 = some m.cls := hown
  have hF : CallFix p m c cX14_isAhead 1 s ([.int a0] : List Value).toArray lw_all RX14 := ⟨hx, hb, hml, hown, hts⟩
  have hl : lv_has ls 1 [(0, .int a0)] := hl
  unfold f_X14_isAhead at h
  refine lv_iload_n hx hb dX14_isAhead_0 rfl (lv_at hl 0 rfl) ?_
  refine lv_i2l hx hb dX14_isAhead_1 rfl ?_
  refine lv_lconst (v := 0) hx hb dX14_isAhead_2 rfl ?_
  refine lv_ldc2 (v := 60) hx hb hown (hts _ q1724) dX14_isAhead_3 ?_
  obtain ⟨r2, e1, h⟩ := obd h
  refine rc_S0 (rest := []) (st1 := [.int r2]) hF (w_X14_in hSk a0.toInt64 0 60 e1) (va_cwS 3 hts (lw_S q1602 q1603 q117 q1604) rfl rfl rfl he_X14_in ⟨Nat.le_of_ble_eq_true rfl, Nat.le_of_ble_eq_true rfl⟩) hW hR hS rfl hl.1 rfl (Nat.le_of_ble_eq_true rfl) rfl dX14_isAhead_6 ⟨rfl, rfl⟩ ⟨Nat.zero_le _, Nat.zero_le _⟩ (fun H locs hR hS => ?_)
  obtain ⟨c3, h⟩ := ogrd h
  obtain rfl := s1i h
  exact r_zret0 hx hb hr hlk hR hS (Nat.zero_le _) (Nat.zero_le _) (nb01 c3) dX14_isAhead_9
def rm_X14_behind : Room := { frames := 6, cells := 0, slots := 0, locals := 132 }
theorem hd_X14_behind : yX14_behind.cls = "IntentVatsModel" ∧ yX14_behind.cls ≠ "java/lang/invoke/MethodHandle" ∧ yX14_behind.cls ≠ "java/lang/invoke/VarHandle" ∧ (parseMethodDescriptor yX14_behind.desc).map (fun d => d.parameters.length) = some 3 := by decide +kernel
theorem he_X14_behind : yX14_behind.cls ≠ "java/lang/invoke/MethodHandle" ∧ yX14_behind.cls ≠ "java/lang/invoke/VarHandle" ∧ (parseMethodDescriptor yX14_behind.desc).map (fun d => d.parameters.length) = some 3 := hd_X14_behind.2

set_option maxHeartbeats 4000000 in
set_option maxRecDepth 100000 in
theorem w_X14_behind {l : Launch} {G : Gx} {sh : SM} {g : GM} {gl : LM} {gr : RM} {n : Nat} (hSk : Sk sh gr) (a1 : Int32) (a2 : Int32) (a3 : Int32)  {r : Int32} {go : GM} (h : f_X14_behind g a1 a2 a3 = some (r, go)) : MetI l G yX14_behind (ws_ yX14_behind cX14_behind 5 (Option.some Jvm.ClassFile.FieldType.int)) rm_X14_behind [.ref (adr G 128), .int a1, .int a2, .int a3] sh g gl gr n (some (.int r)) sh go gl gr n := by
  refine MetI.of (by decide) (Nat.le_of_ble_eq_true rfl) ?_
  intro p e s m below meth c ls hx hb hr hml hown hts hlk hnm hW hK hR hS hl
  have hown : s.vm.findClass RX14 = some m.cls := hown
  have hF : CallFix p m c cX14_behind 5 s ([.ref (adr G 128), .int a1, .int a2, .int a3] : List Value).toArray lw_all RX14 := ⟨hx, hb, hml, hown, hts⟩
  have hl : lv_has ls 5 [(0, .ref (adr G 128)), (1, .int a1), (2, .int a2), (3, .int a3)] := hl
  unfold f_X14_behind at h
  refine lv_aload_n hx hb dX14_behind_0 rfl (lv_at hl 0 rfl) ?_
  refine lv_iload_n hx hb dX14_behind_1 rfl (lv_at hl 3 rfl) ?_
  obtain ⟨g2, e1, h⟩ := obd h
  refine rc_V0 (rest := []) (st1 := []) hF (w_X14_goes hSk a3 e1) (cwV 1 hts (lw_V q1725 q1727 qs55 q117 q1728) rfl rfl rfl hd_X14_goes ⟨Nat.le_of_ble_eq_true rfl, Nat.le_of_ble_eq_true rfl⟩) cfX14 (sk_128 hSk) hK hW hR hS rfl hl.1 rfl (Nat.le_of_ble_eq_true rfl) rfl dX14_behind_2 ⟨rfl, rfl⟩ ⟨Nat.zero_le _, Nat.zero_le _⟩ (fun H locs hR hS => ?_)
  refine lv_aload_n hx hb dX14_behind_5 rfl (lv_at hl 0 rfl) ?_
  refine lv_iload_n hx hb dX14_behind_6 rfl (lv_at hl 1 rfl) ?_
  refine lv_iload_n hx hb dX14_behind_7 rfl (lv_at hl 2 rfl) ?_
  obtain ⟨r4, e3, h⟩ := obd h
  refine rc_V0 (rest := []) (st1 := [.int r4]) hF (w_X14_its hSk a1 a2 e3) (cwV 2 hts (lw_V q1662 q1664 qs48 q117 q1665) rfl rfl rfl hd_X14_its ⟨Nat.le_of_ble_eq_true rfl, Nat.le_of_ble_eq_true rfl⟩) cfX14 (sk_128 hSk) hK hW hR hS rfl hl.1 rfl (Nat.le_of_ble_eq_true rfl) rfl dX14_behind_8 ⟨rfl, rfl⟩ ⟨Nat.zero_le _, Nat.zero_le _⟩ (fun H locs hR hS => ?_)
  refine lv_istore (lv' := [(4, .int r4), (0, .ref (adr G 128)), (1, .int a1), (2, .int a2), (3, .int a3)]) hx hb dX14_behind_11 hl (by decide) rfl (fun ls hl => ?_)
  refine lv_aload_n hx hb dX14_behind_13 rfl (lv_at hl 1 rfl) ?_
  obtain ⟨g6, e5, h⟩ := obd h
  refine rc_V0 (rest := []) (st1 := []) hF (w_X14_laysBack hSk e5) (cwV 0 hts (lw_V q1766 q1768 qs61 q117 q1769) rfl rfl rfl hd_X14_laysBack ⟨Nat.le_of_ble_eq_true rfl, Nat.le_of_ble_eq_true rfl⟩) cfX14 (sk_128 hSk) hK hW hR hS rfl hl.1 rfl (Nat.le_of_ble_eq_true rfl) rfl dX14_behind_14 ⟨rfl, rfl⟩ ⟨Nat.zero_le _, Nat.zero_le _⟩ (fun H locs hR hS => ?_)
  refine lv_iload hx hb dX14_behind_17 (lv_at hl 0 rfl) ?_
  obtain ⟨rfl, rfl⟩ := s2i h
  exact r_iret0 hx hb hr hlk hR hS (Nat.zero_le _) (Nat.zero_le _) dX14_behind_19
def rm_X14_gone : Room := { frames := 7, cells := 0, slots := 0, locals := 156 }
theorem hd_X14_gone : yX14_gone.cls = "IntentVatsModel" ∧ yX14_gone.cls ≠ "java/lang/invoke/MethodHandle" ∧ yX14_gone.cls ≠ "java/lang/invoke/VarHandle" ∧ (parseMethodDescriptor yX14_gone.desc).map (fun d => d.parameters.length) = some 2 := by decide +kernel
theorem he_X14_gone : yX14_gone.cls ≠ "java/lang/invoke/MethodHandle" ∧ yX14_gone.cls ≠ "java/lang/invoke/VarHandle" ∧ (parseMethodDescriptor yX14_gone.desc).map (fun d => d.parameters.length) = some 2 := hd_X14_gone.2

set_option maxHeartbeats 4000000 in
set_option maxRecDepth 100000 in
theorem w_X14_gone {l : Launch} {G : Gx} {sh : SM} {g : GM} {gl : LM} {gr : RM} {n : Nat} (hSk : Sk sh gr) (a1 : Int32) (a2 : Int32)  {r : Int32} {go : GM} (h : f_X14_gone g a1 a2 = some (r, go)) : MetI l G yX14_gone (ws_ yX14_gone cX14_gone 3 (Option.some Jvm.ClassFile.FieldType.int)) rm_X14_gone [.ref (adr G 128), .int a1, .int a2] sh g gl gr n (some (.int r)) sh go gl gr n := by
  refine MetI.of (by decide) (Nat.le_of_ble_eq_true rfl) ?_
  intro p e s m below meth c ls hx hb hr hml hown hts hlk hnm hW hK hR hS hl
  have hown : s.vm.findClass RX14 = some m.cls := hown
  have hF : CallFix p m c cX14_gone 3 s ([.ref (adr G 128), .int a1, .int a2] : List Value).toArray lw_all RX14 := ⟨hx, hb, hml, hown, hts⟩
  have hl : lv_has ls 3 [(0, .ref (adr G 128)), (1, .int a1), (2, .int a2)] := hl
  unfold f_X14_gone at h
  refine lv_aload_n hx hb dX14_gone_0 rfl (lv_at hl 0 rfl) ?_
  refine lv_iload_n hx hb dX14_gone_1 rfl (lv_at hl 1 rfl) ?_
  obtain ⟨r2, e1, h⟩ := obd h
  refine rc_V0 (rest := []) (st1 := [.int r2]) hF (w_X14_isCloth hSk a1 e1) (cwV 1 hts (lw_V q1657 q1659 qs47 q117 q1660) rfl rfl rfl hd_X14_isCloth ⟨Nat.le_of_ble_eq_true rfl, Nat.le_of_ble_eq_true rfl⟩) cfX14 (sk_128 hSk) hK hW hR hS rfl hl.1 rfl (Nat.le_of_ble_eq_true rfl) rfl dX14_gone_2 ⟨rfl, rfl⟩ ⟨Nat.zero_le _, Nat.zero_le _⟩ (fun H locs hR hS => ?_)
  have J15 : ∀  (H : Heap) (locs : List Loc) (ls : Array Slot), Rep G sh g gl gr n H → va_S (own G) s.heap H locs → lv_has ls 3 [] → j_X14_gone_15 g  = some (r, go) → W p l e rm_X14_gone s m ([.ref (adr G 128), .int a1, .int a2] : List Value).toArray below meth c H locs 0 0 (MQ below (QR G (some (.int r)) sh go gl gr n) ([.ref (adr G 128), .int a1, .int a2] : List Value).toArray s rm_X14_gone.cells rm_X14_gone.slots (own G)) (F0 m 15 ls []) := by
    intro  H locs ls hR hS hl h
    unfold j_X14_gone_15 at h
    refine lv_iconst (v := (-1)) hx hb dX14_gone_15 ki_m1 ?_
    obtain ⟨rfl, rfl⟩ := s2i h
    exact r_iret0 hx hb hr hlk hR hS (Nat.zero_le _) (Nat.zero_le _) dX14_gone_16
  refine lv_if_eq (tgt := 15) hx hb dX14_gone_5 (by decide) (fun c3 => ?_) (fun c3 => ?_)
  · replace h := ifp h c3
    exact J15  _ _ _ hR hS (lv_sub hl [] rfl) h
  · replace h := ifn h c3
    refine lv_iload_n hx hb dX14_gone_8 rfl (lv_at hl 2 rfl) ?_
    obtain ⟨r5, e4, h⟩ := obd h
    refine rc_S0 (rest := []) (st1 := [.int r5]) hF (w_X14_isAhead hSk a2 e4) (va_cwS 1 hts (lw_S q1794 q1795 q117 q1796) rfl rfl rfl he_X14_isAhead ⟨Nat.le_of_ble_eq_true rfl, Nat.le_of_ble_eq_true rfl⟩) hW hR hS rfl hl.1 rfl (Nat.le_of_ble_eq_true rfl) rfl dX14_gone_9 ⟨rfl, rfl⟩ ⟨Nat.zero_le _, Nat.zero_le _⟩ (fun H locs hR hS => ?_)
    refine lv_if_ne (tgt := 17) hx hb dX14_gone_12 (by decide) (fun c6 => ?_) (fun c6 => ?_)
    · replace h := ifn h c6
      refine lv_aload_n hx hb dX14_gone_17 rfl (lv_at hl 0 rfl) ?_
      obtain ⟨g8, e7, h⟩ := obd h
      refine rc_V0 (rest := []) (st1 := []) hF (w_X14_lends hSk e7) (cwV 0 hts (lw_V q1759 q1761 qs60 q117 q1762) rfl rfl rfl hd_X14_lends ⟨Nat.le_of_ble_eq_true rfl, Nat.le_of_ble_eq_true rfl⟩) cfX14 (sk_128 hSk) hK hW hR hS rfl hl.1 rfl (Nat.le_of_ble_eq_true rfl) rfl dX14_gone_18 ⟨rfl, rfl⟩ ⟨Nat.zero_le _, Nat.zero_le _⟩ (fun H locs hR hS => ?_)
      refine lv_iconst (v := 1) hx hb dX14_gone_21 ki_1 ?_
      refine lv_aload_n hx hb dX14_gone_22 rfl (lv_at hl 0 rfl) ?_
      refine lv_iload_n hx hb dX14_gone_23 rfl (lv_at hl 1 rfl) ?_
      refine lv_iconst (v := 1) hx hb dX14_gone_24 ki_1 ?_
      refine lv_iload_n hx hb dX14_gone_25 rfl (lv_at hl 2 rfl) ?_
      obtain ⟨r10, g11, e9, h⟩ := obd2 h
      refine rc_V0 (rest := [.int 1]) (st1 := [.int r10, .int 1]) hF (w_X14_behind hSk a1 1 a2 e9) (cwV 3 hts (lw_V q1797 q1799 qs66 q117 q1800) rfl rfl rfl hd_X14_behind ⟨Nat.le_of_ble_eq_true rfl, Nat.le_of_ble_eq_true rfl⟩) cfX14 (sk_128 hSk) hK hW hR hS rfl hl.1 rfl (Nat.le_of_ble_eq_true rfl) rfl dX14_gone_26 ⟨rfl, rfl⟩ ⟨Nat.zero_le _, Nat.zero_le _⟩ (fun H locs hR hS => ?_)
      refine lv_iadd hx hb dX14_gone_29 ?_
      obtain ⟨rfl, rfl⟩ := s2i h
      exact r_iret0 hx hb hr hlk hR hS (Nat.zero_le _) (Nat.zero_le _) dX14_gone_30
    · replace h := ifp h c6
      exact J15  _ _ _ hR hS (lv_sub hl [] rfl) h
def rm_X14_depth : Room := { frames := 7, cells := 0, slots := 0, locals := 156 }
theorem hd_X14_depth : yX14_depth.cls = "IntentVatsModel" ∧ yX14_depth.cls ≠ "java/lang/invoke/MethodHandle" ∧ yX14_depth.cls ≠ "java/lang/invoke/VarHandle" ∧ (parseMethodDescriptor yX14_depth.desc).map (fun d => d.parameters.length) = some 2 := by decide +kernel
theorem he_X14_depth : yX14_depth.cls ≠ "java/lang/invoke/MethodHandle" ∧ yX14_depth.cls ≠ "java/lang/invoke/VarHandle" ∧ (parseMethodDescriptor yX14_depth.desc).map (fun d => d.parameters.length) = some 2 := hd_X14_depth.2

set_option maxHeartbeats 4000000 in
set_option maxRecDepth 100000 in
theorem w_X14_depth {l : Launch} {G : Gx} {sh : SM} {g : GM} {gl : LM} {gr : RM} {n : Nat} (hSk : Sk sh gr) (a1 : Int32) (a2 : Int32)  {r : Int32} {go : GM} (h : f_X14_depth g a1 a2 = some (r, go)) : MetI l G yX14_depth (ws_ yX14_depth cX14_depth 3 (Option.some Jvm.ClassFile.FieldType.int)) rm_X14_depth [.ref (adr G 128), .int a1, .int a2] sh g gl gr n (some (.int r)) sh go gl gr n := by
  refine MetI.of (by decide) (Nat.le_of_ble_eq_true rfl) ?_
  intro p e s m below meth c ls hx hb hr hml hown hts hlk hnm hW hK hR hS hl
  have hown : s.vm.findClass RX14 = some m.cls := hown
  have hF : CallFix p m c cX14_depth 3 s ([.ref (adr G 128), .int a1, .int a2] : List Value).toArray lw_all RX14 := ⟨hx, hb, hml, hown, hts⟩
  have hl : lv_has ls 3 [(0, .ref (adr G 128)), (1, .int a1), (2, .int a2)] := hl
  unfold f_X14_depth at h
  refine lv_aload_n hx hb dX14_depth_0 rfl (lv_at hl 0 rfl) ?_
  refine lv_iload_n hx hb dX14_depth_1 rfl (lv_at hl 1 rfl) ?_
  obtain ⟨r2, e1, h⟩ := obd h
  refine rc_V0 (rest := []) (st1 := [.int r2]) hF (w_X14_isCloth hSk a1 e1) (cwV 1 hts (lw_V q1657 q1659 qs47 q117 q1660) rfl rfl rfl hd_X14_isCloth ⟨Nat.le_of_ble_eq_true rfl, Nat.le_of_ble_eq_true rfl⟩) cfX14 (sk_128 hSk) hK hW hR hS rfl hl.1 rfl (Nat.le_of_ble_eq_true rfl) rfl dX14_depth_2 ⟨rfl, rfl⟩ ⟨Nat.zero_le _, Nat.zero_le _⟩ (fun H locs hR hS => ?_)
  have J15 : ∀  (H : Heap) (locs : List Loc) (ls : Array Slot), Rep G sh g gl gr n H → va_S (own G) s.heap H locs → lv_has ls 3 [] → j_X14_depth_15 g  = some (r, go) → W p l e rm_X14_depth s m ([.ref (adr G 128), .int a1, .int a2] : List Value).toArray below meth c H locs 0 0 (MQ below (QR G (some (.int r)) sh go gl gr n) ([.ref (adr G 128), .int a1, .int a2] : List Value).toArray s rm_X14_depth.cells rm_X14_depth.slots (own G)) (F0 m 15 ls []) := by
    intro  H locs ls hR hS hl h
    unfold j_X14_depth_15 at h
    refine lv_iconst (v := (-1)) hx hb dX14_depth_15 ki_m1 ?_
    obtain ⟨rfl, rfl⟩ := s2i h
    exact r_iret0 hx hb hr hlk hR hS (Nat.zero_le _) (Nat.zero_le _) dX14_depth_16
  refine lv_if_eq (tgt := 15) hx hb dX14_depth_5 (by decide) (fun c3 => ?_) (fun c3 => ?_)
  · replace h := ifp h c3
    exact J15  _ _ _ hR hS (lv_sub hl [] rfl) h
  · replace h := ifn h c3
    refine lv_iload_n hx hb dX14_depth_8 rfl (lv_at hl 2 rfl) ?_
    obtain ⟨r5, e4, h⟩ := obd h
    refine rc_S0 (rest := []) (st1 := [.int r5]) hF (w_X14_isAhead hSk a2 e4) (va_cwS 1 hts (lw_S q1794 q1795 q117 q1796) rfl rfl rfl he_X14_isAhead ⟨Nat.le_of_ble_eq_true rfl, Nat.le_of_ble_eq_true rfl⟩) hW hR hS rfl hl.1 rfl (Nat.le_of_ble_eq_true rfl) rfl dX14_depth_9 ⟨rfl, rfl⟩ ⟨Nat.zero_le _, Nat.zero_le _⟩ (fun H locs hR hS => ?_)
    refine lv_if_ne (tgt := 17) hx hb dX14_depth_12 (by decide) (fun c6 => ?_) (fun c6 => ?_)
    · replace h := ifn h c6
      refine lv_aload_n hx hb dX14_depth_17 rfl (lv_at hl 0 rfl) ?_
      obtain ⟨g8, e7, h⟩ := obd h
      refine rc_V0 (rest := []) (st1 := []) hF (w_X14_lends hSk e7) (cwV 0 hts (lw_V q1759 q1761 qs60 q117 q1762) rfl rfl rfl hd_X14_lends ⟨Nat.le_of_ble_eq_true rfl, Nat.le_of_ble_eq_true rfl⟩) cfX14 (sk_128 hSk) hK hW hR hS rfl hl.1 rfl (Nat.le_of_ble_eq_true rfl) rfl dX14_depth_18 ⟨rfl, rfl⟩ ⟨Nat.zero_le _, Nat.zero_le _⟩ (fun H locs hR hS => ?_)
      refine lv_aload_n hx hb dX14_depth_21 rfl (lv_at hl 0 rfl) ?_
      refine lv_iload_n hx hb dX14_depth_22 rfl (lv_at hl 1 rfl) ?_
      refine lv_iconst (v := 2) hx hb dX14_depth_23 ki_2 ?_
      refine lv_iload_n hx hb dX14_depth_24 rfl (lv_at hl 2 rfl) ?_
      obtain ⟨r10, g11, e9, h⟩ := obd2 h
      refine rc_V0 (rest := []) (st1 := [.int r10]) hF (w_X14_behind hSk a1 2 a2 e9) (cwV 3 hts (lw_V q1797 q1799 qs66 q117 q1800) rfl rfl rfl hd_X14_behind ⟨Nat.le_of_ble_eq_true rfl, Nat.le_of_ble_eq_true rfl⟩) cfX14 (sk_128 hSk) hK hW hR hS rfl hl.1 rfl (Nat.le_of_ble_eq_true rfl) rfl dX14_depth_25 ⟨rfl, rfl⟩ ⟨Nat.zero_le _, Nat.zero_le _⟩ (fun H locs hR hS => ?_)
      obtain ⟨rfl, rfl⟩ := s2i h
      exact r_iret0 hx hb hr hlk hR hS (Nat.zero_le _) (Nat.zero_le _) dX14_depth_28
    · replace h := ifp h c6
      exact J15  _ _ _ hR hS (lv_sub hl [] rfl) h
def rm_X14_firstAbout : Room := { frames := 5, cells := 0, slots := 0, locals := 110 }
theorem hd_X14_firstAbout : yX14_firstAbout.cls = "IntentVatsModel" ∧ yX14_firstAbout.cls ≠ "java/lang/invoke/MethodHandle" ∧ yX14_firstAbout.cls ≠ "java/lang/invoke/VarHandle" ∧ (parseMethodDescriptor yX14_firstAbout.desc).map (fun d => d.parameters.length) = some 2 := by decide +kernel
theorem he_X14_firstAbout : yX14_firstAbout.cls ≠ "java/lang/invoke/MethodHandle" ∧ yX14_firstAbout.cls ≠ "java/lang/invoke/VarHandle" ∧ (parseMethodDescriptor yX14_firstAbout.desc).map (fun d => d.parameters.length) = some 2 := hd_X14_firstAbout.2

set_option maxHeartbeats 4000000 in
set_option maxRecDepth 100000 in
theorem w_X14_firstAbout {l : Launch} {G : Gx} {sh : SM} {g : GM} {gl : LM} {gr : RM} {n : Nat} (hSk : Sk sh gr) (a1 : Int32) (a2 : Int32)  {r : Int32} {go : GM} (h : f_X14_firstAbout g a1 a2 = some (r, go)) : MetI l G yX14_firstAbout (ws_ yX14_firstAbout cX14_firstAbout 4 (Option.some Jvm.ClassFile.FieldType.int)) rm_X14_firstAbout [.ref (adr G 128), .int a1, .int a2] sh g gl gr n (some (.int r)) sh go gl gr n := by
  refine MetI.of (by decide) (Nat.le_of_ble_eq_true rfl) ?_
  intro p e s m below meth c ls hx hb hr hml hown hts hlk hnm hW hK hR hS hl
  have hown : s.vm.findClass RX14 = some m.cls := hown
  have hF : CallFix p m c cX14_firstAbout 4 s ([.ref (adr G 128), .int a1, .int a2] : List Value).toArray lw_all RX14 := ⟨hx, hb, hml, hown, hts⟩
  have hl : lv_has ls 4 [(0, .ref (adr G 128)), (1, .int a1), (2, .int a2)] := hl
  unfold f_X14_firstAbout at h
  refine lv_aload_n hx hb dX14_firstAbout_0 rfl (lv_at hl 0 rfl) ?_
  obtain ⟨g2, e1, h⟩ := obd h
  refine rc_V0 (rest := []) (st1 := []) hF (w_X14_lends hSk e1) (cwV 0 hts (lw_V q1759 q1761 qs60 q117 q1762) rfl rfl rfl hd_X14_lends ⟨Nat.le_of_ble_eq_true rfl, Nat.le_of_ble_eq_true rfl⟩) cfX14 (sk_128 hSk) hK hW hR hS rfl hl.1 rfl (Nat.le_of_ble_eq_true rfl) rfl dX14_firstAbout_1 ⟨rfl, rfl⟩ ⟨Nat.zero_le _, Nat.zero_le _⟩ (fun H locs hR hS => ?_)
  refine lv_iconst (v := 0) hx hb dX14_firstAbout_4 ki_0 ?_
  refine lv_istore_n (lv' := [(3, .int 0), (0, .ref (adr G 128)), (1, .int a1), (2, .int a2)]) hx hb dX14_firstAbout_5 rfl hl (by decide) rfl (fun ls hl => ?_)
  have J6 : ∀ (k6 : Nat) (x3 : Int32) (g4 : GM) (H : Heap) (locs : List Loc) (ls : Array Slot), Rep G sh g4 gl gr n H → va_S (own G) s.heap H locs → lv_has ls 4 [(0, .ref (adr G 128)), (1, .int a1), (2, .int a2), (3, .int x3)] → l_X14_firstAbout_6 a1 a2 k6 x3 g4 = some (r, go) → W p l e rm_X14_firstAbout s m ([.ref (adr G 128), .int a1, .int a2] : List Value).toArray below meth c H locs 0 0 (MQ below (QR G (some (.int r)) sh go gl gr n) ([.ref (adr G 128), .int a1, .int a2] : List Value).toArray s rm_X14_firstAbout.cells rm_X14_firstAbout.slots (own G)) (F0 m 6 ls []) := by
    intro k6
    induction k6 with
    | zero => intro _ _ _ _ _ _ _ _; exact nofun
    | succ k6 ih6 =>
      intro x3 g4 H locs ls hR hS hl h
      unfold l_X14_firstAbout_6 b_X14_firstAbout_6 at h
      refine lv_iload_n hx hb dX14_firstAbout_6 rfl (lv_at hl 3 rfl) ?_
      refine lv_bipush (v := 60) hx hb dX14_firstAbout_7 kb_60 ?_
      have J32 : ∀  (H : Heap) (locs : List Loc) (ls : Array Slot), Rep G sh g4 gl gr n H → va_S (own G) s.heap H locs → lv_has ls 4 [(0, .ref (adr G 128)), (3, .int x3)] → j_X14_firstAbout_32 x3 g4  = some (r, go) → W p l e rm_X14_firstAbout s m ([.ref (adr G 128), .int a1, .int a2] : List Value).toArray below meth c H locs 0 0 (MQ below (QR G (some (.int r)) sh go gl gr n) ([.ref (adr G 128), .int a1, .int a2] : List Value).toArray s rm_X14_firstAbout.cells rm_X14_firstAbout.slots (own G)) (F0 m 32 ls []) := by
        intro  H locs ls hR hS hl h
        unfold j_X14_firstAbout_32 at h
        refine lv_aload_n hx hb dX14_firstAbout_32 rfl (lv_at hl 0 rfl) ?_
        obtain ⟨g6, e5, h⟩ := obd h
        refine rc_V0 (rest := []) (st1 := []) hF (w_X14_laysBack hSk e5) (cwV 0 hts (lw_V q1766 q1768 qs61 q117 q1769) rfl rfl rfl hd_X14_laysBack ⟨Nat.le_of_ble_eq_true rfl, Nat.le_of_ble_eq_true rfl⟩) cfX14 (sk_128 hSk) hK hW hR hS rfl hl.1 rfl (Nat.le_of_ble_eq_true rfl) rfl dX14_firstAbout_33 ⟨rfl, rfl⟩ ⟨Nat.zero_le _, Nat.zero_le _⟩ (fun H locs hR hS => ?_)
        refine lv_iload_n hx hb dX14_firstAbout_36 rfl (lv_at hl 1 rfl) ?_
        refine lv_bipush (v := 60) hx hb dX14_firstAbout_37 kb_60 ?_
        have J48 : ∀ (x7 : Int32) (H : Heap) (locs : List Loc) (ls : Array Slot), Rep G sh g6 gl gr n H → va_S (own G) s.heap H locs → lv_has ls 4 [] → j_X14_firstAbout_48 g6 x7 = some (r, go) → W p l e rm_X14_firstAbout s m ([.ref (adr G 128), .int a1, .int a2] : List Value).toArray below meth c H locs 0 0 (MQ below (QR G (some (.int r)) sh go gl gr n) ([.ref (adr G 128), .int a1, .int a2] : List Value).toArray s rm_X14_firstAbout.cells rm_X14_firstAbout.slots (own G)) (F0 m 48 ls [.int x7]) := by
          intro x7 H locs ls hR hS hl h
          unfold j_X14_firstAbout_48 at h
          obtain ⟨rfl, rfl⟩ := s2i h
          exact r_iret0 hx hb hr hlk hR hS (Nat.zero_le _) (Nat.zero_le _) dX14_firstAbout_48
        refine lv_icmp_gt (tgt := 46) hx hb dX14_firstAbout_39 (by decide) (fun c8 => ?_) (fun c8 => ?_)
        · replace h := ifp h c8
          refine lv_bipush (v := (-3)) hx hb dX14_firstAbout_46 kb_m3 ?_
          exact J48 (-3) _ _ _ hR hS (lv_sub hl [] rfl) h
        · replace h := ifn h c8
          refine lv_iload_n hx hb dX14_firstAbout_42 rfl (lv_at hl 1 rfl) ?_
          refine lv_goto (tgt := 48) hx hb dX14_firstAbout_43 (by decide) ?_
          exact J48 x3 _ _ _ hR hS (lv_sub hl [] rfl) h
      refine lv_icmp_gt (tgt := 32) hx hb dX14_firstAbout_9 (by decide) (fun c9 => ?_) (fun c9 => ?_)
      · replace h := ifp h c9
        exact J32  _ _ _ hR hS (lv_sub hl [0, 3] rfl) h
      · replace h := ifn h c9
        refine lv_aload_n hx hb dX14_firstAbout_12 rfl (lv_at hl 0 rfl) ?_
        refine lv_iload_n hx hb dX14_firstAbout_13 rfl (lv_at hl 1 rfl) ?_
        refine lv_iconst (v := 1) hx hb dX14_firstAbout_14 ki_1 ?_
        obtain ⟨r11, e10, h⟩ := obd h
        refine rc_V0 (rest := []) (st1 := [.int r11]) hF (w_X14_its hSk a1 1 e10) (cwV 2 hts (lw_V q1662 q1664 qs48 q117 q1665) rfl rfl rfl hd_X14_its ⟨Nat.le_of_ble_eq_true rfl, Nat.le_of_ble_eq_true rfl⟩) cfX14 (sk_128 hSk) hK hW hR hS rfl hl.1 rfl (Nat.le_of_ble_eq_true rfl) rfl dX14_firstAbout_15 ⟨rfl, rfl⟩ ⟨Nat.zero_le _, Nat.zero_le _⟩ (fun H locs hR hS => ?_)
        refine lv_iload_n hx hb dX14_firstAbout_18 rfl (lv_at hl 2 rfl) ?_
        refine lv_icmp_eq (tgt := 32) hx hb dX14_firstAbout_19 (by decide) (fun c12 => ?_) (fun c12 => ?_)
        · replace h := ifp h c12
          exact J32  _ _ _ hR hS (lv_sub hl [0, 3] rfl) h
        · replace h := ifn h c12
          refine lv_aload_n hx hb dX14_firstAbout_22 rfl (lv_at hl 0 rfl) ?_
          obtain ⟨g14, e13, h⟩ := obd h
          refine rc_V0 (rest := []) (st1 := []) hF (w_X14_aDay hSk e13) (cwV 0 hts (lw_V q1729 q1731 qs56 q117 q1732) rfl rfl rfl hd_X14_aDay ⟨Nat.le_of_ble_eq_true rfl, Nat.le_of_ble_eq_true rfl⟩) cfX14 (sk_128 hSk) hK hW hR hS rfl hl.1 rfl (Nat.le_of_ble_eq_true rfl) rfl dX14_firstAbout_23 ⟨rfl, rfl⟩ ⟨Nat.zero_le _, Nat.zero_le _⟩ (fun H locs hR hS => ?_)
          refine lv_iinc (v := x3 + 1) (lv' := [(3, .int (x3 + 1)), (0, .ref (adr G 128)), (1, .int a1), (2, .int a2)]) hx hb dX14_firstAbout_26 hl (k := 3) rfl rfl (by decide) rfl (fun ls hl => ?_)
          refine lv_goto (tgt := 6) hx hb dX14_firstAbout_29 (by decide) ?_
          exact ih6 (x3 + 1) g14 _ _ _ hR hS (lv_sub hl [1, 2, 3, 0] rfl) h
  exact J6 fuel 0 g2 _ _ _ hR hS (lv_sub hl [1, 2, 3, 0] rfl) h
def rm_X14_comes : Room := { frames := 6, cells := 0, slots := 0, locals := 133 }
theorem hd_X14_comes : yX14_comes.cls = "IntentVatsModel" ∧ yX14_comes.cls ≠ "java/lang/invoke/MethodHandle" ∧ yX14_comes.cls ≠ "java/lang/invoke/VarHandle" ∧ (parseMethodDescriptor yX14_comes.desc).map (fun d => d.parameters.length) = some 2 := by decide +kernel
theorem he_X14_comes : yX14_comes.cls ≠ "java/lang/invoke/MethodHandle" ∧ yX14_comes.cls ≠ "java/lang/invoke/VarHandle" ∧ (parseMethodDescriptor yX14_comes.desc).map (fun d => d.parameters.length) = some 2 := hd_X14_comes.2

set_option maxHeartbeats 4000000 in
set_option maxRecDepth 100000 in
theorem w_X14_comes {l : Launch} {G : Gx} {sh : SM} {g : GM} {gl : LM} {gr : RM} {n : Nat} (hSk : Sk sh gr) (a1 : Int32) (a2 : Int32)  {r : Int32} {go : GM} (h : f_X14_comes g a1 a2 = some (r, go)) : MetI l G yX14_comes (ws_ yX14_comes cX14_comes 3 (Option.some Jvm.ClassFile.FieldType.int)) rm_X14_comes [.ref (adr G 128), .int a1, .int a2] sh g gl gr n (some (.int r)) sh go gl gr n := by
  refine MetI.of (by decide) (Nat.le_of_ble_eq_true rfl) ?_
  intro p e s m below meth c ls hx hb hr hml hown hts hlk hnm hW hK hR hS hl
  have hown : s.vm.findClass RX14 = some m.cls := hown
  have hF : CallFix p m c cX14_comes 3 s ([.ref (adr G 128), .int a1, .int a2] : List Value).toArray lw_all RX14 := ⟨hx, hb, hml, hown, hts⟩
  have hl : lv_has ls 3 [(0, .ref (adr G 128)), (1, .int a1), (2, .int a2)] := hl
  unfold f_X14_comes at h
  refine lv_aload_n hx hb dX14_comes_0 rfl (lv_at hl 0 rfl) ?_
  refine lv_iload_n hx hb dX14_comes_1 rfl (lv_at hl 1 rfl) ?_
  obtain ⟨r2, e1, h⟩ := obd h
  refine rc_V0 (rest := []) (st1 := [.int r2]) hF (w_X14_isCloth hSk a1 e1) (cwV 1 hts (lw_V q1657 q1659 qs47 q117 q1660) rfl rfl rfl hd_X14_isCloth ⟨Nat.le_of_ble_eq_true rfl, Nat.le_of_ble_eq_true rfl⟩) cfX14 (sk_128 hSk) hK hW hR hS rfl hl.1 rfl (Nat.le_of_ble_eq_true rfl) rfl dX14_comes_2 ⟨rfl, rfl⟩ ⟨Nat.zero_le _, Nat.zero_le _⟩ (fun H locs hR hS => ?_)
  have J25 : ∀ (x3 : Int32) (g4 : GM) (H : Heap) (locs : List Loc) (ls : Array Slot), Rep G sh g4 gl gr n H → va_S (own G) s.heap H locs → lv_has ls 3 [] → j_X14_comes_25  x3 g4 = some (r, go) → W p l e rm_X14_comes s m ([.ref (adr G 128), .int a1, .int a2] : List Value).toArray below meth c H locs 0 0 (MQ below (QR G (some (.int r)) sh go gl gr n) ([.ref (adr G 128), .int a1, .int a2] : List Value).toArray s rm_X14_comes.cells rm_X14_comes.slots (own G)) (F0 m 25 ls [.int x3]) := by
    intro x3 g4 H locs ls hR hS hl h
    unfold j_X14_comes_25 at h
    obtain ⟨rfl, rfl⟩ := s2i h
    exact r_iret0 hx hb hr hlk hR hS (Nat.zero_le _) (Nat.zero_le _) dX14_comes_25
  have J24 : ∀  (H : Heap) (locs : List Loc) (ls : Array Slot), Rep G sh g gl gr n H → va_S (own G) s.heap H locs → lv_has ls 3 [] → j_X14_comes_24 g  = some (r, go) → W p l e rm_X14_comes s m ([.ref (adr G 128), .int a1, .int a2] : List Value).toArray below meth c H locs 0 0 (MQ below (QR G (some (.int r)) sh go gl gr n) ([.ref (adr G 128), .int a1, .int a2] : List Value).toArray s rm_X14_comes.cells rm_X14_comes.slots (own G)) (F0 m 24 ls []) := by
    intro  H locs ls hR hS hl h
    unfold j_X14_comes_24 at h
    refine lv_iconst (v := (-1)) hx hb dX14_comes_24 ki_m1 ?_
    exact J25 (-1) g _ _ _ hR hS (lv_sub hl [] rfl) h
  refine lv_if_eq (tgt := 24) hx hb dX14_comes_5 (by decide) (fun c5 => ?_) (fun c5 => ?_)
  · replace h := ifp h c5
    exact J24  _ _ _ hR hS (lv_sub hl [] rfl) h
  · replace h := ifn h c5
    refine lv_iload_n hx hb dX14_comes_8 rfl (lv_at hl 2 rfl) ?_
    obtain ⟨r7, e6, h⟩ := obd h
    refine rc_S0 (rest := []) (st1 := [.int r7]) hF (w_X14_isPurpose hSk a2 e6) (va_cwS 1 hts (lw_S q1695 q1696 q117 q1697) rfl rfl rfl he_X14_isPurpose ⟨Nat.le_of_ble_eq_true rfl, Nat.le_of_ble_eq_true rfl⟩) hW hR hS rfl hl.1 rfl (Nat.le_of_ble_eq_true rfl) rfl dX14_comes_9 ⟨rfl, rfl⟩ ⟨Nat.zero_le _, Nat.zero_le _⟩ (fun H locs hR hS => ?_)
    refine lv_if_eq (tgt := 24) hx hb dX14_comes_12 (by decide) (fun c8 => ?_) (fun c8 => ?_)
    · replace h := ifp h c8
      exact J24  _ _ _ hR hS (lv_sub hl [] rfl) h
    · replace h := ifn h c8
      refine lv_aload_n hx hb dX14_comes_15 rfl (lv_at hl 0 rfl) ?_
      refine lv_iload_n hx hb dX14_comes_16 rfl (lv_at hl 1 rfl) ?_
      refine lv_iload_n hx hb dX14_comes_17 rfl (lv_at hl 2 rfl) ?_
      obtain ⟨r10, g11, e9, h⟩ := obd2 h
      refine rc_V0 (rest := []) (st1 := [.int r10]) hF (w_X14_firstAbout hSk a1 a2 e9) (cwV 2 hts (lw_V q1809 q1811 qs67 q117 q1812) rfl rfl rfl hd_X14_firstAbout ⟨Nat.le_of_ble_eq_true rfl, Nat.le_of_ble_eq_true rfl⟩) cfX14 (sk_128 hSk) hK hW hR hS rfl hl.1 rfl (Nat.le_of_ble_eq_true rfl) rfl dX14_comes_18 ⟨rfl, rfl⟩ ⟨Nat.zero_le _, Nat.zero_le _⟩ (fun H locs hR hS => ?_)
      refine lv_goto (tgt := 25) hx hb dX14_comes_21 (by decide) ?_
      exact J25 r10 g11 _ _ _ hR hS (lv_sub hl [] rfl) h
def rm_X14_bare : Room := { frames := 6, cells := 0, slots := 0, locals := 133 }
theorem hd_X14_bare : yX14_bare.cls = "IntentVatsModel" ∧ yX14_bare.cls ≠ "java/lang/invoke/MethodHandle" ∧ yX14_bare.cls ≠ "java/lang/invoke/VarHandle" ∧ (parseMethodDescriptor yX14_bare.desc).map (fun d => d.parameters.length) = some 1 := by decide +kernel
theorem he_X14_bare : yX14_bare.cls ≠ "java/lang/invoke/MethodHandle" ∧ yX14_bare.cls ≠ "java/lang/invoke/VarHandle" ∧ (parseMethodDescriptor yX14_bare.desc).map (fun d => d.parameters.length) = some 1 := hd_X14_bare.2

set_option maxHeartbeats 4000000 in
set_option maxRecDepth 100000 in
theorem w_X14_bare {l : Launch} {G : Gx} {sh : SM} {g : GM} {gl : LM} {gr : RM} {n : Nat} (hSk : Sk sh gr) (a1 : Int32)  {r : Int32} {go : GM} (h : f_X14_bare g a1 = some (r, go)) : MetI l G yX14_bare (ws_ yX14_bare cX14_bare 2 (Option.some Jvm.ClassFile.FieldType.int)) rm_X14_bare [.ref (adr G 128), .int a1] sh g gl gr n (some (.int r)) sh go gl gr n := by
  refine MetI.of (by decide) (Nat.le_of_ble_eq_true rfl) ?_
  intro p e s m below meth c ls hx hb hr hml hown hts hlk hnm hW hK hR hS hl
  have hown : s.vm.findClass RX14 = some m.cls := hown
  have hF : CallFix p m c cX14_bare 2 s ([.ref (adr G 128), .int a1] : List Value).toArray lw_all RX14 := ⟨hx, hb, hml, hown, hts⟩
  have hl : lv_has ls 2 [(0, .ref (adr G 128)), (1, .int a1)] := hl
  unfold f_X14_bare at h
  refine lv_aload_n hx hb dX14_bare_0 rfl (lv_at hl 0 rfl) ?_
  refine lv_iload_n hx hb dX14_bare_1 rfl (lv_at hl 1 rfl) ?_
  obtain ⟨r2, e1, h⟩ := obd h
  refine rc_V0 (rest := []) (st1 := [.int r2]) hF (w_X14_isCloth hSk a1 e1) (cwV 1 hts (lw_V q1657 q1659 qs47 q117 q1660) rfl rfl rfl hd_X14_isCloth ⟨Nat.le_of_ble_eq_true rfl, Nat.le_of_ble_eq_true rfl⟩) cfX14 (sk_128 hSk) hK hW hR hS rfl hl.1 rfl (Nat.le_of_ble_eq_true rfl) rfl dX14_bare_2 ⟨rfl, rfl⟩ ⟨Nat.zero_le _, Nat.zero_le _⟩ (fun H locs hR hS => ?_)
  have J18 : ∀ (x3 : Int32) (g4 : GM) (H : Heap) (locs : List Loc) (ls : Array Slot), Rep G sh g4 gl gr n H → va_S (own G) s.heap H locs → lv_has ls 2 [] → j_X14_bare_18  x3 g4 = some (r, go) → W p l e rm_X14_bare s m ([.ref (adr G 128), .int a1] : List Value).toArray below meth c H locs 0 0 (MQ below (QR G (some (.int r)) sh go gl gr n) ([.ref (adr G 128), .int a1] : List Value).toArray s rm_X14_bare.cells rm_X14_bare.slots (own G)) (F0 m 18 ls [.int x3]) := by
    intro x3 g4 H locs ls hR hS hl h
    unfold j_X14_bare_18 at h
    obtain ⟨rfl, rfl⟩ := s2i h
    exact r_iret0 hx hb hr hlk hR hS (Nat.zero_le _) (Nat.zero_le _) dX14_bare_18
  refine lv_if_eq (tgt := 17) hx hb dX14_bare_5 (by decide) (fun c5 => ?_) (fun c5 => ?_)
  · replace h := ifp h c5
    refine lv_iconst (v := (-1)) hx hb dX14_bare_17 ki_m1 ?_
    exact J18 (-1) g _ _ _ hR hS (lv_sub hl [] rfl) h
  · replace h := ifn h c5
    refine lv_aload_n hx hb dX14_bare_8 rfl (lv_at hl 0 rfl) ?_
    refine lv_iload_n hx hb dX14_bare_9 rfl (lv_at hl 1 rfl) ?_
    refine lv_iconst (v := (-1)) hx hb dX14_bare_10 ki_m1 ?_
    obtain ⟨r7, g8, e6, h⟩ := obd2 h
    refine rc_V0 (rest := []) (st1 := [.int r7]) hF (w_X14_firstAbout hSk a1 (-1) e6) (cwV 2 hts (lw_V q1809 q1811 qs67 q117 q1812) rfl rfl rfl hd_X14_firstAbout ⟨Nat.le_of_ble_eq_true rfl, Nat.le_of_ble_eq_true rfl⟩) cfX14 (sk_128 hSk) hK hW hR hS rfl hl.1 rfl (Nat.le_of_ble_eq_true rfl) rfl dX14_bare_11 ⟨rfl, rfl⟩ ⟨Nat.zero_le _, Nat.zero_le _⟩ (fun H locs hR hS => ?_)
    refine lv_goto (tgt := 18) hx hb dX14_bare_14 (by decide) ?_
    exact J18 r7 g8 _ _ _ hR hS (lv_sub hl [] rfl) h
def rm_X14_spoiltIn : Room := { frames := 6, cells := 0, slots := 0, locals := 132 }
theorem hd_X14_spoiltIn : yX14_spoiltIn.cls = "IntentVatsModel" ∧ yX14_spoiltIn.cls ≠ "java/lang/invoke/MethodHandle" ∧ yX14_spoiltIn.cls ≠ "java/lang/invoke/VarHandle" ∧ (parseMethodDescriptor yX14_spoiltIn.desc).map (fun d => d.parameters.length) = some 1 := by decide +kernel
theorem he_X14_spoiltIn : yX14_spoiltIn.cls ≠ "java/lang/invoke/MethodHandle" ∧ yX14_spoiltIn.cls ≠ "java/lang/invoke/VarHandle" ∧ (parseMethodDescriptor yX14_spoiltIn.desc).map (fun d => d.parameters.length) = some 1 := hd_X14_spoiltIn.2

set_option maxHeartbeats 4000000 in
set_option maxRecDepth 100000 in
theorem w_X14_spoiltIn {l : Launch} {G : Gx} {sh : SM} {g : GM} {gl : LM} {gr : RM} {n : Nat} (hSk : Sk sh gr) (a1 : Int32)  {r : Int32} {go : GM} (h : f_X14_spoiltIn g a1 = some (r, go)) : MetI l G yX14_spoiltIn (ws_ yX14_spoiltIn cX14_spoiltIn 4 (Option.some Jvm.ClassFile.FieldType.int)) rm_X14_spoiltIn [.ref (adr G 128), .int a1] sh g gl gr n (some (.int r)) sh go gl gr n := by
  refine MetI.of (by decide) (Nat.le_of_ble_eq_true rfl) ?_
  intro p e s m below meth c ls hx hb hr hml hown hts hlk hnm hW hK hR hS hl
  have hown : s.vm.findClass RX14 = some m.cls := hown
  have hF : CallFix p m c cX14_spoiltIn 4 s ([.ref (adr G 128), .int a1] : List Value).toArray lw_all RX14 := ⟨hx, hb, hml, hown, hts⟩
  have hl : lv_has ls 4 [(0, .ref (adr G 128)), (1, .int a1)] := hl
  unfold f_X14_spoiltIn at h
  refine lv_aload_n hx hb dX14_spoiltIn_0 rfl (lv_at hl 0 rfl) ?_
  refine lv_iload_n hx hb dX14_spoiltIn_1 rfl (lv_at hl 1 rfl) ?_
  obtain ⟨g2, e1, h⟩ := obd h
  refine rc_V0 (rest := []) (st1 := []) hF (w_X14_goes hSk a1 e1) (cwV 1 hts (lw_V q1725 q1727 qs55 q117 q1728) rfl rfl rfl hd_X14_goes ⟨Nat.le_of_ble_eq_true rfl, Nat.le_of_ble_eq_true rfl⟩) cfX14 (sk_128 hSk) hK hW hR hS rfl hl.1 rfl (Nat.le_of_ble_eq_true rfl) rfl dX14_spoiltIn_2 ⟨rfl, rfl⟩ ⟨Nat.zero_le _, Nat.zero_le _⟩ (fun H locs hR hS => ?_)
  refine lv_iconst (v := 0) hx hb dX14_spoiltIn_5 ki_0 ?_
  refine lv_istore_n (lv' := [(2, .int 0), (0, .ref (adr G 128)), (1, .int a1)]) hx hb dX14_spoiltIn_6 rfl hl (by decide) rfl (fun ls hl => ?_)
  refine lv_iconst (v := 0) hx hb dX14_spoiltIn_7 ki_0 ?_
  refine lv_istore_n (lv' := [(3, .int 0), (2, .int 0), (0, .ref (adr G 128)), (1, .int a1)]) hx hb dX14_spoiltIn_8 rfl hl (by decide) rfl (fun ls hl => ?_)
  have J9 : ∀ (k9 : Nat) (x3 : Int32) (x4 : Int32) (H : Heap) (locs : List Loc) (ls : Array Slot), Rep G sh g2 gl gr n H → va_S (own G) s.heap H locs → lv_has ls 4 [(0, .ref (adr G 128)), (2, .int x3), (3, .int x4)] → l_X14_spoiltIn_9 g2 k9 x3 x4 = some (r, go) → W p l e rm_X14_spoiltIn s m ([.ref (adr G 128), .int a1] : List Value).toArray below meth c H locs 0 0 (MQ below (QR G (some (.int r)) sh go gl gr n) ([.ref (adr G 128), .int a1] : List Value).toArray s rm_X14_spoiltIn.cells rm_X14_spoiltIn.slots (own G)) (F0 m 9 ls []) := by
    intro k9
    induction k9 with
    | zero => intro _ _ _ _ _ _ _ _; exact nofun
    | succ k9 ih9 =>
      intro x3 x4 H locs ls hR hS hl h
      unfold l_X14_spoiltIn_9 b_X14_spoiltIn_9 at h
      refine lv_iload_n hx hb dX14_spoiltIn_9 rfl (lv_at hl 2 rfl) ?_
      refine lv_aload_n hx hb dX14_spoiltIn_10 rfl (lv_at hl 0 rfl) ?_
      refine r_getr hx hb hts cfX14 hown hK hR (sk_128 hSk) 2 (by decide) rfl (sr_128_2 hSk) (hts _ q1523) (fun _ h => h) dX14_spoiltIn_11 ?_
      refine lv_bipush (v := 6) hx hb dX14_spoiltIn_14 kb_6 ?_
      obtain ⟨v6, e5, h⟩ := obd h
      refine r_ldi hx hb hK hR (sk_131 hSk) e5 dX14_spoiltIn_16 ?_
      refine lv_icmp_ge (tgt := 56) hx hb dX14_spoiltIn_17 (by decide) (fun c7 => ?_) (fun c7 => ?_)
      · replace h := ifp h c7
        refine lv_aload_n hx hb dX14_spoiltIn_56 rfl (lv_at hl 0 rfl) ?_
        obtain ⟨g9, e8, h⟩ := obd h
        refine rc_V0 (rest := []) (st1 := []) hF (w_X14_laysBack hSk e8) (cwV 0 hts (lw_V q1766 q1768 qs61 q117 q1769) rfl rfl rfl hd_X14_laysBack ⟨Nat.le_of_ble_eq_true rfl, Nat.le_of_ble_eq_true rfl⟩) cfX14 (sk_128 hSk) hK hW hR hS rfl hl.1 rfl (Nat.le_of_ble_eq_true rfl) rfl dX14_spoiltIn_57 ⟨rfl, rfl⟩ ⟨Nat.zero_le _, Nat.zero_le _⟩ (fun H locs hR hS => ?_)
        refine lv_iload_n hx hb dX14_spoiltIn_60 rfl (lv_at hl 1 rfl) ?_
        obtain ⟨rfl, rfl⟩ := s2i h
        exact r_iret0 hx hb hr hlk hR hS (Nat.zero_le _) (Nat.zero_le _) dX14_spoiltIn_61
      · replace h := ifn h c7
        refine lv_iload_n hx hb dX14_spoiltIn_20 rfl (lv_at hl 1 rfl) ?_
        refine lv_aload_n hx hb dX14_spoiltIn_21 rfl (lv_at hl 0 rfl) ?_
        refine lv_iload_n hx hb dX14_spoiltIn_22 rfl (lv_at hl 2 rfl) ?_
        refine lv_iconst (v := 1) hx hb dX14_spoiltIn_23 ki_1 ?_
        obtain ⟨r11, e10, h⟩ := obd h
        refine rc_V0 (rest := [.int x3]) (st1 := [.int r11, .int x3]) hF (w_X14_its hSk x4 1 e10) (cwV 2 hts (lw_V q1662 q1664 qs48 q117 q1665) rfl rfl rfl hd_X14_its ⟨Nat.le_of_ble_eq_true rfl, Nat.le_of_ble_eq_true rfl⟩) cfX14 (sk_128 hSk) hK hW hR hS rfl hl.1 rfl (Nat.le_of_ble_eq_true rfl) rfl dX14_spoiltIn_24 ⟨rfl, rfl⟩ ⟨Nat.zero_le _, Nat.zero_le _⟩ (fun H locs hR hS => ?_)
        refine lv_aload_n hx hb dX14_spoiltIn_27 rfl (lv_at hl 0 rfl) ?_
        refine r_getr hx hb hts cfX14 hown hK hR (sk_128 hSk) 4 (by decide) rfl (sr_128_4 hSk) (hts _ q1525) (fun _ h => h) dX14_spoiltIn_28 ?_
        refine lv_bipush (v := 29) hx hb dX14_spoiltIn_31 kb_29 ?_
        refine lv_iconst (v := 5) hx hb dX14_spoiltIn_33 ki_5 ?_
        refine lv_iload_n hx hb dX14_spoiltIn_34 rfl (lv_at hl 2 rfl) ?_
        refine lv_imul hx hb dX14_spoiltIn_35 ?_
        refine lv_iadd hx hb dX14_spoiltIn_36 ?_
        refine lv_iconst (v := 1) hx hb dX14_spoiltIn_37 ki_1 ?_
        refine lv_iadd hx hb dX14_spoiltIn_38 ?_
        obtain ⟨v13, e12, h⟩ := obd h
        refine r_ldi hx hb hK hR (sk_133 hSk) e12 dX14_spoiltIn_39 ?_
        have J48 : ∀ (x14 : Int32) (H : Heap) (locs : List Loc) (ls : Array Slot), Rep G sh g2 gl gr n H → va_S (own G) s.heap H locs → lv_has ls 4 [(0, .ref (adr G 128)), (3, .int x4)] → j_X14_spoiltIn_48 x3 x4 (l_X14_spoiltIn_9 g2 k9) x14 = some (r, go) → W p l e rm_X14_spoiltIn s m ([.ref (adr G 128), .int a1] : List Value).toArray below meth c H locs 0 0 (MQ below (QR G (some (.int r)) sh go gl gr n) ([.ref (adr G 128), .int a1] : List Value).toArray s rm_X14_spoiltIn.cells rm_X14_spoiltIn.slots (own G)) (F0 m 48 ls [.int x14, .int x3]) := by
          intro x14 H locs ls hR hS hl h
          unfold j_X14_spoiltIn_48 at h
          refine lv_iadd hx hb dX14_spoiltIn_48 ?_
          refine lv_istore_n (lv' := [(2, .int (x3 + x14)), (0, .ref (adr G 128)), (3, .int x4)]) hx hb dX14_spoiltIn_49 rfl hl (by decide) rfl (fun ls hl => ?_)
          refine lv_iinc (v := x4 + 1) (lv' := [(3, .int (x4 + 1)), (2, .int (x3 + x14)), (0, .ref (adr G 128))]) hx hb dX14_spoiltIn_50 hl (k := 2) rfl rfl (by decide) rfl (fun ls hl => ?_)
          refine lv_goto (tgt := 9) hx hb dX14_spoiltIn_53 (by decide) ?_
          exact ih9 (x3 + x14) (x4 + 1) _ _ _ hR hS (lv_sub hl [2, 1, 0] rfl) h
        refine lv_icmp_ne (tgt := 47) hx hb dX14_spoiltIn_40 (by decide) (fun c15 => ?_) (fun c15 => ?_)
        · replace h := ifn h c15
          refine lv_iconst (v := 1) hx hb dX14_spoiltIn_47 ki_1 ?_
          exact J48 1 _ _ _ hR hS (lv_sub hl [0, 2] rfl) h
        · replace h := ifp h c15
          refine lv_iconst (v := 0) hx hb dX14_spoiltIn_43 ki_0 ?_
          refine lv_goto (tgt := 48) hx hb dX14_spoiltIn_44 (by decide) ?_
          exact J48 0 _ _ _ hR hS (lv_sub hl [0, 2] rfl) h
  exact J9 fuel 0 0 _ _ _ hR hS (lv_sub hl [2, 1, 0] rfl) h
def rm_X14_spoilt : Room := { frames := 7, cells := 0, slots := 0, locals := 155 }
theorem hd_X14_spoilt : yX14_spoilt.cls = "IntentVatsModel" ∧ yX14_spoilt.cls ≠ "java/lang/invoke/MethodHandle" ∧ yX14_spoilt.cls ≠ "java/lang/invoke/VarHandle" ∧ (parseMethodDescriptor yX14_spoilt.desc).map (fun d => d.parameters.length) = some 1 := by decide +kernel
theorem he_X14_spoilt : yX14_spoilt.cls ≠ "java/lang/invoke/MethodHandle" ∧ yX14_spoilt.cls ≠ "java/lang/invoke/VarHandle" ∧ (parseMethodDescriptor yX14_spoilt.desc).map (fun d => d.parameters.length) = some 1 := hd_X14_spoilt.2

set_option maxHeartbeats 4000000 in
set_option maxRecDepth 100000 in
theorem w_X14_spoilt {l : Launch} {G : Gx} {sh : SM} {g : GM} {gl : LM} {gr : RM} {n : Nat} (hSk : Sk sh gr) (a1 : Int32)  {r : Int32} {go : GM} (h : f_X14_spoilt g a1 = some (r, go)) : MetI l G yX14_spoilt (ws_ yX14_spoilt cX14_spoilt 2 (Option.some Jvm.ClassFile.FieldType.int)) rm_X14_spoilt [.ref (adr G 128), .int a1] sh g gl gr n (some (.int r)) sh go gl gr n := by
  refine MetI.of (by decide) (Nat.le_of_ble_eq_true rfl) ?_
  intro p e s m below meth c ls hx hb hr hml hown hts hlk hnm hW hK hR hS hl
  have hown : s.vm.findClass RX14 = some m.cls := hown
  have hF : CallFix p m c cX14_spoilt 2 s ([.ref (adr G 128), .int a1] : List Value).toArray lw_all RX14 := ⟨hx, hb, hml, hown, hts⟩
  have hl : lv_has ls 2 [(0, .ref (adr G 128)), (1, .int a1)] := hl
  unfold f_X14_spoilt at h
  refine lv_iload_n hx hb dX14_spoilt_0 rfl (lv_at hl 1 rfl) ?_
  obtain ⟨r2, e1, h⟩ := obd h
  refine rc_S0 (rest := []) (st1 := [.int r2]) hF (w_X14_isAhead hSk a1 e1) (va_cwS 1 hts (lw_S q1794 q1795 q117 q1796) rfl rfl rfl he_X14_isAhead ⟨Nat.le_of_ble_eq_true rfl, Nat.le_of_ble_eq_true rfl⟩) hW hR hS rfl hl.1 rfl (Nat.le_of_ble_eq_true rfl) rfl dX14_spoilt_1 ⟨rfl, rfl⟩ ⟨Nat.zero_le _, Nat.zero_le _⟩ (fun H locs hR hS => ?_)
  refine lv_if_ne (tgt := 9) hx hb dX14_spoilt_4 (by decide) (fun c3 => ?_) (fun c3 => ?_)
  · replace h := ifn h c3
    refine lv_aload_n hx hb dX14_spoilt_9 rfl (lv_at hl 0 rfl) ?_
    obtain ⟨g5, e4, h⟩ := obd h
    refine rc_V0 (rest := []) (st1 := []) hF (w_X14_lends hSk e4) (cwV 0 hts (lw_V q1759 q1761 qs60 q117 q1762) rfl rfl rfl hd_X14_lends ⟨Nat.le_of_ble_eq_true rfl, Nat.le_of_ble_eq_true rfl⟩) cfX14 (sk_128 hSk) hK hW hR hS rfl hl.1 rfl (Nat.le_of_ble_eq_true rfl) rfl dX14_spoilt_10 ⟨rfl, rfl⟩ ⟨Nat.zero_le _, Nat.zero_le _⟩ (fun H locs hR hS => ?_)
    refine lv_aload_n hx hb dX14_spoilt_13 rfl (lv_at hl 0 rfl) ?_
    refine lv_iload_n hx hb dX14_spoilt_14 rfl (lv_at hl 1 rfl) ?_
    obtain ⟨r7, g8, e6, h⟩ := obd2 h
    refine rc_V0 (rest := []) (st1 := [.int r7]) hF (w_X14_spoiltIn hSk a1 e6) (cwV 1 hts (lw_V q1821 q1823 qs68 q117 q1824) rfl rfl rfl hd_X14_spoiltIn ⟨Nat.le_of_ble_eq_true rfl, Nat.le_of_ble_eq_true rfl⟩) cfX14 (sk_128 hSk) hK hW hR hS rfl hl.1 rfl (Nat.le_of_ble_eq_true rfl) rfl dX14_spoilt_15 ⟨rfl, rfl⟩ ⟨Nat.zero_le _, Nat.zero_le _⟩ (fun H locs hR hS => ?_)
    obtain ⟨rfl, rfl⟩ := s2i h
    exact r_iret0 hx hb hr hlk hR hS (Nat.zero_le _) (Nat.zero_le _) dX14_spoilt_18
  · replace h := ifp h c3
    refine lv_iconst (v := (-1)) hx hb dX14_spoilt_7 ki_m1 ?_
    obtain ⟨rfl, rfl⟩ := s2i h
    exact r_iret0 hx hb hr hlk hR hS (Nat.zero_le _) (Nat.zero_le _) dX14_spoilt_8
