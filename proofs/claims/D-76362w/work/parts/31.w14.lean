/-! walks: X14_does, X14_changed, X14_mind, X14_isPurpose, X14_steep, X14_hang, X14_isDeep, X14_dips, X14_dip, X14_aDay, X14_goes, X14_depths, X14_days, X14_seed, X14_draw, X14_byDraws, X14_day -/
def rm_X14_does : Room := { frames := 3, cells := 0, slots := 0, locals := 58 }
theorem hd_X14_does : yX14_does.cls = "IntentVatsModel" ∧ yX14_does.cls ≠ "java/lang/invoke/MethodHandle" ∧ yX14_does.cls ≠ "java/lang/invoke/VarHandle" ∧ (parseMethodDescriptor yX14_does.desc).map (fun d => d.parameters.length) = some 3 := by decide +kernel
theorem he_X14_does : yX14_does.cls ≠ "java/lang/invoke/MethodHandle" ∧ yX14_does.cls ≠ "java/lang/invoke/VarHandle" ∧ (parseMethodDescriptor yX14_does.desc).map (fun d => d.parameters.length) = some 3 := hd_X14_does.2

set_option maxHeartbeats 4000000 in
set_option maxRecDepth 100000 in
theorem w_X14_does {l : Launch} {G : Gx} {sh : SM} {g : GM} {gl : LM} {gr : RM} {n : Nat} (hSk : Sk sh gr) (a1 : Int32) (a2 : Int32) (a3 : Int32)  {r : Int32} (h : f_X14_does g a1 a2 a3 = some r) : MetI l G yX14_does (ws_ yX14_does cX14_does 5 (Option.some Jvm.ClassFile.FieldType.int)) rm_X14_does [.ref (adr G 128), .int a1, .int a2, .int a3] sh g gl gr n (some (.int r)) sh g gl gr n := by
  refine MetI.of (by decide) (Nat.le_of_ble_eq_true rfl) ?_
  intro p e s m below meth c ls hx hb hr hml hown hts hlk hnm hW hK hR hS hl
  have hown : s.vm.findClass RX14 = some m.cls := hown
  have hF : CallFix p m c cX14_does 5 s ([.ref (adr G 128), .int a1, .int a2, .int a3] : List Value).toArray lw_all RX14 := ⟨hx, hb, hml, hown, hts⟩
  have hl : lv_has ls 5 [(0, .ref (adr G 128)), (1, .int a1), (2, .int a2), (3, .int a3)] := hl
  unfold f_X14_does at h
  refine lv_aload_n hx hb dX14_does_0 rfl (lv_at hl 0 rfl) ?_
  refine lv_iload_n hx hb dX14_does_1 rfl (lv_at hl 1 rfl) ?_
  obtain ⟨r2, e1, h⟩ := obd h
  refine rc_V0 (rest := []) (st1 := [.int r2]) hF (w_X14_isCloth hSk a1 e1) (cwV 1 hts (lw_V q1657 q1659 qs47 q117 q1660) rfl rfl rfl hd_X14_isCloth ⟨Nat.le_of_ble_eq_true rfl, Nat.le_of_ble_eq_true rfl⟩) cfX14 (sk_128 hSk) hK hW hR hS rfl hl.1 rfl (Nat.le_of_ble_eq_true rfl) rfl dX14_does_2 ⟨rfl, rfl⟩ ⟨Nat.zero_le _, Nat.zero_le _⟩ (fun H locs hR hS => ?_)
  have J27 : ∀  (H : Heap) (locs : List Loc) (ls : Array Slot), Rep G sh g gl gr n H → va_S (own G) s.heap H locs → lv_has ls 5 [] → j_X14_does_27   = some r → W p l e rm_X14_does s m ([.ref (adr G 128), .int a1, .int a2, .int a3] : List Value).toArray below meth c H locs 0 0 (MQ below (QR G (some (.int r)) sh g gl gr n) ([.ref (adr G 128), .int a1, .int a2, .int a3] : List Value).toArray s rm_X14_does.cells rm_X14_does.slots (own G)) (F0 m 27 ls []) := by
    intro  H locs ls hR hS hl h
    unfold j_X14_does_27 at h
    refine lv_iconst (v := (-1)) hx hb dX14_does_27 ki_m1 ?_
    obtain rfl := s1i h
    exact r_iret0 hx hb hr hlk hR hS (Nat.zero_le _) (Nat.zero_le _) dX14_does_28
  refine lv_if_eq (tgt := 27) hx hb dX14_does_5 (by decide) (fun c3 => ?_) (fun c3 => ?_)
  · replace h := ifp h c3
    exact J27  _ _ _ hR hS (lv_sub hl [] rfl) h
  · replace h := ifn h c3
    refine lv_iload_n hx hb dX14_does_8 rfl (lv_at hl 2 rfl) ?_
    obtain ⟨r5, e4, h⟩ := obd h
    refine rc_S0 (rest := []) (st1 := [.int r5]) hF (w_X14_isVat hSk a2 e4) (va_cwS 1 hts (lw_S q1617 q1618 q117 q1619) rfl rfl rfl he_X14_isVat ⟨Nat.le_of_ble_eq_true rfl, Nat.le_of_ble_eq_true rfl⟩) hW hR hS rfl hl.1 rfl (Nat.le_of_ble_eq_true rfl) rfl dX14_does_9 ⟨rfl, rfl⟩ ⟨Nat.zero_le _, Nat.zero_le _⟩ (fun H locs hR hS => ?_)
    refine lv_if_eq (tgt := 27) hx hb dX14_does_12 (by decide) (fun c6 => ?_) (fun c6 => ?_)
    · replace h := ifp h c6
      exact J27  _ _ _ hR hS (lv_sub hl [] rfl) h
    · replace h := ifn h c6
      refine lv_iload_n hx hb dX14_does_15 rfl (lv_at hl 3 rfl) ?_
      refine lv_i2l hx hb dX14_does_16 rfl ?_
      refine lv_lconst (v := 0) hx hb dX14_does_17 rfl ?_
      refine lv_ldc2 (v := 2) hx hb hown (hts _ q1670) dX14_does_18 ?_
      obtain ⟨r8, e7, h⟩ := obd h
      refine rc_S0 (rest := []) (st1 := [.int r8]) hF (w_X14_in hSk a3.toInt64 0 2 e7) (va_cwS 3 hts (lw_S q1602 q1603 q117 q1604) rfl rfl rfl he_X14_in ⟨Nat.le_of_ble_eq_true rfl, Nat.le_of_ble_eq_true rfl⟩) hW hR hS rfl hl.1 rfl (Nat.le_of_ble_eq_true rfl) rfl dX14_does_21 ⟨rfl, rfl⟩ ⟨Nat.zero_le _, Nat.zero_le _⟩ (fun H locs hR hS => ?_)
      refine lv_if_ne (tgt := 29) hx hb dX14_does_24 (by decide) (fun c9 => ?_) (fun c9 => ?_)
      · replace h := ifn h c9
        refine lv_aload_n hx hb dX14_does_29 rfl (lv_at hl 0 rfl) ?_
        refine r_getr hx hb hts cfX14 hown hK hR (sk_128 hSk) 2 (by decide) rfl (sr_128_2 hSk) (hts _ q1523) (fun _ h => h) dX14_does_30 ?_
        refine lv_bipush (v := 15) hx hb dX14_does_33 kb_15 ?_
        refine lv_iload_n hx hb dX14_does_35 rfl (lv_at hl 2 rfl) ?_
        refine lv_iadd hx hb dX14_does_36 ?_
        obtain ⟨v11, e10, h⟩ := obd h
        refine r_ldi hx hb hK hR (sk_131 hSk) e10 dX14_does_37 ?_
        refine lv_istore (lv' := [(4, .int v11), (0, .ref (adr G 128)), (1, .int a1), (2, .int a2), (3, .int a3)]) hx hb dX14_does_38 hl (by decide) rfl (fun ls hl => ?_)
        refine lv_sipush (v := 1000) hx hb dX14_does_40 ks_1000 ?_
        refine lv_iload_n hx hb dX14_does_43 rfl (lv_at hl 4 rfl) ?_
        have J77 : ∀ (x12 : Int32) (H : Heap) (locs : List Loc) (ls : Array Slot), Rep G sh g gl gr n H → va_S (own G) s.heap H locs → lv_has ls 5 [] → j_X14_does_77  x12 = some r → W p l e rm_X14_does s m ([.ref (adr G 128), .int a1, .int a2, .int a3] : List Value).toArray below meth c H locs 0 0 (MQ below (QR G (some (.int r)) sh g gl gr n) ([.ref (adr G 128), .int a1, .int a2, .int a3] : List Value).toArray s rm_X14_does.cells rm_X14_does.slots (own G)) (F0 m 77 ls [.int x12, .int 1000]) := by
          intro x12 H locs ls hR hS hl h
          unfold j_X14_does_77 at h
          refine lv_iadd hx hb dX14_does_77 ?_
          obtain rfl := s1i h
          exact r_iret0 hx hb hr hlk hR hS (Nat.zero_le _) (Nat.zero_le _) dX14_does_78
        refine lv_if_ne (tgt := 57) hx hb dX14_does_44 (by decide) (fun c13 => ?_) (fun c13 => ?_)
        · replace h := ifn h c13
          refine lv_iload_n hx hb dX14_does_57 rfl (lv_at hl 4 rfl) ?_
          refine lv_iconst (v := 1) hx hb dX14_does_58 ki_1 ?_
          refine lv_icmp_ne (tgt := 72) hx hb dX14_does_59 (by decide) (fun c14 => ?_) (fun c14 => ?_)
          · replace h := ifn h c14
            refine lv_aload_n hx hb dX14_does_72 rfl (lv_at hl 1 rfl) ?_
            refine lv_iload_n hx hb dX14_does_73 rfl (lv_at hl 2 rfl) ?_
            obtain ⟨r16, e15, h⟩ := obd h
            refine rc_V0 (rest := [.int 1000]) (st1 := [.int r16, .int 1000]) hF (w_X14_fadesOf hSk a1 e15) (cwV 1 hts (lw_V q1679 q1681 qs51 q117 q1682) rfl rfl rfl hd_X14_fadesOf ⟨Nat.le_of_ble_eq_true rfl, Nat.le_of_ble_eq_true rfl⟩) cfX14 (sk_128 hSk) hK hW hR hS rfl hl.1 rfl (Nat.le_of_ble_eq_true rfl) rfl dX14_does_74 ⟨rfl, rfl⟩ ⟨Nat.zero_le _, Nat.zero_le _⟩ (fun H locs hR hS => ?_)
            exact J77 r16 _ _ _ hR hS (lv_sub hl [] rfl) h
          · replace h := ifp h c14
            refine lv_aload_n hx hb dX14_does_62 rfl (lv_at hl 1 rfl) ?_
            refine lv_iload_n hx hb dX14_does_63 rfl (lv_at hl 2 rfl) ?_
            refine lv_iload hx hb dX14_does_64 (lv_at hl 0 rfl) ?_
            obtain ⟨r18, e17, h⟩ := obd h
            refine rc_V0 (rest := [.int 1000]) (st1 := [.int r18, .int 1000]) hF (w_X14_fightsOf hSk a1 v11 e17) (cwV 2 hts (lw_V q1675 q1677 qs50 q117 q1678) rfl rfl rfl hd_X14_fightsOf ⟨Nat.le_of_ble_eq_true rfl, Nat.le_of_ble_eq_true rfl⟩) cfX14 (sk_128 hSk) hK hW hR hS rfl hl.1 rfl (Nat.le_of_ble_eq_true rfl) rfl dX14_does_66 ⟨rfl, rfl⟩ ⟨Nat.zero_le _, Nat.zero_le _⟩ (fun H locs hR hS => ?_)
            refine lv_goto (tgt := 77) hx hb dX14_does_69 (by decide) ?_
            exact J77 r18 _ _ _ hR hS (lv_sub hl [] rfl) h
        · replace h := ifp h c13
          refine lv_aload_n hx hb dX14_does_47 rfl (lv_at hl 1 rfl) ?_
          refine lv_iload_n hx hb dX14_does_48 rfl (lv_at hl 2 rfl) ?_
          refine lv_iload hx hb dX14_does_49 (lv_at hl 0 rfl) ?_
          obtain ⟨r20, e19, h⟩ := obd h
          refine rc_V0 (rest := [.int 1000]) (st1 := [.int r20, .int 1000]) hF (w_X14_takesOf hSk a1 v11 e19) (cwV 2 hts (lw_V q1671 q1673 qs49 q117 q1674) rfl rfl rfl hd_X14_takesOf ⟨Nat.le_of_ble_eq_true rfl, Nat.le_of_ble_eq_true rfl⟩) cfX14 (sk_128 hSk) hK hW hR hS rfl hl.1 rfl (Nat.le_of_ble_eq_true rfl) rfl dX14_does_51 ⟨rfl, rfl⟩ ⟨Nat.zero_le _, Nat.zero_le _⟩ (fun H locs hR hS => ?_)
          refine lv_goto (tgt := 77) hx hb dX14_does_54 (by decide) ?_
          exact J77 r20 _ _ _ hR hS (lv_sub hl [] rfl) h
      · replace h := ifp h c9
        exact J27  _ _ _ hR hS (lv_sub hl [] rfl) h
def rm_X14_changed : Room := { frames := 2, cells := 0, slots := 0, locals := 35 }
theorem hd_X14_changed : yX14_changed.cls = "IntentVatsModel" ∧ yX14_changed.cls ≠ "java/lang/invoke/MethodHandle" ∧ yX14_changed.cls ≠ "java/lang/invoke/VarHandle" ∧ (parseMethodDescriptor yX14_changed.desc).map (fun d => d.parameters.length) = some 3 := by decide +kernel
theorem he_X14_changed : yX14_changed.cls ≠ "java/lang/invoke/MethodHandle" ∧ yX14_changed.cls ≠ "java/lang/invoke/VarHandle" ∧ (parseMethodDescriptor yX14_changed.desc).map (fun d => d.parameters.length) = some 3 := hd_X14_changed.2

set_option maxHeartbeats 4000000 in
set_option maxRecDepth 100000 in
theorem w_X14_changed {l : Launch} {G : Gx} {sh : SM} {g : GM} {gl : LM} {gr : RM} {n : Nat} (hSk : Sk sh gr) (a1 : Int32) (a2 : Int32) (a3 : Int32)  {r : Int32} {go : GM} (h : f_X14_changed g a1 a2 a3 = some (r, go)) : MetI l G yX14_changed (ws_ yX14_changed cX14_changed 4 (Option.some Jvm.ClassFile.FieldType.int)) rm_X14_changed [.ref (adr G 128), .int a1, .int a2, .int a3] sh g gl gr n (some (.int r)) sh go gl gr n := by
  refine MetI.of (by decide) (Nat.le_of_ble_eq_true rfl) ?_
  intro p e s m below meth c ls hx hb hr hml hown hts hlk hnm hW hK hR hS hl
  have hown : s.vm.findClass RX14 = some m.cls := hown
  have hF : CallFix p m c cX14_changed 4 s ([.ref (adr G 128), .int a1, .int a2, .int a3] : List Value).toArray lw_all RX14 := ⟨hx, hb, hml, hown, hts⟩
  have hl : lv_has ls 4 [(0, .ref (adr G 128)), (1, .int a1), (2, .int a2), (3, .int a3)] := hl
  unfold f_X14_changed at h
  refine lv_aload_n hx hb dX14_changed_0 rfl (lv_at hl 0 rfl) ?_
  refine lv_bipush (v := 29) hx hb dX14_changed_1 kb_29 ?_
  refine lv_iconst (v := 5) hx hb dX14_changed_3 ki_5 ?_
  refine lv_iload_n hx hb dX14_changed_4 rfl (lv_at hl 1 rfl) ?_
  refine lv_imul hx hb dX14_changed_5 ?_
  refine lv_iadd hx hb dX14_changed_6 ?_
  refine lv_iload_n hx hb dX14_changed_7 rfl (lv_at hl 2 rfl) ?_
  refine lv_iadd hx hb dX14_changed_8 ?_
  refine lv_iload_n hx hb dX14_changed_9 rfl (lv_at hl 3 rfl) ?_
  obtain ⟨r2, g3, e1, h⟩ := obd2 h
  refine rc_V0 (rest := []) (st1 := [.int r2]) hF (w_X14_becomes hSk ((29 + (5 * a1)) + a2) a3 e1) (cwV 2 hts (lw_V q1605 q1607 qs44 q117 q1608) rfl rfl rfl hd_X14_becomes ⟨Nat.le_of_ble_eq_true rfl, Nat.le_of_ble_eq_true rfl⟩) cfX14 (sk_128 hSk) hK hW hR hS rfl hl.1 rfl (Nat.le_of_ble_eq_true rfl) rfl dX14_changed_10 ⟨rfl, rfl⟩ ⟨Nat.zero_le _, Nat.zero_le _⟩ (fun H locs hR hS => ?_)
  obtain ⟨rfl, rfl⟩ := s2i h
  exact r_iret0 hx hb hr hlk hR hS (Nat.zero_le _) (Nat.zero_le _) dX14_changed_13
def rm_X14_mind : Room := { frames := 3, cells := 0, slots := 0, locals := 58 }
theorem hd_X14_mind : yX14_mind.cls = "IntentVatsModel" ∧ yX14_mind.cls ≠ "java/lang/invoke/MethodHandle" ∧ yX14_mind.cls ≠ "java/lang/invoke/VarHandle" ∧ (parseMethodDescriptor yX14_mind.desc).map (fun d => d.parameters.length) = some 2 := by decide +kernel
theorem he_X14_mind : yX14_mind.cls ≠ "java/lang/invoke/MethodHandle" ∧ yX14_mind.cls ≠ "java/lang/invoke/VarHandle" ∧ (parseMethodDescriptor yX14_mind.desc).map (fun d => d.parameters.length) = some 2 := hd_X14_mind.2

set_option maxHeartbeats 4000000 in
set_option maxRecDepth 100000 in
theorem w_X14_mind {l : Launch} {G : Gx} {sh : SM} {g : GM} {gl : LM} {gr : RM} {n : Nat} (hSk : Sk sh gr) (a1 : Int32) (a2 : Int32)  {r : Int32} {go : GM} (h : f_X14_mind g a1 a2 = some (r, go)) : MetI l G yX14_mind (ws_ yX14_mind cX14_mind 3 (Option.some Jvm.ClassFile.FieldType.int)) rm_X14_mind [.ref (adr G 128), .int a1, .int a2] sh g gl gr n (some (.int r)) sh go gl gr n := by
  refine MetI.of (by decide) (Nat.le_of_ble_eq_true rfl) ?_
  intro p e s m below meth c ls hx hb hr hml hown hts hlk hnm hW hK hR hS hl
  have hown : s.vm.findClass RX14 = some m.cls := hown
  have hF : CallFix p m c cX14_mind 3 s ([.ref (adr G 128), .int a1, .int a2] : List Value).toArray lw_all RX14 := ⟨hx, hb, hml, hown, hts⟩
  have hl : lv_has ls 3 [(0, .ref (adr G 128)), (1, .int a1), (2, .int a2)] := hl
  unfold f_X14_mind at h
  refine lv_aload_n hx hb dX14_mind_0 rfl (lv_at hl 0 rfl) ?_
  refine lv_iload_n hx hb dX14_mind_1 rfl (lv_at hl 1 rfl) ?_
  obtain ⟨r2, e1, h⟩ := obd h
  refine rc_V0 (rest := []) (st1 := [.int r2]) hF (w_X14_isCloth hSk a1 e1) (cwV 1 hts (lw_V q1657 q1659 qs47 q117 q1660) rfl rfl rfl hd_X14_isCloth ⟨Nat.le_of_ble_eq_true rfl, Nat.le_of_ble_eq_true rfl⟩) cfX14 (sk_128 hSk) hK hW hR hS rfl hl.1 rfl (Nat.le_of_ble_eq_true rfl) rfl dX14_mind_2 ⟨rfl, rfl⟩ ⟨Nat.zero_le _, Nat.zero_le _⟩ (fun H locs hR hS => ?_)
  have J26 : ∀ (x3 : Int32) (g4 : GM) (H : Heap) (locs : List Loc) (ls : Array Slot), Rep G sh g4 gl gr n H → va_S (own G) s.heap H locs → lv_has ls 3 [] → j_X14_mind_26  x3 g4 = some (r, go) → W p l e rm_X14_mind s m ([.ref (adr G 128), .int a1, .int a2] : List Value).toArray below meth c H locs 0 0 (MQ below (QR G (some (.int r)) sh go gl gr n) ([.ref (adr G 128), .int a1, .int a2] : List Value).toArray s rm_X14_mind.cells rm_X14_mind.slots (own G)) (F0 m 26 ls [.int x3]) := by
    intro x3 g4 H locs ls hR hS hl h
    unfold j_X14_mind_26 at h
    obtain ⟨rfl, rfl⟩ := s2i h
    exact r_iret0 hx hb hr hlk hR hS (Nat.zero_le _) (Nat.zero_le _) dX14_mind_26
  have J25 : ∀  (H : Heap) (locs : List Loc) (ls : Array Slot), Rep G sh g gl gr n H → va_S (own G) s.heap H locs → lv_has ls 3 [] → j_X14_mind_25 g  = some (r, go) → W p l e rm_X14_mind s m ([.ref (adr G 128), .int a1, .int a2] : List Value).toArray below meth c H locs 0 0 (MQ below (QR G (some (.int r)) sh go gl gr n) ([.ref (adr G 128), .int a1, .int a2] : List Value).toArray s rm_X14_mind.cells rm_X14_mind.slots (own G)) (F0 m 25 ls []) := by
    intro  H locs ls hR hS hl h
    unfold j_X14_mind_25 at h
    refine lv_iconst (v := (-1)) hx hb dX14_mind_25 ki_m1 ?_
    exact J26 (-1) g _ _ _ hR hS (lv_sub hl [] rfl) h
  refine lv_if_eq (tgt := 25) hx hb dX14_mind_5 (by decide) (fun c5 => ?_) (fun c5 => ?_)
  · replace h := ifp h c5
    exact J25  _ _ _ hR hS (lv_sub hl [] rfl) h
  · replace h := ifn h c5
    refine lv_iload_n hx hb dX14_mind_8 rfl (lv_at hl 2 rfl) ?_
    obtain ⟨r7, e6, h⟩ := obd h
    refine rc_S0 (rest := []) (st1 := [.int r7]) hF (w_X14_isKind hSk a2 e6) (va_cwS 1 hts (lw_S q1642 q1643 q117 q1644) rfl rfl rfl he_X14_isKind ⟨Nat.le_of_ble_eq_true rfl, Nat.le_of_ble_eq_true rfl⟩) hW hR hS rfl hl.1 rfl (Nat.le_of_ble_eq_true rfl) rfl dX14_mind_9 ⟨rfl, rfl⟩ ⟨Nat.zero_le _, Nat.zero_le _⟩ (fun H locs hR hS => ?_)
    refine lv_if_eq (tgt := 25) hx hb dX14_mind_12 (by decide) (fun c8 => ?_) (fun c8 => ?_)
    · replace h := ifp h c8
      exact J25  _ _ _ hR hS (lv_sub hl [] rfl) h
    · replace h := ifn h c8
      refine lv_aload_n hx hb dX14_mind_15 rfl (lv_at hl 0 rfl) ?_
      refine lv_iload_n hx hb dX14_mind_16 rfl (lv_at hl 1 rfl) ?_
      refine lv_iconst (v := 0) hx hb dX14_mind_17 ki_0 ?_
      refine lv_iload_n hx hb dX14_mind_18 rfl (lv_at hl 2 rfl) ?_
      obtain ⟨r10, g11, e9, h⟩ := obd2 h
      refine rc_V0 (rest := []) (st1 := [.int r10]) hF (w_X14_changed hSk a1 0 a2 e9) (cwV 3 hts (lw_V q1687 q1689 qs52 q117 q1690) rfl rfl rfl hd_X14_changed ⟨Nat.le_of_ble_eq_true rfl, Nat.le_of_ble_eq_true rfl⟩) cfX14 (sk_128 hSk) hK hW hR hS rfl hl.1 rfl (Nat.le_of_ble_eq_true rfl) rfl dX14_mind_19 ⟨rfl, rfl⟩ ⟨Nat.zero_le _, Nat.zero_le _⟩ (fun H locs hR hS => ?_)
      refine lv_goto (tgt := 26) hx hb dX14_mind_22 (by decide) ?_
      exact J26 r10 g11 _ _ _ hR hS (lv_sub hl [] rfl) h
def rm_X14_isPurpose : Room := { frames := 2, cells := 0, slots := 0, locals := 37 }
theorem he_X14_isPurpose : yX14_isPurpose.cls ≠ "java/lang/invoke/MethodHandle" ∧ yX14_isPurpose.cls ≠ "java/lang/invoke/VarHandle" ∧ (parseMethodDescriptor yX14_isPurpose.desc).map (fun d => d.parameters.length) = some 1 := by decide +kernel

set_option maxHeartbeats 4000000 in
set_option maxRecDepth 100000 in
theorem w_X14_isPurpose {l : Launch} {G : Gx} {sh : SM} {g : GM} {gl : LM} {gr : RM} {n : Nat} (hSk : Sk sh gr) (a0 : Int32)  {r : Int32} (h : f_X14_isPurpose  a0 = some r) : MetI l G yX14_isPurpose (ws_ yX14_isPurpose cX14_isPurpose 1 (Option.some Jvm.ClassFile.FieldType.boolean)) rm_X14_isPurpose [.int a0] sh g gl gr n (some (.int r)) sh g gl gr n := by
  refine MetI.of (by decide) (Nat.le_of_ble_eq_true rfl) ?_
  intro p e s m below meth c ls hx hb hr hml hown hts hlk hnm hW hK hR hS hl
  have hown : s.vm.findClass RX14 = some m.cls := hown
  have hF : CallFix p m c cX14_isPurpose 1 s ([.int a0] : List Value).toArray lw_all RX14 := ⟨hx, hb, hml, hown, hts⟩
  have hl : lv_has ls 1 [(0, .int a0)] := hl
  unfold f_X14_isPurpose at h
  refine lv_iload_n hx hb dX14_isPurpose_0 rfl (lv_at hl 0 rfl) ?_
  refine lv_i2l hx hb dX14_isPurpose_1 rfl ?_
  refine lv_lconst (v := 0) hx hb dX14_isPurpose_2 rfl ?_
  refine lv_ldc2 (v := 9) hx hb hown (hts _ q1621) dX14_isPurpose_3 ?_
  obtain ⟨r2, e1, h⟩ := obd h
  refine rc_S0 (rest := []) (st1 := [.int r2]) hF (w_X14_in hSk a0.toInt64 0 9 e1) (va_cwS 3 hts (lw_S q1602 q1603 q117 q1604) rfl rfl rfl he_X14_in ⟨Nat.le_of_ble_eq_true rfl, Nat.le_of_ble_eq_true rfl⟩) hW hR hS rfl hl.1 rfl (Nat.le_of_ble_eq_true rfl) rfl dX14_isPurpose_6 ⟨rfl, rfl⟩ ⟨Nat.zero_le _, Nat.zero_le _⟩ (fun H locs hR hS => ?_)
  obtain ⟨c3, h⟩ := ogrd h
  obtain rfl := s1i h
  exact r_zret0 hx hb hr hlk hR hS (Nat.zero_le _) (Nat.zero_le _) (nb01 c3) dX14_isPurpose_9
def rm_X14_steep : Room := { frames := 3, cells := 0, slots := 0, locals := 58 }
theorem hd_X14_steep : yX14_steep.cls = "IntentVatsModel" ∧ yX14_steep.cls ≠ "java/lang/invoke/MethodHandle" ∧ yX14_steep.cls ≠ "java/lang/invoke/VarHandle" ∧ (parseMethodDescriptor yX14_steep.desc).map (fun d => d.parameters.length) = some 3 := by decide +kernel
theorem he_X14_steep : yX14_steep.cls ≠ "java/lang/invoke/MethodHandle" ∧ yX14_steep.cls ≠ "java/lang/invoke/VarHandle" ∧ (parseMethodDescriptor yX14_steep.desc).map (fun d => d.parameters.length) = some 3 := hd_X14_steep.2

set_option maxHeartbeats 4000000 in
set_option maxRecDepth 100000 in
theorem w_X14_steep {l : Launch} {G : Gx} {sh : SM} {g : GM} {gl : LM} {gr : RM} {n : Nat} (hSk : Sk sh gr) (a1 : Int32) (a2 : Int32) (a3 : Int32)  {r : Int32} {go : GM} (h : f_X14_steep g a1 a2 a3 = some (r, go)) : MetI l G yX14_steep (ws_ yX14_steep cX14_steep 5 (Option.some Jvm.ClassFile.FieldType.int)) rm_X14_steep [.ref (adr G 128), .int a1, .int a2, .int a3] sh g gl gr n (some (.int r)) sh go gl gr n := by
  refine MetI.of (by decide) (Nat.le_of_ble_eq_true rfl) ?_
  intro p e s m below meth c ls hx hb hr hml hown hts hlk hnm hW hK hR hS hl
  have hown : s.vm.findClass RX14 = some m.cls := hown
  have hF : CallFix p m c cX14_steep 5 s ([.ref (adr G 128), .int a1, .int a2, .int a3] : List Value).toArray lw_all RX14 := ⟨hx, hb, hml, hown, hts⟩
  have hl : lv_has ls 5 [(0, .ref (adr G 128)), (1, .int a1), (2, .int a2), (3, .int a3)] := hl
  unfold f_X14_steep at h
  refine lv_iload_n hx hb dX14_steep_0 rfl (lv_at hl 2 rfl) ?_
  refine lv_iconst (v := (-1)) hx hb dX14_steep_1 ki_m1 ?_
  have J41 : ∀ (x1 : Int32) (H : Heap) (locs : List Loc) (ls : Array Slot), Rep G sh g gl gr n H → va_S (own G) s.heap H locs → lv_has ls 5 [(0, .ref (adr G 128)), (1, .int a1), (2, .int a2), (3, .int a3)] → j_X14_steep_41 g a1 a2 a3 x1 = some (r, go) → W p l e rm_X14_steep s m ([.ref (adr G 128), .int a1, .int a2, .int a3] : List Value).toArray below meth c H locs 0 0 (MQ below (QR G (some (.int r)) sh go gl gr n) ([.ref (adr G 128), .int a1, .int a2, .int a3] : List Value).toArray s rm_X14_steep.cells rm_X14_steep.slots (own G)) (F0 m 41 ls [.int x1]) := by
    intro x1 H locs ls hR hS hl h
    unfold j_X14_steep_41 at h
    refine lv_istore (lv' := [(4, .int x1), (0, .ref (adr G 128)), (1, .int a1), (2, .int a2), (3, .int a3)]) hx hb dX14_steep_41 hl (by decide) rfl (fun ls hl => ?_)
    refine lv_aload_n hx hb dX14_steep_43 rfl (lv_at hl 1 rfl) ?_
    refine lv_iload_n hx hb dX14_steep_44 rfl (lv_at hl 2 rfl) ?_
    obtain ⟨r3, e2, h⟩ := obd h
    refine rc_V0 (rest := []) (st1 := [.int r3]) hF (w_X14_isCloth hSk a1 e2) (cwV 1 hts (lw_V q1657 q1659 qs47 q117 q1660) rfl rfl rfl hd_X14_isCloth ⟨Nat.le_of_ble_eq_true rfl, Nat.le_of_ble_eq_true rfl⟩) cfX14 (sk_128 hSk) hK hW hR hS rfl hl.1 rfl (Nat.le_of_ble_eq_true rfl) rfl dX14_steep_45 ⟨rfl, rfl⟩ ⟨Nat.zero_le _, Nat.zero_le _⟩ (fun H locs hR hS => ?_)
    have J56 : ∀  (H : Heap) (locs : List Loc) (ls : Array Slot), Rep G sh g gl gr n H → va_S (own G) s.heap H locs → lv_has ls 5 [] → j_X14_steep_56 g  = some (r, go) → W p l e rm_X14_steep s m ([.ref (adr G 128), .int a1, .int a2, .int a3] : List Value).toArray below meth c H locs 0 0 (MQ below (QR G (some (.int r)) sh go gl gr n) ([.ref (adr G 128), .int a1, .int a2, .int a3] : List Value).toArray s rm_X14_steep.cells rm_X14_steep.slots (own G)) (F0 m 56 ls []) := by
      intro  H locs ls hR hS hl h
      unfold j_X14_steep_56 at h
      refine lv_iconst (v := (-1)) hx hb dX14_steep_56 ki_m1 ?_
      obtain ⟨rfl, rfl⟩ := s2i h
      exact r_iret0 hx hb hr hlk hR hS (Nat.zero_le _) (Nat.zero_le _) dX14_steep_57
    refine lv_if_eq (tgt := 56) hx hb dX14_steep_48 (by decide) (fun c4 => ?_) (fun c4 => ?_)
    · replace h := ifp h c4
      exact J56  _ _ _ hR hS (lv_sub hl [] rfl) h
    · replace h := ifn h c4
      refine lv_iload hx hb dX14_steep_51 (lv_at hl 0 rfl) ?_
      refine lv_if_ne (tgt := 58) hx hb dX14_steep_53 (by decide) (fun c5 => ?_) (fun c5 => ?_)
      · replace h := ifn h c5
        refine lv_aload_n hx hb dX14_steep_58 rfl (lv_at hl 1 rfl) ?_
        refine lv_iload_n hx hb dX14_steep_59 rfl (lv_at hl 2 rfl) ?_
        refine lv_iconst (v := 2) hx hb dX14_steep_60 ki_2 ?_
        refine lv_iload_n hx hb dX14_steep_61 rfl (lv_at hl 4 rfl) ?_
        obtain ⟨g7, e6, h⟩ := obd h
        refine rc_V0 (rest := []) (st1 := []) hF (w_X14_sets hSk a1 2 a3 e6) (cwV 3 hts (lw_V q1649 q1651 qs46 q117 q1652) rfl rfl rfl hd_X14_sets ⟨Nat.le_of_ble_eq_true rfl, Nat.le_of_ble_eq_true rfl⟩) cfX14 (sk_128 hSk) hK hW hR hS rfl hl.1 rfl (Nat.le_of_ble_eq_true rfl) rfl dX14_steep_62 ⟨rfl, rfl⟩ ⟨Nat.zero_le _, Nat.zero_le _⟩ (fun H locs hR hS => ?_)
        refine lv_iconst (v := 1) hx hb dX14_steep_65 ki_1 ?_
        refine lv_aload_n hx hb dX14_steep_66 rfl (lv_at hl 1 rfl) ?_
        refine lv_iload_n hx hb dX14_steep_67 rfl (lv_at hl 2 rfl) ?_
        refine lv_iconst (v := 1) hx hb dX14_steep_68 ki_1 ?_
        refine lv_iload_n hx hb dX14_steep_69 rfl (lv_at hl 3 rfl) ?_
        obtain ⟨r9, g10, e8, h⟩ := obd2 h
        refine rc_V0 (rest := [.int 1]) (st1 := [.int r9, .int 1]) hF (w_X14_changed hSk a1 1 a2 e8) (cwV 3 hts (lw_V q1687 q1689 qs52 q117 q1690) rfl rfl rfl hd_X14_changed ⟨Nat.le_of_ble_eq_true rfl, Nat.le_of_ble_eq_true rfl⟩) cfX14 (sk_128 hSk) hK hW hR hS rfl hl.1 rfl (Nat.le_of_ble_eq_true rfl) rfl dX14_steep_70 ⟨rfl, rfl⟩ ⟨Nat.zero_le _, Nat.zero_le _⟩ (fun H locs hR hS => ?_)
        refine lv_iadd hx hb dX14_steep_73 ?_
        obtain ⟨rfl, rfl⟩ := s2i h
        exact r_iret0 hx hb hr hlk hR hS (Nat.zero_le _) (Nat.zero_le _) dX14_steep_74
      · replace h := ifp h c5
        exact J56  _ _ _ hR hS (lv_sub hl [] rfl) h
  refine lv_icmp_ne (tgt := 17) hx hb dX14_steep_2 (by decide) (fun c11 => ?_) (fun c11 => ?_)
  · replace h := ifn h c11
    refine lv_iload_n hx hb dX14_steep_17 rfl (lv_at hl 2 rfl) ?_
    obtain ⟨r13, e12, h⟩ := obd h
    refine rc_S0 (rest := []) (st1 := [.int r13]) hF (w_X14_isPurpose hSk a2 e12) (va_cwS 1 hts (lw_S q1695 q1696 q117 q1697) rfl rfl rfl he_X14_isPurpose ⟨Nat.le_of_ble_eq_true rfl, Nat.le_of_ble_eq_true rfl⟩) hW hR hS rfl hl.1 rfl (Nat.le_of_ble_eq_true rfl) rfl dX14_steep_18 ⟨rfl, rfl⟩ ⟨Nat.zero_le _, Nat.zero_le _⟩ (fun H locs hR hS => ?_)
    have J40 : ∀  (H : Heap) (locs : List Loc) (ls : Array Slot), Rep G sh g gl gr n H → va_S (own G) s.heap H locs → lv_has ls 5 [(0, .ref (adr G 128)), (1, .int a1), (2, .int a2), (3, .int a3)] → j_X14_steep_40 g a1 a2 a3  = some (r, go) → W p l e rm_X14_steep s m ([.ref (adr G 128), .int a1, .int a2, .int a3] : List Value).toArray below meth c H locs 0 0 (MQ below (QR G (some (.int r)) sh go gl gr n) ([.ref (adr G 128), .int a1, .int a2, .int a3] : List Value).toArray s rm_X14_steep.cells rm_X14_steep.slots (own G)) (F0 m 40 ls []) := by
      intro  H locs ls hR hS hl h
      unfold j_X14_steep_40 at h
      refine lv_iconst (v := 0) hx hb dX14_steep_40 ki_0 ?_
      exact J41 0 _ _ _ hR hS (lv_sub hl [0, 1, 2, 3] rfl) h
    refine lv_if_eq (tgt := 40) hx hb dX14_steep_21 (by decide) (fun c14 => ?_) (fun c14 => ?_)
    · replace h := ifp h c14
      exact J40  _ _ _ hR hS (lv_sub hl [0, 1, 2, 3] rfl) h
    · replace h := ifn h c14
      refine lv_iload_n hx hb dX14_steep_24 rfl (lv_at hl 3 rfl) ?_
      refine lv_i2l hx hb dX14_steep_25 rfl ?_
      refine lv_lconst (v := 1) hx hb dX14_steep_26 rfl ?_
      refine lv_ldc2 (v := 99) hx hb hown (hts _ q1698) dX14_steep_27 ?_
      obtain ⟨r16, e15, h⟩ := obd h
      refine rc_S0 (rest := []) (st1 := [.int r16]) hF (w_X14_in hSk a3.toInt64 1 99 e15) (va_cwS 3 hts (lw_S q1602 q1603 q117 q1604) rfl rfl rfl he_X14_in ⟨Nat.le_of_ble_eq_true rfl, Nat.le_of_ble_eq_true rfl⟩) hW hR hS rfl hl.1 rfl (Nat.le_of_ble_eq_true rfl) rfl dX14_steep_30 ⟨rfl, rfl⟩ ⟨Nat.zero_le _, Nat.zero_le _⟩ (fun H locs hR hS => ?_)
      refine lv_if_eq (tgt := 40) hx hb dX14_steep_33 (by decide) (fun c17 => ?_) (fun c17 => ?_)
      · replace h := ifp h c17
        exact J40  _ _ _ hR hS (lv_sub hl [0, 1, 2, 3] rfl) h
      · replace h := ifn h c17
        refine lv_iconst (v := 1) hx hb dX14_steep_36 ki_1 ?_
        refine lv_goto (tgt := 41) hx hb dX14_steep_37 (by decide) ?_
        exact J41 1 _ _ _ hR hS (lv_sub hl [0, 1, 2, 3] rfl) h
  · replace h := ifp h c11
    refine lv_iload_n hx hb dX14_steep_5 rfl (lv_at hl 3 rfl) ?_
    refine lv_if_ne (tgt := 13) hx hb dX14_steep_6 (by decide) (fun c18 => ?_) (fun c18 => ?_)
    · replace h := ifn h c18
      refine lv_iconst (v := 0) hx hb dX14_steep_13 ki_0 ?_
      refine lv_goto (tgt := 41) hx hb dX14_steep_14 (by decide) ?_
      exact J41 0 _ _ _ hR hS (lv_sub hl [0, 1, 2, 3] rfl) h
    · replace h := ifp h c18
      refine lv_iconst (v := 1) hx hb dX14_steep_9 ki_1 ?_
      refine lv_goto (tgt := 41) hx hb dX14_steep_10 (by decide) ?_
      exact J41 1 _ _ _ hR hS (lv_sub hl [0, 1, 2, 3] rfl) h
def rm_X14_hang : Room := { frames := 3, cells := 0, slots := 0, locals := 58 }
theorem hd_X14_hang : yX14_hang.cls = "IntentVatsModel" ∧ yX14_hang.cls ≠ "java/lang/invoke/MethodHandle" ∧ yX14_hang.cls ≠ "java/lang/invoke/VarHandle" ∧ (parseMethodDescriptor yX14_hang.desc).map (fun d => d.parameters.length) = some 2 := by decide +kernel
theorem he_X14_hang : yX14_hang.cls ≠ "java/lang/invoke/MethodHandle" ∧ yX14_hang.cls ≠ "java/lang/invoke/VarHandle" ∧ (parseMethodDescriptor yX14_hang.desc).map (fun d => d.parameters.length) = some 2 := hd_X14_hang.2

set_option maxHeartbeats 4000000 in
set_option maxRecDepth 100000 in
theorem w_X14_hang {l : Launch} {G : Gx} {sh : SM} {g : GM} {gl : LM} {gr : RM} {n : Nat} (hSk : Sk sh gr) (a1 : Int32) (a2 : Int32)  {r : Int32} {go : GM} (h : f_X14_hang g a1 a2 = some (r, go)) : MetI l G yX14_hang (ws_ yX14_hang cX14_hang 3 (Option.some Jvm.ClassFile.FieldType.int)) rm_X14_hang [.ref (adr G 128), .int a1, .int a2] sh g gl gr n (some (.int r)) sh go gl gr n := by
  refine MetI.of (by decide) (Nat.le_of_ble_eq_true rfl) ?_
  intro p e s m below meth c ls hx hb hr hml hown hts hlk hnm hW hK hR hS hl
  have hown : s.vm.findClass RX14 = some m.cls := hown
  have hF : CallFix p m c cX14_hang 3 s ([.ref (adr G 128), .int a1, .int a2] : List Value).toArray lw_all RX14 := ⟨hx, hb, hml, hown, hts⟩
  have hl : lv_has ls 3 [(0, .ref (adr G 128)), (1, .int a1), (2, .int a2)] := hl
  unfold f_X14_hang at h
  refine lv_aload_n hx hb dX14_hang_0 rfl (lv_at hl 0 rfl) ?_
  refine lv_iload_n hx hb dX14_hang_1 rfl (lv_at hl 1 rfl) ?_
  obtain ⟨r2, e1, h⟩ := obd h
  refine rc_V0 (rest := []) (st1 := [.int r2]) hF (w_X14_isCloth hSk a1 e1) (cwV 1 hts (lw_V q1657 q1659 qs47 q117 q1660) rfl rfl rfl hd_X14_isCloth ⟨Nat.le_of_ble_eq_true rfl, Nat.le_of_ble_eq_true rfl⟩) cfX14 (sk_128 hSk) hK hW hR hS rfl hl.1 rfl (Nat.le_of_ble_eq_true rfl) rfl dX14_hang_2 ⟨rfl, rfl⟩ ⟨Nat.zero_le _, Nat.zero_le _⟩ (fun H locs hR hS => ?_)
  have J29 : ∀ (x3 : Int32) (g4 : GM) (H : Heap) (locs : List Loc) (ls : Array Slot), Rep G sh g4 gl gr n H → va_S (own G) s.heap H locs → lv_has ls 3 [] → j_X14_hang_29  x3 g4 = some (r, go) → W p l e rm_X14_hang s m ([.ref (adr G 128), .int a1, .int a2] : List Value).toArray below meth c H locs 0 0 (MQ below (QR G (some (.int r)) sh go gl gr n) ([.ref (adr G 128), .int a1, .int a2] : List Value).toArray s rm_X14_hang.cells rm_X14_hang.slots (own G)) (F0 m 29 ls [.int x3]) := by
    intro x3 g4 H locs ls hR hS hl h
    unfold j_X14_hang_29 at h
    obtain ⟨rfl, rfl⟩ := s2i h
    exact r_iret0 hx hb hr hlk hR hS (Nat.zero_le _) (Nat.zero_le _) dX14_hang_29
  have J28 : ∀  (H : Heap) (locs : List Loc) (ls : Array Slot), Rep G sh g gl gr n H → va_S (own G) s.heap H locs → lv_has ls 3 [] → j_X14_hang_28 g  = some (r, go) → W p l e rm_X14_hang s m ([.ref (adr G 128), .int a1, .int a2] : List Value).toArray below meth c H locs 0 0 (MQ below (QR G (some (.int r)) sh go gl gr n) ([.ref (adr G 128), .int a1, .int a2] : List Value).toArray s rm_X14_hang.cells rm_X14_hang.slots (own G)) (F0 m 28 ls []) := by
    intro  H locs ls hR hS hl h
    unfold j_X14_hang_28 at h
    refine lv_iconst (v := (-1)) hx hb dX14_hang_28 ki_m1 ?_
    exact J29 (-1) g _ _ _ hR hS (lv_sub hl [] rfl) h
  refine lv_if_eq (tgt := 28) hx hb dX14_hang_5 (by decide) (fun c5 => ?_) (fun c5 => ?_)
  · replace h := ifp h c5
    exact J28  _ _ _ hR hS (lv_sub hl [] rfl) h
  · replace h := ifn h c5
    refine lv_iload_n hx hb dX14_hang_8 rfl (lv_at hl 2 rfl) ?_
    refine lv_i2l hx hb dX14_hang_9 rfl ?_
    refine lv_lconst (v := 0) hx hb dX14_hang_10 rfl ?_
    refine lv_lconst (v := 1) hx hb dX14_hang_11 rfl ?_
    obtain ⟨r7, e6, h⟩ := obd h
    refine rc_S0 (rest := []) (st1 := [.int r7]) hF (w_X14_in hSk a2.toInt64 0 1 e6) (va_cwS 3 hts (lw_S q1602 q1603 q117 q1604) rfl rfl rfl he_X14_in ⟨Nat.le_of_ble_eq_true rfl, Nat.le_of_ble_eq_true rfl⟩) hW hR hS rfl hl.1 rfl (Nat.le_of_ble_eq_true rfl) rfl dX14_hang_12 ⟨rfl, rfl⟩ ⟨Nat.zero_le _, Nat.zero_le _⟩ (fun H locs hR hS => ?_)
    refine lv_if_eq (tgt := 28) hx hb dX14_hang_15 (by decide) (fun c8 => ?_) (fun c8 => ?_)
    · replace h := ifp h c8
      exact J28  _ _ _ hR hS (lv_sub hl [] rfl) h
    · replace h := ifn h c8
      refine lv_aload_n hx hb dX14_hang_18 rfl (lv_at hl 0 rfl) ?_
      refine lv_iload_n hx hb dX14_hang_19 rfl (lv_at hl 1 rfl) ?_
      refine lv_iconst (v := 3) hx hb dX14_hang_20 ki_3 ?_
      refine lv_iload_n hx hb dX14_hang_21 rfl (lv_at hl 2 rfl) ?_
      obtain ⟨r10, g11, e9, h⟩ := obd2 h
      refine rc_V0 (rest := []) (st1 := [.int r10]) hF (w_X14_changed hSk a1 3 a2 e9) (cwV 3 hts (lw_V q1687 q1689 qs52 q117 q1690) rfl rfl rfl hd_X14_changed ⟨Nat.le_of_ble_eq_true rfl, Nat.le_of_ble_eq_true rfl⟩) cfX14 (sk_128 hSk) hK hW hR hS rfl hl.1 rfl (Nat.le_of_ble_eq_true rfl) rfl dX14_hang_22 ⟨rfl, rfl⟩ ⟨Nat.zero_le _, Nat.zero_le _⟩ (fun H locs hR hS => ?_)
      refine lv_goto (tgt := 29) hx hb dX14_hang_25 (by decide) ?_
      exact J29 r10 g11 _ _ _ hR hS (lv_sub hl [] rfl) h
def rm_X14_isDeep : Room := { frames := 2, cells := 0, slots := 0, locals := 40 }
theorem hd_X14_isDeep : yX14_isDeep.cls = "IntentVatsModel" ∧ yX14_isDeep.cls ≠ "java/lang/invoke/MethodHandle" ∧ yX14_isDeep.cls ≠ "java/lang/invoke/VarHandle" ∧ (parseMethodDescriptor yX14_isDeep.desc).map (fun d => d.parameters.length) = some 2 := by decide +kernel
theorem he_X14_isDeep : yX14_isDeep.cls ≠ "java/lang/invoke/MethodHandle" ∧ yX14_isDeep.cls ≠ "java/lang/invoke/VarHandle" ∧ (parseMethodDescriptor yX14_isDeep.desc).map (fun d => d.parameters.length) = some 2 := hd_X14_isDeep.2

set_option maxHeartbeats 4000000 in
set_option maxRecDepth 100000 in
theorem w_X14_isDeep {l : Launch} {G : Gx} {sh : SM} {g : GM} {gl : LM} {gr : RM} {n : Nat} (hSk : Sk sh gr) (a1 : Int32) (a2 : Int32)  {go : GM} (h : f_X14_isDeep g a1 a2 = some go) : MetI l G yX14_isDeep (ws_ yX14_isDeep cX14_isDeep 3 (Option.none : Option Jvm.ClassFile.FieldType)) rm_X14_isDeep [.ref (adr G 128), .int a1, .int a2] sh g gl gr n none sh go gl gr n := by
  refine MetI.of (by decide) (Nat.le_of_ble_eq_true rfl) ?_
  intro p e s m below meth c ls hx hb hr hml hown hts hlk hnm hW hK hR hS hl
  have hown : s.vm.findClass RX14 = some m.cls := hown
  have hF : CallFix p m c cX14_isDeep 3 s ([.ref (adr G 128), .int a1, .int a2] : List Value).toArray lw_all RX14 := ⟨hx, hb, hml, hown, hts⟩
  have hl : lv_has ls 3 [(0, .ref (adr G 128)), (1, .int a1), (2, .int a2)] := hl
  unfold f_X14_isDeep at h
  refine lv_aload_n hx hb dX14_isDeep_0 rfl (lv_at hl 0 rfl) ?_
  refine lv_iload_n hx hb dX14_isDeep_1 rfl (lv_at hl 1 rfl) ?_
  refine lv_iconst (v := 2) hx hb dX14_isDeep_2 ki_2 ?_
  refine lv_iconst (v := 0) hx hb dX14_isDeep_3 ki_0 ?_
  refine lv_bipush (v := 99) hx hb dX14_isDeep_4 kb_99 ?_
  refine lv_iload_n hx hb dX14_isDeep_6 rfl (lv_at hl 2 rfl) ?_
  refine va_mmin hx hb (hml.trans hl.1.symm) hown (hts _ q1715) (hts _ q834) (hts _ q123) (hts _ q835) (Nat.le_of_ble_eq_true rfl) (Nat.le_of_ble_eq_true rfl) (Nat.zero_le _) (Nat.zero_le _) dX14_isDeep_7 ?_
  refine va_mmax hx hb (hml.trans hl.1.symm) hown (hts _ q1716) (hts _ q837) (hts _ q123) (hts _ q838) (Nat.le_of_ble_eq_true rfl) (Nat.le_of_ble_eq_true rfl) (Nat.zero_le _) (Nat.zero_le _) dX14_isDeep_10 ?_
  obtain ⟨g2, e1, h⟩ := obd h
  refine rc_V0 (rest := []) (st1 := []) hF (w_X14_sets hSk a1 2 (imax 0 (imin 99 a2)) e1) (cwV 3 hts (lw_V q1649 q1651 qs46 q117 q1652) rfl rfl rfl hd_X14_sets ⟨Nat.le_of_ble_eq_true rfl, Nat.le_of_ble_eq_true rfl⟩) cfX14 (sk_128 hSk) hK hW hR hS rfl hl.1 rfl (Nat.le_of_ble_eq_true rfl) rfl dX14_isDeep_13 ⟨rfl, rfl⟩ ⟨Nat.zero_le _, Nat.zero_le _⟩ (fun H locs hR hS => ?_)
  refine lv_iload_n hx hb dX14_isDeep_16 rfl (lv_at hl 2 rfl) ?_
  have J27 : ∀ (g3 : GM) (H : Heap) (locs : List Loc) (ls : Array Slot), Rep G sh g3 gl gr n H → va_S (own G) s.heap H locs → lv_has ls 3 [] → j_X14_isDeep_27  g3 = some go → W p l e rm_X14_isDeep s m ([.ref (adr G 128), .int a1, .int a2] : List Value).toArray below meth c H locs 0 0 (MQ below (QR G none sh go gl gr n) ([.ref (adr G 128), .int a1, .int a2] : List Value).toArray s rm_X14_isDeep.cells rm_X14_isDeep.slots (own G)) (F0 m 27 ls []) := by
    intro g3 H locs ls hR hS hl h
    unfold j_X14_isDeep_27 at h
    obtain rfl := s1i h
    exact r_vret0 hx hb hr hlk hR hS (Nat.zero_le _) (Nat.zero_le _) dX14_isDeep_27
  refine lv_if_gt (tgt := 27) hx hb dX14_isDeep_17 (by decide) (fun c4 => ?_) (fun c4 => ?_)
  · replace h := ifp h c4
    exact J27 g2 _ _ _ hR hS (lv_sub hl [] rfl) h
  · replace h := ifn h c4
    refine lv_aload_n hx hb dX14_isDeep_20 rfl (lv_at hl 0 rfl) ?_
    refine lv_iload_n hx hb dX14_isDeep_21 rfl (lv_at hl 1 rfl) ?_
    refine lv_iconst (v := 1) hx hb dX14_isDeep_22 ki_1 ?_
    refine lv_iconst (v := (-1)) hx hb dX14_isDeep_23 ki_m1 ?_
    obtain ⟨g6, e5, h⟩ := obd h
    refine rc_V0 (rest := []) (st1 := []) hF (w_X14_sets hSk a1 1 (-1) e5) (cwV 3 hts (lw_V q1649 q1651 qs46 q117 q1652) rfl rfl rfl hd_X14_sets ⟨Nat.le_of_ble_eq_true rfl, Nat.le_of_ble_eq_true rfl⟩) cfX14 (sk_128 hSk) hK hW hR hS rfl hl.1 rfl (Nat.le_of_ble_eq_true rfl) rfl dX14_isDeep_24 ⟨rfl, rfl⟩ ⟨Nat.zero_le _, Nat.zero_le _⟩ (fun H locs hR hS => ?_)
    exact J27 g6 _ _ _ hR hS (lv_sub hl [] rfl) h
def rm_X14_dips : Room := { frames := 3, cells := 0, slots := 0, locals := 62 }
theorem hd_X14_dips : yX14_dips.cls = "IntentVatsModel" ∧ yX14_dips.cls ≠ "java/lang/invoke/MethodHandle" ∧ yX14_dips.cls ≠ "java/lang/invoke/VarHandle" ∧ (parseMethodDescriptor yX14_dips.desc).map (fun d => d.parameters.length) = some 2 := by decide +kernel
theorem he_X14_dips : yX14_dips.cls ≠ "java/lang/invoke/MethodHandle" ∧ yX14_dips.cls ≠ "java/lang/invoke/VarHandle" ∧ (parseMethodDescriptor yX14_dips.desc).map (fun d => d.parameters.length) = some 2 := hd_X14_dips.2

set_option maxHeartbeats 4000000 in
set_option maxRecDepth 100000 in
theorem w_X14_dips {l : Launch} {G : Gx} {sh : SM} {g : GM} {gl : LM} {gr : RM} {n : Nat} (hSk : Sk sh gr) (a1 : Int32) (a2 : Int32)  {go : GM} (h : f_X14_dips g a1 a2 = some go) : MetI l G yX14_dips (ws_ yX14_dips cX14_dips 7 (Option.none : Option Jvm.ClassFile.FieldType)) rm_X14_dips [.ref (adr G 128), .int a1, .int a2] sh g gl gr n none sh go gl gr n := by
  refine MetI.of (by decide) (Nat.le_of_ble_eq_true rfl) ?_
  intro p e s m below meth c ls hx hb hr hml hown hts hlk hnm hW hK hR hS hl
  have hown : s.vm.findClass RX14 = some m.cls := hown
  have hF : CallFix p m c cX14_dips 7 s ([.ref (adr G 128), .int a1, .int a2] : List Value).toArray lw_all RX14 := ⟨hx, hb, hml, hown, hts⟩
  have hl : lv_has ls 7 [(0, .ref (adr G 128)), (1, .int a1), (2, .int a2)] := hl
  unfold f_X14_dips at h
  refine lv_aload_n hx hb dX14_dips_0 rfl (lv_at hl 0 rfl) ?_
  refine r_getr hx hb hts cfX14 hown hK hR (sk_128 hSk) 2 (by decide) rfl (sr_128_2 hSk) (hts _ q1523) (fun _ h => h) dX14_dips_1 ?_
  refine lv_bipush (v := 7) hx hb dX14_dips_4 kb_7 ?_
  refine lv_iload_n hx hb dX14_dips_6 rfl (lv_at hl 2 rfl) ?_
  refine lv_iadd hx hb dX14_dips_7 ?_
  obtain ⟨v2, e1, h⟩ := obd h
  refine r_ldi hx hb hK hR (sk_131 hSk) e1 dX14_dips_8 ?_
  refine lv_istore_n (lv' := [(3, .int v2), (0, .ref (adr G 128)), (1, .int a1), (2, .int a2)]) hx hb dX14_dips_9 rfl hl (by decide) rfl (fun ls hl => ?_)
  refine lv_aload_n hx hb dX14_dips_10 rfl (lv_at hl 1 rfl) ?_
  refine r_getr hx hb hts cfX14 hown hK hR (sk_128 hSk) 2 (by decide) rfl (sr_128_2 hSk) (hts _ q1523) (fun _ h => h) dX14_dips_11 ?_
  refine lv_bipush (v := 15) hx hb dX14_dips_14 kb_15 ?_
  refine lv_iload_n hx hb dX14_dips_16 rfl (lv_at hl 3 rfl) ?_
  refine lv_iadd hx hb dX14_dips_17 ?_
  obtain ⟨v4, e3, h⟩ := obd h
  refine r_ldi hx hb hK hR (sk_131 hSk) e3 dX14_dips_18 ?_
  refine lv_istore (lv' := [(4, .int v4), (3, .int v2), (0, .ref (adr G 128)), (1, .int a1), (2, .int a2)]) hx hb dX14_dips_19 hl (by decide) rfl (fun ls hl => ?_)
  refine lv_aload_n hx hb dX14_dips_21 rfl (lv_at hl 2 rfl) ?_
  refine lv_iload_n hx hb dX14_dips_22 rfl (lv_at hl 3 rfl) ?_
  refine lv_iconst (v := 2) hx hb dX14_dips_23 ki_2 ?_
  obtain ⟨r6, e5, h⟩ := obd h
  refine rc_V0 (rest := []) (st1 := [.int r6]) hF (w_X14_its hSk a1 2 e5) (cwV 2 hts (lw_V q1662 q1664 qs48 q117 q1665) rfl rfl rfl hd_X14_its ⟨Nat.le_of_ble_eq_true rfl, Nat.le_of_ble_eq_true rfl⟩) cfX14 (sk_128 hSk) hK hW hR hS rfl hl.1 rfl (Nat.le_of_ble_eq_true rfl) rfl dX14_dips_24 ⟨rfl, rfl⟩ ⟨Nat.zero_le _, Nat.zero_le _⟩ (fun H locs hR hS => ?_)
  refine lv_istore (lv' := [(5, .int r6), (4, .int v4), (3, .int v2), (0, .ref (adr G 128)), (1, .int a1), (2, .int a2)]) hx hb dX14_dips_27 hl (by decide) rfl (fun ls hl => ?_)
  refine lv_aload_n hx hb dX14_dips_29 rfl (lv_at hl 3 rfl) ?_
  refine lv_iload_n hx hb dX14_dips_30 rfl (lv_at hl 4 rfl) ?_
  refine lv_iconst (v := 1) hx hb dX14_dips_31 ki_1 ?_
  obtain ⟨r8, e7, h⟩ := obd h
  refine rc_V0 (rest := []) (st1 := [.int r8]) hF (w_X14_its hSk a1 1 e7) (cwV 2 hts (lw_V q1662 q1664 qs48 q117 q1665) rfl rfl rfl hd_X14_its ⟨Nat.le_of_ble_eq_true rfl, Nat.le_of_ble_eq_true rfl⟩) cfX14 (sk_128 hSk) hK hW hR hS rfl hl.1 rfl (Nat.le_of_ble_eq_true rfl) rfl dX14_dips_32 ⟨rfl, rfl⟩ ⟨Nat.zero_le _, Nat.zero_le _⟩ (fun H locs hR hS => ?_)
  refine lv_iconst (v := (-1)) hx hb dX14_dips_35 ki_m1 ?_
  have J108 : ∀ (g9 : GM) (H : Heap) (locs : List Loc) (ls : Array Slot), Rep G sh g9 gl gr n H → va_S (own G) s.heap H locs → lv_has ls 7 [(0, .ref (adr G 128)), (1, .int a1), (2, .int a2), (4, .int v4)] → j_X14_dips_108 a1 a2 v4 g9 = some go → W p l e rm_X14_dips s m ([.ref (adr G 128), .int a1, .int a2] : List Value).toArray below meth c H locs 0 0 (MQ below (QR G none sh go gl gr n) ([.ref (adr G 128), .int a1, .int a2] : List Value).toArray s rm_X14_dips.cells rm_X14_dips.slots (own G)) (F0 m 108 ls []) := by
    intro g9 H locs ls hR hS hl h
    unfold j_X14_dips_108 at h
    refine lv_aload_n hx hb dX14_dips_108 rfl (lv_at hl 0 rfl) ?_
    refine lv_iload_n hx hb dX14_dips_109 rfl (lv_at hl 1 rfl) ?_
    refine lv_iconst (v := 4) hx hb dX14_dips_110 ki_4 ?_
    refine lv_sipush (v := 9999) hx hb dX14_dips_111 ks_9999 ?_
    refine lv_aload_n hx hb dX14_dips_114 rfl (lv_at hl 0 rfl) ?_
    refine lv_iload_n hx hb dX14_dips_115 rfl (lv_at hl 1 rfl) ?_
    refine lv_iconst (v := 4) hx hb dX14_dips_116 ki_4 ?_
    obtain ⟨r11, e10, h⟩ := obd h
    refine rc_V0 (rest := [.int 9999, .int 4, .int a1, .ref (adr G 128)]) (st1 := [.int r11, .int 9999, .int 4, .int a1, .ref (adr G 128)]) hF (w_X14_its hSk a1 4 e10) (cwV 2 hts (lw_V q1662 q1664 qs48 q117 q1665) rfl rfl rfl hd_X14_its ⟨Nat.le_of_ble_eq_true rfl, Nat.le_of_ble_eq_true rfl⟩) cfX14 (sk_128 hSk) hK hW hR hS rfl hl.1 rfl (Nat.le_of_ble_eq_true rfl) rfl dX14_dips_117 ⟨rfl, rfl⟩ ⟨Nat.zero_le _, Nat.zero_le _⟩ (fun H locs hR hS => ?_)
    refine lv_iconst (v := 1) hx hb dX14_dips_120 ki_1 ?_
    refine lv_iadd hx hb dX14_dips_121 ?_
    refine va_mmin hx hb (hml.trans hl.1.symm) hown (hts _ q1715) (hts _ q834) (hts _ q123) (hts _ q835) (Nat.le_of_ble_eq_true rfl) (Nat.le_of_ble_eq_true rfl) (Nat.zero_le _) (Nat.zero_le _) dX14_dips_122 ?_
    obtain ⟨g13, e12, h⟩ := obd h
    refine rc_V0 (rest := []) (st1 := []) hF (w_X14_sets hSk a1 4 (imin 9999 (r11 + 1)) e12) (cwV 3 hts (lw_V q1649 q1651 qs46 q117 q1652) rfl rfl rfl hd_X14_sets ⟨Nat.le_of_ble_eq_true rfl, Nat.le_of_ble_eq_true rfl⟩) cfX14 (sk_128 hSk) hK hW hR hS rfl hl.1 rfl (Nat.le_of_ble_eq_true rfl) rfl dX14_dips_125 ⟨rfl, rfl⟩ ⟨Nat.zero_le _, Nat.zero_le _⟩ (fun H locs hR hS => ?_)
    refine lv_aload_n hx hb dX14_dips_128 rfl (lv_at hl 0 rfl) ?_
    refine r_getr hx hb hts cfX14 hown hK hR (sk_128 hSk) 2 (by decide) rfl (sr_128_2 hSk) (hts _ q1523) (fun _ h => h) dX14_dips_129 ?_
    refine lv_bipush (v := 15) hx hb dX14_dips_132 kb_15 ?_
    refine lv_iload_n hx hb dX14_dips_134 rfl (lv_at hl 2 rfl) ?_
    refine lv_iadd hx hb dX14_dips_135 ?_
    refine lv_iconst (v := 0) hx hb dX14_dips_136 ki_0 ?_
    refine lv_iload hx hb dX14_dips_137 (lv_at hl 3 rfl) ?_
    refine lv_iconst (v := 1) hx hb dX14_dips_139 ki_1 ?_
    refine lv_isub hx hb dX14_dips_140 ?_
    refine va_mmax hx hb (hml.trans hl.1.symm) hown (hts _ q1716) (hts _ q837) (hts _ q123) (hts _ q838) (Nat.le_of_ble_eq_true rfl) (Nat.le_of_ble_eq_true rfl) (Nat.zero_le _) (Nat.zero_le _) dX14_dips_141 ?_
    obtain ⟨g15, e14, h⟩ := obd h
    refine r_sti hx hb hK hR hS (sk_131 hSk) e14 dX14_dips_144 (fun H locs hR hS => ?_)
    obtain rfl := s1i h
    exact r_vret0 hx hb hr hlk hR hS (Nat.zero_le _) (Nat.zero_le _) dX14_dips_145
  have J49 : ∀  (H : Heap) (locs : List Loc) (ls : Array Slot), Rep G sh g gl gr n H → va_S (own G) s.heap H locs → lv_has ls 7 [(0, .ref (adr G 128)), (1, .int a1), (2, .int a2), (3, .int v2), (4, .int v4), (5, .int r6)] → j_X14_dips_49 g a1 a2 v2 v4 r6  = some go → W p l e rm_X14_dips s m ([.ref (adr G 128), .int a1, .int a2] : List Value).toArray below meth c H locs 0 0 (MQ below (QR G none sh go gl gr n) ([.ref (adr G 128), .int a1, .int a2] : List Value).toArray s rm_X14_dips.cells rm_X14_dips.slots (own G)) (F0 m 49 ls []) := by
    intro  H locs ls hR hS hl h
    unfold j_X14_dips_49 at h
    refine lv_aload_n hx hb dX14_dips_49 rfl (lv_at hl 0 rfl) ?_
    refine lv_iload_n hx hb dX14_dips_50 rfl (lv_at hl 1 rfl) ?_
    refine lv_iconst (v := 1) hx hb dX14_dips_51 ki_1 ?_
    refine lv_iload_n hx hb dX14_dips_52 rfl (lv_at hl 3 rfl) ?_
    obtain ⟨g17, e16, h⟩ := obd h
    refine rc_V0 (rest := []) (st1 := []) hF (w_X14_sets hSk a1 1 v2 e16) (cwV 3 hts (lw_V q1649 q1651 qs46 q117 q1652) rfl rfl rfl hd_X14_sets ⟨Nat.le_of_ble_eq_true rfl, Nat.le_of_ble_eq_true rfl⟩) cfX14 (sk_128 hSk) hK hW hR hS rfl hl.1 rfl (Nat.le_of_ble_eq_true rfl) rfl dX14_dips_53 ⟨rfl, rfl⟩ ⟨Nat.zero_le _, Nat.zero_le _⟩ (fun H locs hR hS => ?_)
    refine lv_aload_n hx hb dX14_dips_56 rfl (lv_at hl 0 rfl) ?_
    refine lv_iload_n hx hb dX14_dips_57 rfl (lv_at hl 1 rfl) ?_
    refine lv_iload hx hb dX14_dips_58 (lv_at hl 5 rfl) ?_
    refine lv_aload_n hx hb dX14_dips_60 rfl (lv_at hl 0 rfl) ?_
    refine lv_iload_n hx hb dX14_dips_61 rfl (lv_at hl 1 rfl) ?_
    refine lv_iload hx hb dX14_dips_62 (lv_at hl 4 rfl) ?_
    obtain ⟨r19, e18, h⟩ := obd h
    refine rc_V0 (rest := [.int r6, .int a1, .ref (adr G 128)]) (st1 := [.int r19, .int r6, .int a1, .ref (adr G 128)]) hF (w_X14_takesOf hSk a1 v4 e18) (cwV 2 hts (lw_V q1671 q1673 qs49 q117 q1674) rfl rfl rfl hd_X14_takesOf ⟨Nat.le_of_ble_eq_true rfl, Nat.le_of_ble_eq_true rfl⟩) cfX14 (sk_128 hSk) hK hW hR hS rfl hl.1 rfl (Nat.le_of_ble_eq_true rfl) rfl dX14_dips_64 ⟨rfl, rfl⟩ ⟨Nat.zero_le _, Nat.zero_le _⟩ (fun H locs hR hS => ?_)
    refine lv_iadd hx hb dX14_dips_67 ?_
    obtain ⟨g21, e20, h⟩ := obd h
    refine rc_V0 (rest := []) (st1 := []) hF (w_X14_isDeep hSk a1 (r6 + r19) e20) (cwV 2 hts (lw_V q1711 q1713 qs54 q117 q1714) rfl rfl rfl hd_X14_isDeep ⟨Nat.le_of_ble_eq_true rfl, Nat.le_of_ble_eq_true rfl⟩) cfX14 (sk_128 hSk) hK hW hR hS rfl hl.1 rfl (Nat.le_of_ble_eq_true rfl) rfl dX14_dips_68 ⟨rfl, rfl⟩ ⟨Nat.zero_le _, Nat.zero_le _⟩ (fun H locs hR hS => ?_)
    refine lv_goto (tgt := 108) hx hb dX14_dips_71 (by decide) ?_
    exact J108 g21 _ _ _ hR hS (lv_sub hl [0, 1, 2, 4] rfl) h
  refine lv_icmp_eq (tgt := 49) hx hb dX14_dips_36 (by decide) (fun c22 => ?_) (fun c22 => ?_)
  · replace h := ifp h c22
    exact J49  _ _ _ hR hS (lv_sub hl [3, 4, 5, 2, 1, 0] rfl) h
  · replace h := ifn h c22
    refine lv_aload_n hx hb dX14_dips_39 rfl (lv_at hl 3 rfl) ?_
    refine lv_iload_n hx hb dX14_dips_40 rfl (lv_at hl 4 rfl) ?_
    refine lv_iconst (v := 1) hx hb dX14_dips_41 ki_1 ?_
    obtain ⟨r24, e23, h⟩ := obd h
    refine rc_V0 (rest := []) (st1 := [.int r24]) hF (w_X14_its hSk a1 1 e23) (cwV 2 hts (lw_V q1662 q1664 qs48 q117 q1665) rfl rfl rfl hd_X14_its ⟨Nat.le_of_ble_eq_true rfl, Nat.le_of_ble_eq_true rfl⟩) cfX14 (sk_128 hSk) hK hW hR hS rfl hl.1 rfl (Nat.le_of_ble_eq_true rfl) rfl dX14_dips_42 ⟨rfl, rfl⟩ ⟨Nat.zero_le _, Nat.zero_le _⟩ (fun H locs hR hS => ?_)
    refine lv_iload_n hx hb dX14_dips_45 rfl (lv_at hl 2 rfl) ?_
    refine lv_icmp_ne (tgt := 74) hx hb dX14_dips_46 (by decide) (fun c25 => ?_) (fun c25 => ?_)
    · replace h := ifn h c25
      refine lv_iload hx hb dX14_dips_74 (lv_at hl 0 rfl) ?_
      refine lv_aload_n hx hb dX14_dips_76 rfl (lv_at hl 3 rfl) ?_
      refine lv_iload_n hx hb dX14_dips_77 rfl (lv_at hl 4 rfl) ?_
      refine lv_iload hx hb dX14_dips_78 (lv_at hl 1 rfl) ?_
      obtain ⟨r27, e26, h⟩ := obd h
      refine rc_V0 (rest := [.int r6]) (st1 := [.int r27, .int r6]) hF (w_X14_fightsOf hSk a1 v4 e26) (cwV 2 hts (lw_V q1675 q1677 qs50 q117 q1678) rfl rfl rfl hd_X14_fightsOf ⟨Nat.le_of_ble_eq_true rfl, Nat.le_of_ble_eq_true rfl⟩) cfX14 (sk_128 hSk) hK hW hR hS rfl hl.1 rfl (Nat.le_of_ble_eq_true rfl) rfl dX14_dips_80 ⟨rfl, rfl⟩ ⟨Nat.zero_le _, Nat.zero_le _⟩ (fun H locs hR hS => ?_)
      refine lv_isub hx hb dX14_dips_83 ?_
      refine lv_istore (lv' := [(6, .int (r6 - r27)), (5, .int r6), (4, .int v4), (3, .int v2), (0, .ref (adr G 128)), (1, .int a1), (2, .int a2)]) hx hb dX14_dips_84 hl (by decide) rfl (fun ls hl => ?_)
      refine lv_iload hx hb dX14_dips_86 (lv_at hl 0 rfl) ?_
      have J98 : ∀ (g28 : GM) (H : Heap) (locs : List Loc) (ls : Array Slot), Rep G sh g28 gl gr n H → va_S (own G) s.heap H locs → lv_has ls 7 [(0, .ref (adr G 128)), (1, .int a1), (2, .int a2), (4, .int v4), (6, .int (r6 - r27))] → j_X14_dips_98 a1 a2 v4 r6 r27 g28 = some go → W p l e rm_X14_dips s m ([.ref (adr G 128), .int a1, .int a2] : List Value).toArray below meth c H locs 0 0 (MQ below (QR G none sh go gl gr n) ([.ref (adr G 128), .int a1, .int a2] : List Value).toArray s rm_X14_dips.cells rm_X14_dips.slots (own G)) (F0 m 98 ls []) := by
        intro g28 H locs ls hR hS hl h
        unfold j_X14_dips_98 at h
        refine lv_aload_n hx hb dX14_dips_98 rfl (lv_at hl 0 rfl) ?_
        refine lv_iload_n hx hb dX14_dips_99 rfl (lv_at hl 1 rfl) ?_
        refine lv_iload hx hb dX14_dips_100 (lv_at hl 4 rfl) ?_
        refine va_mabs hx hb (hml.trans hl.1.symm) hown (hts _ q1717) (hts _ q1718) (hts _ q123) (hts _ q1719) (Nat.le_of_ble_eq_true rfl) (Nat.le_of_ble_eq_true rfl) (Nat.zero_le _) (Nat.zero_le _) dX14_dips_102 ?_
        obtain ⟨g30, e29, h⟩ := obd h
        refine rc_V0 (rest := []) (st1 := []) hF (w_X14_isDeep hSk a1 (iabs (r6 - r27)) e29) (cwV 2 hts (lw_V q1711 q1713 qs54 q117 q1714) rfl rfl rfl hd_X14_isDeep ⟨Nat.le_of_ble_eq_true rfl, Nat.le_of_ble_eq_true rfl⟩) cfX14 (sk_128 hSk) hK hW hR hS rfl hl.1 rfl (Nat.le_of_ble_eq_true rfl) rfl dX14_dips_105 ⟨rfl, rfl⟩ ⟨Nat.zero_le _, Nat.zero_le _⟩ (fun H locs hR hS => ?_)
        exact J108 g30 _ _ _ hR hS (lv_sub hl [0, 1, 2, 3] rfl) h
      refine lv_if_ge (tgt := 98) hx hb dX14_dips_88 (by decide) (fun c31 => ?_) (fun c31 => ?_)
      · replace h := ifp h c31
        exact J98 g _ _ _ hR hS (lv_sub hl [4, 5, 6, 2, 0] rfl) h
      · replace h := ifn h c31
        refine lv_aload_n hx hb dX14_dips_91 rfl (lv_at hl 4 rfl) ?_
        refine lv_iload_n hx hb dX14_dips_92 rfl (lv_at hl 5 rfl) ?_
        refine lv_iconst (v := 1) hx hb dX14_dips_93 ki_1 ?_
        refine lv_iload_n hx hb dX14_dips_94 rfl (lv_at hl 3 rfl) ?_
        obtain ⟨g33, e32, h⟩ := obd h
        refine rc_V0 (rest := []) (st1 := []) hF (w_X14_sets hSk a1 1 v2 e32) (cwV 3 hts (lw_V q1649 q1651 qs46 q117 q1652) rfl rfl rfl hd_X14_sets ⟨Nat.le_of_ble_eq_true rfl, Nat.le_of_ble_eq_true rfl⟩) cfX14 (sk_128 hSk) hK hW hR hS rfl hl.1 rfl (Nat.le_of_ble_eq_true rfl) rfl dX14_dips_95 ⟨rfl, rfl⟩ ⟨Nat.zero_le _, Nat.zero_le _⟩ (fun H locs hR hS => ?_)
        exact J98 g33 _ _ _ hR hS (lv_sub hl [4, 5, 6, 2, 0] rfl) h
    · replace h := ifp h c25
      exact J49  _ _ _ hR hS (lv_sub hl [3, 4, 5, 2, 1, 0] rfl) h
def rm_X14_dip : Room := { frames := 4, cells := 0, slots := 0, locals := 88 }
theorem hd_X14_dip : yX14_dip.cls = "IntentVatsModel" ∧ yX14_dip.cls ≠ "java/lang/invoke/MethodHandle" ∧ yX14_dip.cls ≠ "java/lang/invoke/VarHandle" ∧ (parseMethodDescriptor yX14_dip.desc).map (fun d => d.parameters.length) = some 2 := by decide +kernel
theorem he_X14_dip : yX14_dip.cls ≠ "java/lang/invoke/MethodHandle" ∧ yX14_dip.cls ≠ "java/lang/invoke/VarHandle" ∧ (parseMethodDescriptor yX14_dip.desc).map (fun d => d.parameters.length) = some 2 := hd_X14_dip.2

set_option maxHeartbeats 4000000 in
set_option maxRecDepth 100000 in
theorem w_X14_dip {l : Launch} {G : Gx} {sh : SM} {g : GM} {gl : LM} {gr : RM} {n : Nat} (hSk : Sk sh gr) (a1 : Int32) (a2 : Int32)  {r : Int32} {go : GM} (h : f_X14_dip g a1 a2 = some (r, go)) : MetI l G yX14_dip (ws_ yX14_dip cX14_dip 3 (Option.some Jvm.ClassFile.FieldType.int)) rm_X14_dip [.ref (adr G 128), .int a1, .int a2] sh g gl gr n (some (.int r)) sh go gl gr n := by
  refine MetI.of (by decide) (Nat.le_of_ble_eq_true rfl) ?_
  intro p e s m below meth c ls hx hb hr hml hown hts hlk hnm hW hK hR hS hl
  have hown : s.vm.findClass RX14 = some m.cls := hown
  have hF : CallFix p m c cX14_dip 3 s ([.ref (adr G 128), .int a1, .int a2] : List Value).toArray lw_all RX14 := ⟨hx, hb, hml, hown, hts⟩
  have hl : lv_has ls 3 [(0, .ref (adr G 128)), (1, .int a1), (2, .int a2)] := hl
  unfold f_X14_dip at h
  refine lv_aload_n hx hb dX14_dip_0 rfl (lv_at hl 0 rfl) ?_
  refine lv_iload_n hx hb dX14_dip_1 rfl (lv_at hl 1 rfl) ?_
  obtain ⟨r2, e1, h⟩ := obd h
  refine rc_V0 (rest := []) (st1 := [.int r2]) hF (w_X14_isCloth hSk a1 e1) (cwV 1 hts (lw_V q1657 q1659 qs47 q117 q1660) rfl rfl rfl hd_X14_isCloth ⟨Nat.le_of_ble_eq_true rfl, Nat.le_of_ble_eq_true rfl⟩) cfX14 (sk_128 hSk) hK hW hR hS rfl hl.1 rfl (Nat.le_of_ble_eq_true rfl) rfl dX14_dip_2 ⟨rfl, rfl⟩ ⟨Nat.zero_le _, Nat.zero_le _⟩ (fun H locs hR hS => ?_)
  have J15 : ∀  (H : Heap) (locs : List Loc) (ls : Array Slot), Rep G sh g gl gr n H → va_S (own G) s.heap H locs → lv_has ls 3 [] → j_X14_dip_15 g  = some (r, go) → W p l e rm_X14_dip s m ([.ref (adr G 128), .int a1, .int a2] : List Value).toArray below meth c H locs 0 0 (MQ below (QR G (some (.int r)) sh go gl gr n) ([.ref (adr G 128), .int a1, .int a2] : List Value).toArray s rm_X14_dip.cells rm_X14_dip.slots (own G)) (F0 m 15 ls []) := by
    intro  H locs ls hR hS hl h
    unfold j_X14_dip_15 at h
    refine lv_iconst (v := (-1)) hx hb dX14_dip_15 ki_m1 ?_
    obtain ⟨rfl, rfl⟩ := s2i h
    exact r_iret0 hx hb hr hlk hR hS (Nat.zero_le _) (Nat.zero_le _) dX14_dip_16
  refine lv_if_eq (tgt := 15) hx hb dX14_dip_5 (by decide) (fun c3 => ?_) (fun c3 => ?_)
  · replace h := ifp h c3
    exact J15  _ _ _ hR hS (lv_sub hl [] rfl) h
  · replace h := ifn h c3
    refine lv_iload_n hx hb dX14_dip_8 rfl (lv_at hl 2 rfl) ?_
    obtain ⟨r5, e4, h⟩ := obd h
    refine rc_S0 (rest := []) (st1 := [.int r5]) hF (w_X14_isVat hSk a2 e4) (va_cwS 1 hts (lw_S q1617 q1618 q117 q1619) rfl rfl rfl he_X14_isVat ⟨Nat.le_of_ble_eq_true rfl, Nat.le_of_ble_eq_true rfl⟩) hW hR hS rfl hl.1 rfl (Nat.le_of_ble_eq_true rfl) rfl dX14_dip_9 ⟨rfl, rfl⟩ ⟨Nat.zero_le _, Nat.zero_le _⟩ (fun H locs hR hS => ?_)
    refine lv_if_ne (tgt := 17) hx hb dX14_dip_12 (by decide) (fun c6 => ?_) (fun c6 => ?_)
    · replace h := ifn h c6
      refine lv_aload_n hx hb dX14_dip_17 rfl (lv_at hl 0 rfl) ?_
      refine lv_iload_n hx hb dX14_dip_18 rfl (lv_at hl 1 rfl) ?_
      refine lv_iload_n hx hb dX14_dip_19 rfl (lv_at hl 2 rfl) ?_
      obtain ⟨g8, e7, h⟩ := obd h
      refine rc_V0 (rest := []) (st1 := []) hF (w_X14_dips hSk a1 a2 e7) (cwV 2 hts (lw_V q1707 q1709 qs53 q117 q1710) rfl rfl rfl hd_X14_dips ⟨Nat.le_of_ble_eq_true rfl, Nat.le_of_ble_eq_true rfl⟩) cfX14 (sk_128 hSk) hK hW hR hS rfl hl.1 rfl (Nat.le_of_ble_eq_true rfl) rfl dX14_dip_20 ⟨rfl, rfl⟩ ⟨Nat.zero_le _, Nat.zero_le _⟩ (fun H locs hR hS => ?_)
      refine lv_iconst (v := 1) hx hb dX14_dip_23 ki_1 ?_
      refine lv_aload_n hx hb dX14_dip_24 rfl (lv_at hl 0 rfl) ?_
      refine lv_iload_n hx hb dX14_dip_25 rfl (lv_at hl 1 rfl) ?_
      refine lv_iconst (v := 1) hx hb dX14_dip_26 ki_1 ?_
      obtain ⟨r10, e9, h⟩ := obd h
      refine rc_V0 (rest := [.int 1]) (st1 := [.int r10, .int 1]) hF (w_X14_its hSk a1 1 e9) (cwV 2 hts (lw_V q1662 q1664 qs48 q117 q1665) rfl rfl rfl hd_X14_its ⟨Nat.le_of_ble_eq_true rfl, Nat.le_of_ble_eq_true rfl⟩) cfX14 (sk_128 hSk) hK hW hR hS rfl hl.1 rfl (Nat.le_of_ble_eq_true rfl) rfl dX14_dip_27 ⟨rfl, rfl⟩ ⟨Nat.zero_le _, Nat.zero_le _⟩ (fun H locs hR hS => ?_)
      refine lv_iadd hx hb dX14_dip_30 ?_
      obtain ⟨rfl, rfl⟩ := s2i h
      exact r_iret0 hx hb hr hlk hR hS (Nat.zero_le _) (Nat.zero_le _) dX14_dip_31
    · replace h := ifp h c6
      exact J15  _ _ _ hR hS (lv_sub hl [] rfl) h
def rm_X14_aDay : Room := { frames := 4, cells := 0, slots := 0, locals := 88 }
theorem hd_X14_aDay : yX14_aDay.cls = "IntentVatsModel" ∧ yX14_aDay.cls ≠ "java/lang/invoke/MethodHandle" ∧ yX14_aDay.cls ≠ "java/lang/invoke/VarHandle" ∧ (parseMethodDescriptor yX14_aDay.desc).map (fun d => d.parameters.length) = some 0 := by decide +kernel
theorem he_X14_aDay : yX14_aDay.cls ≠ "java/lang/invoke/MethodHandle" ∧ yX14_aDay.cls ≠ "java/lang/invoke/VarHandle" ∧ (parseMethodDescriptor yX14_aDay.desc).map (fun d => d.parameters.length) = some 0 := hd_X14_aDay.2

set_option maxHeartbeats 4000000 in
set_option maxRecDepth 100000 in
theorem w_X14_aDay {l : Launch} {G : Gx} {sh : SM} {g : GM} {gl : LM} {gr : RM} {n : Nat} (hSk : Sk sh gr)   {go : GM} (h : f_X14_aDay g  = some go) : MetI l G yX14_aDay (ws_ yX14_aDay cX14_aDay 3 (Option.none : Option Jvm.ClassFile.FieldType)) rm_X14_aDay [.ref (adr G 128)] sh g gl gr n none sh go gl gr n := by
  refine MetI.of (by decide) (Nat.le_of_ble_eq_true rfl) ?_
  intro p e s m below meth c ls hx hb hr hml hown hts hlk hnm hW hK hR hS hl
  have hown : s.vm.findClass RX14 = some m.cls := hown
  have hF : CallFix p m c cX14_aDay 3 s ([.ref (adr G 128)] : List Value).toArray lw_all RX14 := ⟨hx, hb, hml, hown, hts⟩
  have hl : lv_has ls 3 [(0, .ref (adr G 128))] := hl
  unfold f_X14_aDay at h
  refine lv_aload_n hx hb dX14_aDay_0 rfl (lv_at hl 0 rfl) ?_
  refine r_getr hx hb hts cfX14 hown hK hR (sk_128 hSk) 2 (by decide) rfl (sr_128_2 hSk) (hts _ q1523) (fun _ h => h) dX14_aDay_1 ?_
  refine lv_bipush (v := 23) hx hb dX14_aDay_4 kb_23 ?_
  refine lv_aload_n hx hb dX14_aDay_6 rfl (lv_at hl 0 rfl) ?_
  refine r_getr hx hb hts cfX14 hown hK hR (sk_128 hSk) 2 (by decide) rfl (sr_128_2 hSk) (hts _ q1523) (fun _ h => h) dX14_aDay_7 ?_
  refine lv_iconst (v := 4) hx hb dX14_aDay_10 ki_4 ?_
  obtain ⟨v2, e1, h⟩ := obd h
  refine r_ldi hx hb hK hR (sk_131 hSk) e1 dX14_aDay_11 ?_
  refine lv_bipush (v := 6) hx hb dX14_aDay_12 kb_6 ?_
  refine lv_irem hx hb dX14_aDay_14 (by decide) ?_
  refine lv_iadd hx hb dX14_aDay_15 ?_
  obtain ⟨v4, e3, h⟩ := obd h
  refine r_ldi hx hb hK hR (sk_131 hSk) e3 dX14_aDay_16 ?_
  refine lv_istore_n (lv' := [(1, .int v4), (0, .ref (adr G 128))]) hx hb dX14_aDay_17 rfl hl (by decide) rfl (fun ls hl => ?_)
  refine lv_iconst (v := 0) hx hb dX14_aDay_18 ki_0 ?_
  refine lv_istore_n (lv' := [(2, .int 0), (1, .int v4), (0, .ref (adr G 128))]) hx hb dX14_aDay_19 rfl hl (by decide) rfl (fun ls hl => ?_)
  have J20 : ∀ (k20 : Nat) (x5 : Int32) (g6 : GM) (H : Heap) (locs : List Loc) (ls : Array Slot), Rep G sh g6 gl gr n H → va_S (own G) s.heap H locs → lv_has ls 3 [(0, .ref (adr G 128)), (1, .int v4), (2, .int x5)] → l_X14_aDay_20 v4 k20 x5 g6 = some go → W p l e rm_X14_aDay s m ([.ref (adr G 128)] : List Value).toArray below meth c H locs 0 0 (MQ below (QR G none sh go gl gr n) ([.ref (adr G 128)] : List Value).toArray s rm_X14_aDay.cells rm_X14_aDay.slots (own G)) (F0 m 20 ls []) := by
    intro k20
    induction k20 with
    | zero => intro _ _ _ _ _ _ _ _; exact nofun
    | succ k20 ih20 =>
      intro x5 g6 H locs ls hR hS hl h
      unfold l_X14_aDay_20 b_X14_aDay_20 at h
      refine lv_iload_n hx hb dX14_aDay_20 rfl (lv_at hl 1 rfl) ?_
      have J56 : ∀  (H : Heap) (locs : List Loc) (ls : Array Slot), Rep G sh g6 gl gr n H → va_S (own G) s.heap H locs → lv_has ls 3 [(0, .ref (adr G 128))] → j_X14_aDay_56 g6  = some go → W p l e rm_X14_aDay s m ([.ref (adr G 128)] : List Value).toArray below meth c H locs 0 0 (MQ below (QR G none sh go gl gr n) ([.ref (adr G 128)] : List Value).toArray s rm_X14_aDay.cells rm_X14_aDay.slots (own G)) (F0 m 56 ls []) := by
        intro  H locs ls hR hS hl h
        unfold j_X14_aDay_56 at h
        refine lv_iconst (v := 0) hx hb dX14_aDay_56 ki_0 ?_
        refine lv_istore_n (lv' := [(2, .int 0), (0, .ref (adr G 128))]) hx hb dX14_aDay_57 rfl hl (by decide) rfl (fun ls hl => ?_)
        have J58 : ∀ (k58 : Nat) (x7 : Int32) (g8 : GM) (H : Heap) (locs : List Loc) (ls : Array Slot), Rep G sh g8 gl gr n H → va_S (own G) s.heap H locs → lv_has ls 3 [(0, .ref (adr G 128)), (2, .int x7)] → l_X14_aDay_58  k58 x7 g8 = some go → W p l e rm_X14_aDay s m ([.ref (adr G 128)] : List Value).toArray below meth c H locs 0 0 (MQ below (QR G none sh go gl gr n) ([.ref (adr G 128)] : List Value).toArray s rm_X14_aDay.cells rm_X14_aDay.slots (own G)) (F0 m 58 ls []) := by
          intro k58
          induction k58 with
          | zero => intro _ _ _ _ _ _ _ _; exact nofun
          | succ k58 ih58 =>
            intro x7 g8 H locs ls hR hS hl h
            unfold l_X14_aDay_58 b_X14_aDay_58 at h
            refine lv_iload_n hx hb dX14_aDay_58 rfl (lv_at hl 1 rfl) ?_
            refine lv_aload_n hx hb dX14_aDay_59 rfl (lv_at hl 0 rfl) ?_
            refine r_getr hx hb hts cfX14 hown hK hR (sk_128 hSk) 2 (by decide) rfl (sr_128_2 hSk) (hts _ q1523) (fun _ h => h) dX14_aDay_60 ?_
            refine lv_bipush (v := 6) hx hb dX14_aDay_63 kb_6 ?_
            obtain ⟨v10, e9, h⟩ := obd h
            refine r_ldi hx hb hK hR (sk_131 hSk) e9 dX14_aDay_65 ?_
            refine lv_icmp_ge (tgt := 111) hx hb dX14_aDay_66 (by decide) (fun c11 => ?_) (fun c11 => ?_)
            · replace h := ifp h c11
              refine lv_iconst (v := 0) hx hb dX14_aDay_111 ki_0 ?_
              refine lv_istore_n (lv' := [(2, .int 0), (0, .ref (adr G 128))]) hx hb dX14_aDay_112 rfl hl (by decide) rfl (fun ls hl => ?_)
              have J113 : ∀ (k113 : Nat) (x12 : Int32) (g13 : GM) (H : Heap) (locs : List Loc) (ls : Array Slot), Rep G sh g13 gl gr n H → va_S (own G) s.heap H locs → lv_has ls 3 [(0, .ref (adr G 128)), (2, .int x12)] → l_X14_aDay_113  k113 x12 g13 = some go → W p l e rm_X14_aDay s m ([.ref (adr G 128)] : List Value).toArray below meth c H locs 0 0 (MQ below (QR G none sh go gl gr n) ([.ref (adr G 128)] : List Value).toArray s rm_X14_aDay.cells rm_X14_aDay.slots (own G)) (F0 m 113 ls []) := by
                intro k113
                induction k113 with
                | zero => intro _ _ _ _ _ _ _ _; exact nofun
                | succ k113 ih113 =>
                  intro x12 g13 H locs ls hR hS hl h
                  unfold l_X14_aDay_113 b_X14_aDay_113 at h
                  refine lv_iload_n hx hb dX14_aDay_113 rfl (lv_at hl 1 rfl) ?_
                  refine lv_bipush (v := 8) hx hb dX14_aDay_114 kb_8 ?_
                  refine lv_icmp_ge (tgt := 150) hx hb dX14_aDay_116 (by decide) (fun c14 => ?_) (fun c14 => ?_)
                  · replace h := ifp h c14
                    refine lv_aload_n hx hb dX14_aDay_150 rfl (lv_at hl 0 rfl) ?_
                    refine r_getr hx hb hts cfX14 hown hK hR (sk_128 hSk) 2 (by decide) rfl (sr_128_2 hSk) (hts _ q1523) (fun _ h => h) dX14_aDay_151 ?_
                    refine lv_iconst (v := 4) hx hb dX14_aDay_154 ki_4 ?_
                    refine lv_dup2_11 hx hb dX14_aDay_155 rfl rfl ?_
                    obtain ⟨v16, e15, h⟩ := obd h
                    refine r_ldi hx hb hK hR (sk_131 hSk) e15 dX14_aDay_156 ?_
                    refine lv_iconst (v := 1) hx hb dX14_aDay_157 ki_1 ?_
                    refine lv_iadd hx hb dX14_aDay_158 ?_
                    obtain ⟨g18, e17, h⟩ := obd h
                    refine r_sti hx hb hK hR hS (sk_131 hSk) e17 dX14_aDay_159 (fun H locs hR hS => ?_)
                    obtain rfl := s1i h
                    exact r_vret0 hx hb hr hlk hR hS (Nat.zero_le _) (Nat.zero_le _) dX14_aDay_160
                  · replace h := ifn h c14
                    refine lv_aload_n hx hb dX14_aDay_119 rfl (lv_at hl 0 rfl) ?_
                    refine r_getr hx hb hts cfX14 hown hK hR (sk_128 hSk) 2 (by decide) rfl (sr_128_2 hSk) (hts _ q1523) (fun _ h => h) dX14_aDay_120 ?_
                    refine lv_bipush (v := 15) hx hb dX14_aDay_123 kb_15 ?_
                    refine lv_iload_n hx hb dX14_aDay_125 rfl (lv_at hl 1 rfl) ?_
                    refine lv_iadd hx hb dX14_aDay_126 ?_
                    refine lv_bipush (v := 9) hx hb dX14_aDay_127 kb_9 ?_
                    refine lv_aload_n hx hb dX14_aDay_129 rfl (lv_at hl 0 rfl) ?_
                    refine r_getr hx hb hts cfX14 hown hK hR (sk_128 hSk) 2 (by decide) rfl (sr_128_2 hSk) (hts _ q1523) (fun _ h => h) dX14_aDay_130 ?_
                    refine lv_bipush (v := 15) hx hb dX14_aDay_133 kb_15 ?_
                    refine lv_iload_n hx hb dX14_aDay_135 rfl (lv_at hl 1 rfl) ?_
                    refine lv_iadd hx hb dX14_aDay_136 ?_
                    obtain ⟨v20, e19, h⟩ := obd h
                    refine r_ldi hx hb hK hR (sk_131 hSk) e19 dX14_aDay_137 ?_
                    refine lv_iconst (v := 1) hx hb dX14_aDay_138 ki_1 ?_
                    refine lv_iadd hx hb dX14_aDay_139 ?_
                    refine va_mmin hx hb (hml.trans hl.1.symm) hown (hts _ q1715) (hts _ q834) (hts _ q123) (hts _ q835) (Nat.le_of_ble_eq_true rfl) (Nat.le_of_ble_eq_true rfl) (Nat.zero_le _) (Nat.zero_le _) dX14_aDay_140 ?_
                    obtain ⟨g22, e21, h⟩ := obd h
                    refine r_sti hx hb hK hR hS (sk_131 hSk) e21 dX14_aDay_143 (fun H locs hR hS => ?_)
                    refine lv_iinc (v := x12 + 1) (lv' := [(2, .int (x12 + 1)), (0, .ref (adr G 128))]) hx hb dX14_aDay_144 hl (k := 1) rfl rfl (by decide) rfl (fun ls hl => ?_)
                    refine lv_goto (tgt := 113) hx hb dX14_aDay_147 (by decide) ?_
                    exact ih113 (x12 + 1) g22 _ _ _ hR hS (lv_sub hl [1, 0] rfl) h
              exact J113 fuel 0 g8 _ _ _ hR hS (lv_sub hl [1, 0] rfl) h
            · replace h := ifn h c11
              refine lv_aload_n hx hb dX14_aDay_69 rfl (lv_at hl 0 rfl) ?_
              refine lv_iload_n hx hb dX14_aDay_70 rfl (lv_at hl 1 rfl) ?_
              refine lv_iconst (v := 3) hx hb dX14_aDay_71 ki_3 ?_
              obtain ⟨r24, e23, h⟩ := obd h
              refine rc_V0 (rest := []) (st1 := [.int r24]) hF (w_X14_its hSk x7 3 e23) (cwV 2 hts (lw_V q1662 q1664 qs48 q117 q1665) rfl rfl rfl hd_X14_its ⟨Nat.le_of_ble_eq_true rfl, Nat.le_of_ble_eq_true rfl⟩) cfX14 (sk_128 hSk) hK hW hR hS rfl hl.1 rfl (Nat.le_of_ble_eq_true rfl) rfl dX14_aDay_72 ⟨rfl, rfl⟩ ⟨Nat.zero_le _, Nat.zero_le _⟩ (fun H locs hR hS => ?_)
              refine lv_iconst (v := 1) hx hb dX14_aDay_75 ki_1 ?_
              have J105 : ∀ (g25 : GM) (H : Heap) (locs : List Loc) (ls : Array Slot), Rep G sh g25 gl gr n H → va_S (own G) s.heap H locs → lv_has ls 3 [(0, .ref (adr G 128)), (2, .int x7)] → j_X14_aDay_105 x7 (l_X14_aDay_58  k58) g25 = some go → W p l e rm_X14_aDay s m ([.ref (adr G 128)] : List Value).toArray below meth c H locs 0 0 (MQ below (QR G none sh go gl gr n) ([.ref (adr G 128)] : List Value).toArray s rm_X14_aDay.cells rm_X14_aDay.slots (own G)) (F0 m 105 ls []) := by
                intro g25 H locs ls hR hS hl h
                unfold j_X14_aDay_105 at h
                refine lv_iinc (v := x7 + 1) (lv' := [(2, .int (x7 + 1)), (0, .ref (adr G 128))]) hx hb dX14_aDay_105 hl (k := 1) rfl rfl (by decide) rfl (fun ls hl => ?_)
                refine lv_goto (tgt := 58) hx hb dX14_aDay_108 (by decide) ?_
                exact ih58 (x7 + 1) g25 _ _ _ hR hS (lv_sub hl [1, 0] rfl) h
              refine lv_icmp_ne (tgt := 105) hx hb dX14_aDay_76 (by decide) (fun c26 => ?_) (fun c26 => ?_)
              · replace h := ifn h c26
                exact J105 g8 _ _ _ hR hS (lv_sub hl [0, 1] rfl) h
              · replace h := ifp h c26
                refine lv_aload_n hx hb dX14_aDay_79 rfl (lv_at hl 0 rfl) ?_
                refine lv_iload_n hx hb dX14_aDay_80 rfl (lv_at hl 1 rfl) ?_
                refine lv_iconst (v := 1) hx hb dX14_aDay_81 ki_1 ?_
                obtain ⟨r28, e27, h⟩ := obd h
                refine rc_V0 (rest := []) (st1 := [.int r28]) hF (w_X14_its hSk x7 1 e27) (cwV 2 hts (lw_V q1662 q1664 qs48 q117 q1665) rfl rfl rfl hd_X14_its ⟨Nat.le_of_ble_eq_true rfl, Nat.le_of_ble_eq_true rfl⟩) cfX14 (sk_128 hSk) hK hW hR hS rfl hl.1 rfl (Nat.le_of_ble_eq_true rfl) rfl dX14_aDay_82 ⟨rfl, rfl⟩ ⟨Nat.zero_le _, Nat.zero_le _⟩ (fun H locs hR hS => ?_)
                refine lv_if_lt (tgt := 105) hx hb dX14_aDay_85 (by decide) (fun c29 => ?_) (fun c29 => ?_)
                · replace h := ifp h c29
                  exact J105 g8 _ _ _ hR hS (lv_sub hl [0, 1] rfl) h
                · replace h := ifn h c29
                  refine lv_aload_n hx hb dX14_aDay_88 rfl (lv_at hl 0 rfl) ?_
                  refine lv_iload_n hx hb dX14_aDay_89 rfl (lv_at hl 1 rfl) ?_
                  refine lv_aload_n hx hb dX14_aDay_90 rfl (lv_at hl 0 rfl) ?_
                  refine lv_iload_n hx hb dX14_aDay_91 rfl (lv_at hl 1 rfl) ?_
                  refine lv_iconst (v := 2) hx hb dX14_aDay_92 ki_2 ?_
                  obtain ⟨r31, e30, h⟩ := obd h
                  refine rc_V0 (rest := [.int x7, .ref (adr G 128)]) (st1 := [.int r31, .int x7, .ref (adr G 128)]) hF (w_X14_its hSk x7 2 e30) (cwV 2 hts (lw_V q1662 q1664 qs48 q117 q1665) rfl rfl rfl hd_X14_its ⟨Nat.le_of_ble_eq_true rfl, Nat.le_of_ble_eq_true rfl⟩) cfX14 (sk_128 hSk) hK hW hR hS rfl hl.1 rfl (Nat.le_of_ble_eq_true rfl) rfl dX14_aDay_93 ⟨rfl, rfl⟩ ⟨Nat.zero_le _, Nat.zero_le _⟩ (fun H locs hR hS => ?_)
                  refine lv_aload_n hx hb dX14_aDay_96 rfl (lv_at hl 0 rfl) ?_
                  refine lv_iload_n hx hb dX14_aDay_97 rfl (lv_at hl 1 rfl) ?_
                  obtain ⟨r33, e32, h⟩ := obd h
                  refine rc_V0 (rest := [.int r31, .int x7, .ref (adr G 128)]) (st1 := [.int r33, .int r31, .int x7, .ref (adr G 128)]) hF (w_X14_fadesOf hSk x7 e32) (cwV 1 hts (lw_V q1679 q1681 qs51 q117 q1682) rfl rfl rfl hd_X14_fadesOf ⟨Nat.le_of_ble_eq_true rfl, Nat.le_of_ble_eq_true rfl⟩) cfX14 (sk_128 hSk) hK hW hR hS rfl hl.1 rfl (Nat.le_of_ble_eq_true rfl) rfl dX14_aDay_98 ⟨rfl, rfl⟩ ⟨Nat.zero_le _, Nat.zero_le _⟩ (fun H locs hR hS => ?_)
                  refine lv_isub hx hb dX14_aDay_101 ?_
                  obtain ⟨g35, e34, h⟩ := obd h
                  refine rc_V0 (rest := []) (st1 := []) hF (w_X14_isDeep hSk x7 (r31 - r33) e34) (cwV 2 hts (lw_V q1711 q1713 qs54 q117 q1714) rfl rfl rfl hd_X14_isDeep ⟨Nat.le_of_ble_eq_true rfl, Nat.le_of_ble_eq_true rfl⟩) cfX14 (sk_128 hSk) hK hW hR hS rfl hl.1 rfl (Nat.le_of_ble_eq_true rfl) rfl dX14_aDay_102 ⟨rfl, rfl⟩ ⟨Nat.zero_le _, Nat.zero_le _⟩ (fun H locs hR hS => ?_)
                  exact J105 g35 _ _ _ hR hS (lv_sub hl [0, 1] rfl) h
        exact J58 fuel 0 g6 _ _ _ hR hS (lv_sub hl [1, 0] rfl) h
      refine lv_if_lt (tgt := 56) hx hb dX14_aDay_21 (by decide) (fun c36 => ?_) (fun c36 => ?_)
      · replace h := ifp h c36
        exact J56  _ _ _ hR hS (lv_sub hl [0] rfl) h
      · replace h := ifn h c36
        refine lv_iload_n hx hb dX14_aDay_24 rfl (lv_at hl 2 rfl) ?_
        refine lv_aload_n hx hb dX14_aDay_25 rfl (lv_at hl 0 rfl) ?_
        refine r_getr hx hb hts cfX14 hown hK hR (sk_128 hSk) 2 (by decide) rfl (sr_128_2 hSk) (hts _ q1523) (fun _ h => h) dX14_aDay_26 ?_
        refine lv_bipush (v := 6) hx hb dX14_aDay_29 kb_6 ?_
        obtain ⟨v38, e37, h⟩ := obd h
        refine r_ldi hx hb hK hR (sk_131 hSk) e37 dX14_aDay_31 ?_
        refine lv_icmp_ge (tgt := 56) hx hb dX14_aDay_32 (by decide) (fun c39 => ?_) (fun c39 => ?_)
        · replace h := ifp h c39
          exact J56  _ _ _ hR hS (lv_sub hl [0] rfl) h
        · replace h := ifn h c39
          refine lv_aload_n hx hb dX14_aDay_35 rfl (lv_at hl 0 rfl) ?_
          refine lv_iload_n hx hb dX14_aDay_36 rfl (lv_at hl 2 rfl) ?_
          refine lv_iconst (v := 3) hx hb dX14_aDay_37 ki_3 ?_
          obtain ⟨r41, e40, h⟩ := obd h
          refine rc_V0 (rest := []) (st1 := [.int r41]) hF (w_X14_its hSk x5 3 e40) (cwV 2 hts (lw_V q1662 q1664 qs48 q117 q1665) rfl rfl rfl hd_X14_its ⟨Nat.le_of_ble_eq_true rfl, Nat.le_of_ble_eq_true rfl⟩) cfX14 (sk_128 hSk) hK hW hR hS rfl hl.1 rfl (Nat.le_of_ble_eq_true rfl) rfl dX14_aDay_38 ⟨rfl, rfl⟩ ⟨Nat.zero_le _, Nat.zero_le _⟩ (fun H locs hR hS => ?_)
          have J50 : ∀ (g42 : GM) (H : Heap) (locs : List Loc) (ls : Array Slot), Rep G sh g42 gl gr n H → va_S (own G) s.heap H locs → lv_has ls 3 [(0, .ref (adr G 128)), (1, .int v4), (2, .int x5)] → j_X14_aDay_50 x5 (l_X14_aDay_20 v4 k20) g42 = some go → W p l e rm_X14_aDay s m ([.ref (adr G 128)] : List Value).toArray below meth c H locs 0 0 (MQ below (QR G none sh go gl gr n) ([.ref (adr G 128)] : List Value).toArray s rm_X14_aDay.cells rm_X14_aDay.slots (own G)) (F0 m 50 ls []) := by
            intro g42 H locs ls hR hS hl h
            unfold j_X14_aDay_50 at h
            refine lv_iinc (v := x5 + 1) (lv' := [(2, .int (x5 + 1)), (0, .ref (adr G 128)), (1, .int v4)]) hx hb dX14_aDay_50 hl (k := 2) rfl rfl (by decide) rfl (fun ls hl => ?_)
            refine lv_goto (tgt := 20) hx hb dX14_aDay_53 (by decide) ?_
            exact ih20 (x5 + 1) g42 _ _ _ hR hS (lv_sub hl [1, 2, 0] rfl) h
          refine lv_if_ne (tgt := 50) hx hb dX14_aDay_41 (by decide) (fun c43 => ?_) (fun c43 => ?_)
          · replace h := ifn h c43
            exact J50 g6 _ _ _ hR hS (lv_sub hl [0, 1, 2] rfl) h
          · replace h := ifp h c43
            refine lv_aload_n hx hb dX14_aDay_44 rfl (lv_at hl 0 rfl) ?_
            refine lv_iload_n hx hb dX14_aDay_45 rfl (lv_at hl 2 rfl) ?_
            refine lv_iload_n hx hb dX14_aDay_46 rfl (lv_at hl 1 rfl) ?_
            obtain ⟨g45, e44, h⟩ := obd h
            refine rc_V0 (rest := []) (st1 := []) hF (w_X14_dips hSk x5 v4 e44) (cwV 2 hts (lw_V q1707 q1709 qs53 q117 q1710) rfl rfl rfl hd_X14_dips ⟨Nat.le_of_ble_eq_true rfl, Nat.le_of_ble_eq_true rfl⟩) cfX14 (sk_128 hSk) hK hW hR hS rfl hl.1 rfl (Nat.le_of_ble_eq_true rfl) rfl dX14_aDay_47 ⟨rfl, rfl⟩ ⟨Nat.zero_le _, Nat.zero_le _⟩ (fun H locs hR hS => ?_)
            exact J50 g45 _ _ _ hR hS (lv_sub hl [0, 1, 2] rfl) h
  exact J20 fuel 0 g _ _ _ hR hS (lv_sub hl [2, 1, 0] rfl) h
def rm_X14_goes : Room := { frames := 5, cells := 0, slots := 0, locals := 110 }
theorem hd_X14_goes : yX14_goes.cls = "IntentVatsModel" ∧ yX14_goes.cls ≠ "java/lang/invoke/MethodHandle" ∧ yX14_goes.cls ≠ "java/lang/invoke/VarHandle" ∧ (parseMethodDescriptor yX14_goes.desc).map (fun d => d.parameters.length) = some 1 := by decide +kernel
theorem he_X14_goes : yX14_goes.cls ≠ "java/lang/invoke/MethodHandle" ∧ yX14_goes.cls ≠ "java/lang/invoke/VarHandle" ∧ (parseMethodDescriptor yX14_goes.desc).map (fun d => d.parameters.length) = some 1 := hd_X14_goes.2

set_option maxHeartbeats 4000000 in
set_option maxRecDepth 100000 in
theorem w_X14_goes {l : Launch} {G : Gx} {sh : SM} {g : GM} {gl : LM} {gr : RM} {n : Nat} (hSk : Sk sh gr) (a1 : Int32)  {go : GM} (h : f_X14_goes g a1 = some go) : MetI l G yX14_goes (ws_ yX14_goes cX14_goes 3 (Option.none : Option Jvm.ClassFile.FieldType)) rm_X14_goes [.ref (adr G 128), .int a1] sh g gl gr n none sh go gl gr n := by
  refine MetI.of (by decide) (Nat.le_of_ble_eq_true rfl) ?_
  intro p e s m below meth c ls hx hb hr hml hown hts hlk hnm hW hK hR hS hl
  have hown : s.vm.findClass RX14 = some m.cls := hown
  have hF : CallFix p m c cX14_goes 3 s ([.ref (adr G 128), .int a1] : List Value).toArray lw_all RX14 := ⟨hx, hb, hml, hown, hts⟩
  have hl : lv_has ls 3 [(0, .ref (adr G 128)), (1, .int a1)] := hl
  unfold f_X14_goes at h
  refine lv_iconst (v := 0) hx hb dX14_goes_0 ki_0 ?_
  refine lv_istore_n (lv' := [(2, .int 0), (0, .ref (adr G 128)), (1, .int a1)]) hx hb dX14_goes_1 rfl hl (by decide) rfl (fun ls hl => ?_)
  have J2 : ∀ (k2 : Nat) (x1 : Int32) (g2 : GM) (H : Heap) (locs : List Loc) (ls : Array Slot), Rep G sh g2 gl gr n H → va_S (own G) s.heap H locs → lv_has ls 3 [(0, .ref (adr G 128)), (1, .int a1), (2, .int x1)] → l_X14_goes_2 a1 k2 x1 g2 = some go → W p l e rm_X14_goes s m ([.ref (adr G 128), .int a1] : List Value).toArray below meth c H locs 0 0 (MQ below (QR G none sh go gl gr n) ([.ref (adr G 128), .int a1] : List Value).toArray s rm_X14_goes.cells rm_X14_goes.slots (own G)) (F0 m 2 ls []) := by
    intro k2
    induction k2 with
    | zero => intro _ _ _ _ _ _ _ _; exact nofun
    | succ k2 ih2 =>
      intro x1 g2 H locs ls hR hS hl h
      unfold l_X14_goes_2 b_X14_goes_2 at h
      refine lv_iload_n hx hb dX14_goes_2 rfl (lv_at hl 2 rfl) ?_
      refine lv_iload_n hx hb dX14_goes_3 rfl (lv_at hl 1 rfl) ?_
      refine lv_icmp_ge (tgt := 17) hx hb dX14_goes_4 (by decide) (fun c3 => ?_) (fun c3 => ?_)
      · replace h := ifp h c3
        obtain rfl := s1i h
        exact r_vret0 hx hb hr hlk hR hS (Nat.zero_le _) (Nat.zero_le _) dX14_goes_17
      · replace h := ifn h c3
        refine lv_aload_n hx hb dX14_goes_7 rfl (lv_at hl 0 rfl) ?_
        obtain ⟨g5, e4, h⟩ := obd h
        refine rc_V0 (rest := []) (st1 := []) hF (w_X14_aDay hSk e4) (cwV 0 hts (lw_V q1729 q1731 qs56 q117 q1732) rfl rfl rfl hd_X14_aDay ⟨Nat.le_of_ble_eq_true rfl, Nat.le_of_ble_eq_true rfl⟩) cfX14 (sk_128 hSk) hK hW hR hS rfl hl.1 rfl (Nat.le_of_ble_eq_true rfl) rfl dX14_goes_8 ⟨rfl, rfl⟩ ⟨Nat.zero_le _, Nat.zero_le _⟩ (fun H locs hR hS => ?_)
        refine lv_iinc (v := x1 + 1) (lv' := [(2, .int (x1 + 1)), (0, .ref (adr G 128)), (1, .int a1)]) hx hb dX14_goes_11 hl (k := 2) rfl rfl (by decide) rfl (fun ls hl => ?_)
        refine lv_goto (tgt := 2) hx hb dX14_goes_14 (by decide) ?_
        exact ih2 (x1 + 1) g5 _ _ _ hR hS (lv_sub hl [1, 2, 0] rfl) h
  exact J2 fuel 0 g _ _ _ hR hS (lv_sub hl [1, 2, 0] rfl) h
def rm_X14_depths : Room := { frames := 2, cells := 0, slots := 0, locals := 34 }
theorem hd_X14_depths : yX14_depths.cls = "IntentVatsModel" ∧ yX14_depths.cls ≠ "java/lang/invoke/MethodHandle" ∧ yX14_depths.cls ≠ "java/lang/invoke/VarHandle" ∧ (parseMethodDescriptor yX14_depths.desc).map (fun d => d.parameters.length) = some 0 := by decide +kernel
theorem he_X14_depths : yX14_depths.cls ≠ "java/lang/invoke/MethodHandle" ∧ yX14_depths.cls ≠ "java/lang/invoke/VarHandle" ∧ (parseMethodDescriptor yX14_depths.desc).map (fun d => d.parameters.length) = some 0 := hd_X14_depths.2

set_option maxHeartbeats 4000000 in
set_option maxRecDepth 100000 in
theorem w_X14_depths {l : Launch} {G : Gx} {sh : SM} {g : GM} {gl : LM} {gr : RM} {n : Nat} (hSk : Sk sh gr)   {r : Int32} (h : f_X14_depths g  = some r) : MetI l G yX14_depths (ws_ yX14_depths cX14_depths 3 (Option.some Jvm.ClassFile.FieldType.int)) rm_X14_depths [.ref (adr G 128)] sh g gl gr n (some (.int r)) sh g gl gr n := by
  refine MetI.of (by decide) (Nat.le_of_ble_eq_true rfl) ?_
  intro p e s m below meth c ls hx hb hr hml hown hts hlk hnm hW hK hR hS hl
  have hown : s.vm.findClass RX14 = some m.cls := hown
  have hF : CallFix p m c cX14_depths 3 s ([.ref (adr G 128)] : List Value).toArray lw_all RX14 := ⟨hx, hb, hml, hown, hts⟩
  have hl : lv_has ls 3 [(0, .ref (adr G 128))] := hl
  unfold f_X14_depths at h
  refine lv_iconst (v := 0) hx hb dX14_depths_0 ki_0 ?_
  refine lv_istore_n (lv' := [(1, .int 0), (0, .ref (adr G 128))]) hx hb dX14_depths_1 rfl hl (by decide) rfl (fun ls hl => ?_)
  refine lv_iconst (v := 0) hx hb dX14_depths_2 ki_0 ?_
  refine lv_istore_n (lv' := [(2, .int 0), (1, .int 0), (0, .ref (adr G 128))]) hx hb dX14_depths_3 rfl hl (by decide) rfl (fun ls hl => ?_)
  have J4 : ∀ (k4 : Nat) (x1 : Int32) (x2 : Int32) (H : Heap) (locs : List Loc) (ls : Array Slot), Rep G sh g gl gr n H → va_S (own G) s.heap H locs → lv_has ls 3 [(0, .ref (adr G 128)), (1, .int x1), (2, .int x2)] → l_X14_depths_4 g k4 x1 x2 = some r → W p l e rm_X14_depths s m ([.ref (adr G 128)] : List Value).toArray below meth c H locs 0 0 (MQ below (QR G (some (.int r)) sh g gl gr n) ([.ref (adr G 128)] : List Value).toArray s rm_X14_depths.cells rm_X14_depths.slots (own G)) (F0 m 4 ls []) := by
    intro k4
    induction k4 with
    | zero => intro _ _ _ _ _ _ _ _; exact nofun
    | succ k4 ih4 =>
      intro x1 x2 H locs ls hR hS hl h
      unfold l_X14_depths_4 b_X14_depths_4 at h
      refine lv_iload_n hx hb dX14_depths_4 rfl (lv_at hl 2 rfl) ?_
      refine lv_aload_n hx hb dX14_depths_5 rfl (lv_at hl 0 rfl) ?_
      refine r_getr hx hb hts cfX14 hown hK hR (sk_128 hSk) 2 (by decide) rfl (sr_128_2 hSk) (hts _ q1523) (fun _ h => h) dX14_depths_6 ?_
      refine lv_bipush (v := 6) hx hb dX14_depths_9 kb_6 ?_
      obtain ⟨v4, e3, h⟩ := obd h
      refine r_ldi hx hb hK hR (sk_131 hSk) e3 dX14_depths_11 ?_
      refine lv_icmp_ge (tgt := 30) hx hb dX14_depths_12 (by decide) (fun c5 => ?_) (fun c5 => ?_)
      · replace h := ifp h c5
        refine lv_iload_n hx hb dX14_depths_30 rfl (lv_at hl 1 rfl) ?_
        obtain rfl := s1i h
        exact r_iret0 hx hb hr hlk hR hS (Nat.zero_le _) (Nat.zero_le _) dX14_depths_31
      · replace h := ifn h c5
        refine lv_iload_n hx hb dX14_depths_15 rfl (lv_at hl 1 rfl) ?_
        refine lv_aload_n hx hb dX14_depths_16 rfl (lv_at hl 0 rfl) ?_
        refine lv_iload_n hx hb dX14_depths_17 rfl (lv_at hl 2 rfl) ?_
        refine lv_iconst (v := 2) hx hb dX14_depths_18 ki_2 ?_
        obtain ⟨r7, e6, h⟩ := obd h
        refine rc_V0 (rest := [.int x1]) (st1 := [.int r7, .int x1]) hF (w_X14_its hSk x2 2 e6) (cwV 2 hts (lw_V q1662 q1664 qs48 q117 q1665) rfl rfl rfl hd_X14_its ⟨Nat.le_of_ble_eq_true rfl, Nat.le_of_ble_eq_true rfl⟩) cfX14 (sk_128 hSk) hK hW hR hS rfl hl.1 rfl (Nat.le_of_ble_eq_true rfl) rfl dX14_depths_19 ⟨rfl, rfl⟩ ⟨Nat.zero_le _, Nat.zero_le _⟩ (fun H locs hR hS => ?_)
        refine lv_iadd hx hb dX14_depths_22 ?_
        refine lv_istore_n (lv' := [(1, .int (x1 + r7)), (0, .ref (adr G 128)), (2, .int x2)]) hx hb dX14_depths_23 rfl hl (by decide) rfl (fun ls hl => ?_)
        refine lv_iinc (v := x2 + 1) (lv' := [(2, .int (x2 + 1)), (1, .int (x1 + r7)), (0, .ref (adr G 128))]) hx hb dX14_depths_24 hl (k := 2) rfl rfl (by decide) rfl (fun ls hl => ?_)
        refine lv_goto (tgt := 4) hx hb dX14_depths_27 (by decide) ?_
        exact ih4 (x1 + r7) (x2 + 1) _ _ _ hR hS (lv_sub hl [2, 1, 0] rfl) h
  exact J4 fuel 0 0 _ _ _ hR hS (lv_sub hl [2, 1, 0] rfl) h
def rm_X14_days : Room := { frames := 6, cells := 0, slots := 0, locals := 132 }
theorem hd_X14_days : yX14_days.cls = "IntentVatsModel" ∧ yX14_days.cls ≠ "java/lang/invoke/MethodHandle" ∧ yX14_days.cls ≠ "java/lang/invoke/VarHandle" ∧ (parseMethodDescriptor yX14_days.desc).map (fun d => d.parameters.length) = some 1 := by decide +kernel
theorem he_X14_days : yX14_days.cls ≠ "java/lang/invoke/MethodHandle" ∧ yX14_days.cls ≠ "java/lang/invoke/VarHandle" ∧ (parseMethodDescriptor yX14_days.desc).map (fun d => d.parameters.length) = some 1 := hd_X14_days.2

set_option maxHeartbeats 4000000 in
set_option maxRecDepth 100000 in
theorem w_X14_days {l : Launch} {G : Gx} {sh : SM} {g : GM} {gl : LM} {gr : RM} {n : Nat} (hSk : Sk sh gr) (a1 : Int32)  {r : Int32} {go : GM} (h : f_X14_days g a1 = some (r, go)) : MetI l G yX14_days (ws_ yX14_days cX14_days 2 (Option.some Jvm.ClassFile.FieldType.int)) rm_X14_days [.ref (adr G 128), .int a1] sh g gl gr n (some (.int r)) sh go gl gr n := by
  refine MetI.of (by decide) (Nat.le_of_ble_eq_true rfl) ?_
  intro p e s m below meth c ls hx hb hr hml hown hts hlk hnm hW hK hR hS hl
  have hown : s.vm.findClass RX14 = some m.cls := hown
  have hF : CallFix p m c cX14_days 2 s ([.ref (adr G 128), .int a1] : List Value).toArray lw_all RX14 := ⟨hx, hb, hml, hown, hts⟩
  have hl : lv_has ls 2 [(0, .ref (adr G 128)), (1, .int a1)] := hl
  unfold f_X14_days at h
  refine lv_iload_n hx hb dX14_days_0 rfl (lv_at hl 1 rfl) ?_
  refine lv_i2l hx hb dX14_days_1 rfl ?_
  refine lv_lconst (v := 1) hx hb dX14_days_2 rfl ?_
  refine lv_ldc2 (v := 60) hx hb hown (hts _ q1724) dX14_days_3 ?_
  obtain ⟨r2, e1, h⟩ := obd h
  refine rc_S0 (rest := []) (st1 := [.int r2]) hF (w_X14_in hSk a1.toInt64 1 60 e1) (va_cwS 3 hts (lw_S q1602 q1603 q117 q1604) rfl rfl rfl he_X14_in ⟨Nat.le_of_ble_eq_true rfl, Nat.le_of_ble_eq_true rfl⟩) hW hR hS rfl hl.1 rfl (Nat.le_of_ble_eq_true rfl) rfl dX14_days_6 ⟨rfl, rfl⟩ ⟨Nat.zero_le _, Nat.zero_le _⟩ (fun H locs hR hS => ?_)
  refine lv_if_ne (tgt := 14) hx hb dX14_days_9 (by decide) (fun c3 => ?_) (fun c3 => ?_)
  · replace h := ifn h c3
    refine lv_aload_n hx hb dX14_days_14 rfl (lv_at hl 0 rfl) ?_
    refine lv_iload_n hx hb dX14_days_15 rfl (lv_at hl 1 rfl) ?_
    obtain ⟨g5, e4, h⟩ := obd h
    refine rc_V0 (rest := []) (st1 := []) hF (w_X14_goes hSk a1 e4) (cwV 1 hts (lw_V q1725 q1727 qs55 q117 q1728) rfl rfl rfl hd_X14_goes ⟨Nat.le_of_ble_eq_true rfl, Nat.le_of_ble_eq_true rfl⟩) cfX14 (sk_128 hSk) hK hW hR hS rfl hl.1 rfl (Nat.le_of_ble_eq_true rfl) rfl dX14_days_16 ⟨rfl, rfl⟩ ⟨Nat.zero_le _, Nat.zero_le _⟩ (fun H locs hR hS => ?_)
    refine lv_aload_n hx hb dX14_days_19 rfl (lv_at hl 0 rfl) ?_
    obtain ⟨r7, e6, h⟩ := obd h
    refine rc_V0 (rest := []) (st1 := [.int r7]) hF (w_X14_depths hSk e6) (cwV 0 hts (lw_V q1733 q1735 qs57 q117 q1736) rfl rfl rfl hd_X14_depths ⟨Nat.le_of_ble_eq_true rfl, Nat.le_of_ble_eq_true rfl⟩) cfX14 (sk_128 hSk) hK hW hR hS rfl hl.1 rfl (Nat.le_of_ble_eq_true rfl) rfl dX14_days_20 ⟨rfl, rfl⟩ ⟨Nat.zero_le _, Nat.zero_le _⟩ (fun H locs hR hS => ?_)
    obtain ⟨rfl, rfl⟩ := s2i h
    exact r_iret0 hx hb hr hlk hR hS (Nat.zero_le _) (Nat.zero_le _) dX14_days_23
  · replace h := ifp h c3
    refine lv_iconst (v := (-1)) hx hb dX14_days_12 ki_m1 ?_
    obtain ⟨rfl, rfl⟩ := s2i h
    exact r_iret0 hx hb hr hlk hR hS (Nat.zero_le _) (Nat.zero_le _) dX14_days_13
def rm_X14_seed : Room := { frames := 2, cells := 0, slots := 0, locals := 35 }
theorem hd_X14_seed : yX14_seed.cls = "IntentVatsModel" ∧ yX14_seed.cls ≠ "java/lang/invoke/MethodHandle" ∧ yX14_seed.cls ≠ "java/lang/invoke/VarHandle" ∧ (parseMethodDescriptor yX14_seed.desc).map (fun d => d.parameters.length) = some 1 := by decide +kernel
theorem he_X14_seed : yX14_seed.cls ≠ "java/lang/invoke/MethodHandle" ∧ yX14_seed.cls ≠ "java/lang/invoke/VarHandle" ∧ (parseMethodDescriptor yX14_seed.desc).map (fun d => d.parameters.length) = some 1 := hd_X14_seed.2

set_option maxHeartbeats 4000000 in
set_option maxRecDepth 100000 in
theorem w_X14_seed {l : Launch} {G : Gx} {sh : SM} {g : GM} {gl : LM} {gr : RM} {n : Nat} (hSk : Sk sh gr) (a1 : Int32)  {r : Int32} {go : GM} (h : f_X14_seed g a1 = some (r, go)) : MetI l G yX14_seed (ws_ yX14_seed cX14_seed 2 (Option.some Jvm.ClassFile.FieldType.int)) rm_X14_seed [.ref (adr G 128), .int a1] sh g gl gr n (some (.int r)) sh go gl gr n := by
  refine MetI.of (by decide) (Nat.le_of_ble_eq_true rfl) ?_
  intro p e s m below meth c ls hx hb hr hml hown hts hlk hnm hW hK hR hS hl
  have hown : s.vm.findClass RX14 = some m.cls := hown
  have hF : CallFix p m c cX14_seed 2 s ([.ref (adr G 128), .int a1] : List Value).toArray lw_all RX14 := ⟨hx, hb, hml, hown, hts⟩
  have hl : lv_has ls 2 [(0, .ref (adr G 128)), (1, .int a1)] := hl
  unfold f_X14_seed at h
  refine lv_aload_n hx hb dX14_seed_0 rfl (lv_at hl 0 rfl) ?_
  refine lv_iconst (v := 5) hx hb dX14_seed_1 ki_5 ?_
  refine lv_iload_n hx hb dX14_seed_2 rfl (lv_at hl 1 rfl) ?_
  obtain ⟨r2, g3, e1, h⟩ := obd2 h
  refine rc_V0 (rest := []) (st1 := [.int r2]) hF (w_X14_becomes hSk 5 a1 e1) (cwV 2 hts (lw_V q1605 q1607 qs44 q117 q1608) rfl rfl rfl hd_X14_becomes ⟨Nat.le_of_ble_eq_true rfl, Nat.le_of_ble_eq_true rfl⟩) cfX14 (sk_128 hSk) hK hW hR hS rfl hl.1 rfl (Nat.le_of_ble_eq_true rfl) rfl dX14_seed_3 ⟨rfl, rfl⟩ ⟨Nat.zero_le _, Nat.zero_le _⟩ (fun H locs hR hS => ?_)
  obtain ⟨rfl, rfl⟩ := s2i h
  exact r_iret0 hx hb hr hlk hR hS (Nat.zero_le _) (Nat.zero_le _) dX14_seed_6
def rm_X14_draw : Room := { frames := 1, cells := 0, slots := 0, locals := 12 }
theorem hd_X14_draw : yX14_draw.cls = "IntentVatsModel" ∧ yX14_draw.cls ≠ "java/lang/invoke/MethodHandle" ∧ yX14_draw.cls ≠ "java/lang/invoke/VarHandle" ∧ (parseMethodDescriptor yX14_draw.desc).map (fun d => d.parameters.length) = some 0 := by decide +kernel
theorem he_X14_draw : yX14_draw.cls ≠ "java/lang/invoke/MethodHandle" ∧ yX14_draw.cls ≠ "java/lang/invoke/VarHandle" ∧ (parseMethodDescriptor yX14_draw.desc).map (fun d => d.parameters.length) = some 0 := hd_X14_draw.2

set_option maxHeartbeats 4000000 in
set_option maxRecDepth 100000 in
theorem w_X14_draw {l : Launch} {G : Gx} {sh : SM} {g : GM} {gl : LM} {gr : RM} {n : Nat} (hSk : Sk sh gr)   {r : Int32} {go : GM} (h : f_X14_draw g  = some (r, go)) : MetI l G yX14_draw (ws_ yX14_draw cX14_draw 1 (Option.some Jvm.ClassFile.FieldType.int)) rm_X14_draw [.ref (adr G 128)] sh g gl gr n (some (.int r)) sh go gl gr n := by
  refine MetI.of (by decide) (Nat.le_of_ble_eq_true rfl) ?_
  intro p e s m below meth c ls hx hb hr hml hown hts hlk hnm hW hK hR hS hl
  have hown : s.vm.findClass RX14 = some m.cls := hown
  have hF : CallFix p m c cX14_draw 1 s ([.ref (adr G 128)] : List Value).toArray lw_all RX14 := ⟨hx, hb, hml, hown, hts⟩
  have hl : lv_has ls 1 [(0, .ref (adr G 128))] := hl
  unfold f_X14_draw at h
  refine lv_aload_n hx hb dX14_draw_0 rfl (lv_at hl 0 rfl) ?_
  refine r_getr hx hb hts cfX14 hown hK hR (sk_128 hSk) 2 (by decide) rfl (sr_128_2 hSk) (hts _ q1523) (fun _ h => h) dX14_draw_1 ?_
  refine lv_iconst (v := 5) hx hb dX14_draw_4 ki_5 ?_
  refine lv_aload_n hx hb dX14_draw_5 rfl (lv_at hl 0 rfl) ?_
  refine r_getr hx hb hts cfX14 hown hK hR (sk_128 hSk) 2 (by decide) rfl (sr_128_2 hSk) (hts _ q1523) (fun _ h => h) dX14_draw_6 ?_
  refine lv_iconst (v := 5) hx hb dX14_draw_9 ki_5 ?_
  obtain ⟨v2, e1, h⟩ := obd h
  refine r_ldi hx hb hK hR (sk_131 hSk) e1 dX14_draw_10 ?_
  refine lv_ldc (v := 1103515245) hx hb hown (hts _ q1753) dX14_draw_11 ?_
  refine lv_imul hx hb dX14_draw_13 ?_
  refine lv_sipush (v := 12345) hx hb dX14_draw_14 ks_12345 ?_
  refine lv_iadd hx hb dX14_draw_17 ?_
  obtain ⟨g4, e3, h⟩ := obd h
  refine r_sti hx hb hK hR hS (sk_131 hSk) e3 dX14_draw_18 (fun H locs hR hS => ?_)
  refine lv_aload_n hx hb dX14_draw_19 rfl (lv_at hl 0 rfl) ?_
  refine r_getr hx hb hts cfX14 hown hK hR (sk_128 hSk) 2 (by decide) rfl (sr_128_2 hSk) (hts _ q1523) (fun _ h => h) dX14_draw_20 ?_
  refine lv_iconst (v := 5) hx hb dX14_draw_23 ki_5 ?_
  obtain ⟨v6, e5, h⟩ := obd h
  refine r_ldi hx hb hK hR (sk_131 hSk) e5 dX14_draw_24 ?_
  refine lv_bipush (v := 16) hx hb dX14_draw_25 kb_16 ?_
  refine lv_iushr hx hb dX14_draw_27 rfl ?_
  obtain ⟨rfl, rfl⟩ := s2i h
  exact r_iret0 hx hb hr hlk hR hS (Nat.zero_le _) (Nat.zero_le _) dX14_draw_28
def rm_X14_byDraws : Room := { frames := 5, cells := 0, slots := 0, locals := 110 }
theorem hd_X14_byDraws : yX14_byDraws.cls = "IntentVatsModel" ∧ yX14_byDraws.cls ≠ "java/lang/invoke/MethodHandle" ∧ yX14_byDraws.cls ≠ "java/lang/invoke/VarHandle" ∧ (parseMethodDescriptor yX14_byDraws.desc).map (fun d => d.parameters.length) = some 0 := by decide +kernel
theorem he_X14_byDraws : yX14_byDraws.cls ≠ "java/lang/invoke/MethodHandle" ∧ yX14_byDraws.cls ≠ "java/lang/invoke/VarHandle" ∧ (parseMethodDescriptor yX14_byDraws.desc).map (fun d => d.parameters.length) = some 0 := hd_X14_byDraws.2

set_option maxHeartbeats 4000000 in
set_option maxRecDepth 100000 in
theorem w_X14_byDraws {l : Launch} {G : Gx} {sh : SM} {g : GM} {gl : LM} {gr : RM} {n : Nat} (hSk : Sk sh gr)   {go : GM} (h : f_X14_byDraws g  = some go) : MetI l G yX14_byDraws (ws_ yX14_byDraws cX14_byDraws 2 (Option.none : Option Jvm.ClassFile.FieldType)) rm_X14_byDraws [.ref (adr G 128)] sh g gl gr n none sh go gl gr n := by
  refine MetI.of (by decide) (Nat.le_of_ble_eq_true rfl) ?_
  intro p e s m below meth c ls hx hb hr hml hown hts hlk hnm hW hK hR hS hl
  have hown : s.vm.findClass RX14 = some m.cls := hown
  have hF : CallFix p m c cX14_byDraws 2 s ([.ref (adr G 128)] : List Value).toArray lw_all RX14 := ⟨hx, hb, hml, hown, hts⟩
  have hl : lv_has ls 2 [(0, .ref (adr G 128))] := hl
  unfold f_X14_byDraws at h
  refine lv_aload_n hx hb dX14_byDraws_0 rfl (lv_at hl 0 rfl) ?_
  refine r_getr hx hb hts cfX14 hown hK hR (sk_128 hSk) 2 (by decide) rfl (sr_128_2 hSk) (hts _ q1523) (fun _ h => h) dX14_byDraws_1 ?_
  refine lv_bipush (v := 6) hx hb dX14_byDraws_4 kb_6 ?_
  obtain ⟨v2, e1, h⟩ := obd h
  refine r_ldi hx hb hK hR (sk_131 hSk) e1 dX14_byDraws_6 ?_
  have J51 : ∀ (g3 : GM) (H : Heap) (locs : List Loc) (ls : Array Slot), Rep G sh g3 gl gr n H → va_S (own G) s.heap H locs → lv_has ls 2 [(0, .ref (adr G 128))] → j_X14_byDraws_51  g3 = some go → W p l e rm_X14_byDraws s m ([.ref (adr G 128)] : List Value).toArray below meth c H locs 0 0 (MQ below (QR G none sh go gl gr n) ([.ref (adr G 128)] : List Value).toArray s rm_X14_byDraws.cells rm_X14_byDraws.slots (own G)) (F0 m 51 ls []) := by
    intro g3 H locs ls hR hS hl h
    unfold j_X14_byDraws_51 at h
    refine lv_aload_n hx hb dX14_byDraws_51 rfl (lv_at hl 0 rfl) ?_
    obtain ⟨g5, e4, h⟩ := obd h
    refine rc_V0 (rest := []) (st1 := []) hF (w_X14_aDay hSk e4) (cwV 0 hts (lw_V q1729 q1731 qs56 q117 q1732) rfl rfl rfl hd_X14_aDay ⟨Nat.le_of_ble_eq_true rfl, Nat.le_of_ble_eq_true rfl⟩) cfX14 (sk_128 hSk) hK hW hR hS rfl hl.1 rfl (Nat.le_of_ble_eq_true rfl) rfl dX14_byDraws_52 ⟨rfl, rfl⟩ ⟨Nat.zero_le _, Nat.zero_le _⟩ (fun H locs hR hS => ?_)
    obtain rfl := s1i h
    exact r_vret0 hx hb hr hlk hR hS (Nat.zero_le _) (Nat.zero_le _) dX14_byDraws_55
  refine lv_if_le (tgt := 51) hx hb dX14_byDraws_7 (by decide) (fun c6 => ?_) (fun c6 => ?_)
  · replace h := ifp h c6
    exact J51 g _ _ _ hR hS (lv_sub hl [0] rfl) h
  · replace h := ifn h c6
    refine lv_aload_n hx hb dX14_byDraws_10 rfl (lv_at hl 0 rfl) ?_
    obtain ⟨r8, g9, e7, h⟩ := obd2 h
    refine rc_V0 (rest := []) (st1 := [.int r8]) hF (w_X14_draw hSk e7) (cwV 0 hts (lw_V q1749 q1751 qs59 q117 q1752) rfl rfl rfl hd_X14_draw ⟨Nat.le_of_ble_eq_true rfl, Nat.le_of_ble_eq_true rfl⟩) cfX14 (sk_128 hSk) hK hW hR hS rfl hl.1 rfl (Nat.le_of_ble_eq_true rfl) rfl dX14_byDraws_11 ⟨rfl, rfl⟩ ⟨Nat.zero_le _, Nat.zero_le _⟩ (fun H locs hR hS => ?_)
    refine lv_aload_n hx hb dX14_byDraws_14 rfl (lv_at hl 0 rfl) ?_
    refine r_getr hx hb hts cfX14 hown hK hR (sk_128 hSk) 2 (by decide) rfl (sr_128_2 hSk) (hts _ q1523) (fun _ h => h) dX14_byDraws_15 ?_
    refine lv_bipush (v := 6) hx hb dX14_byDraws_18 kb_6 ?_
    obtain ⟨v11, e10, h⟩ := obd h
    refine r_ldi hx hb hK hR (sk_131 hSk) e10 dX14_byDraws_20 ?_
    obtain ⟨c12, h⟩ := ogrd h
    refine lv_irem hx hb dX14_byDraws_21 c12 ?_
    refine lv_istore_n (lv' := [(1, .int (r8 - r8 / v11 * v11)), (0, .ref (adr G 128))]) hx hb dX14_byDraws_22 rfl hl (by decide) rfl (fun ls hl => ?_)
    refine lv_aload_n hx hb dX14_byDraws_23 rfl (lv_at hl 1 rfl) ?_
    obtain ⟨r14, g15, e13, h⟩ := obd2 h
    refine rc_V0 (rest := []) (st1 := [.int r14]) hF (w_X14_draw hSk e13) (cwV 0 hts (lw_V q1749 q1751 qs59 q117 q1752) rfl rfl rfl hd_X14_draw ⟨Nat.le_of_ble_eq_true rfl, Nat.le_of_ble_eq_true rfl⟩) cfX14 (sk_128 hSk) hK hW hR hS rfl hl.1 rfl (Nat.le_of_ble_eq_true rfl) rfl dX14_byDraws_24 ⟨rfl, rfl⟩ ⟨Nat.zero_le _, Nat.zero_le _⟩ (fun H locs hR hS => ?_)
    refine lv_bipush (v := 100) hx hb dX14_byDraws_27 kb_100 ?_
    refine lv_irem hx hb dX14_byDraws_29 (by decide) ?_
    refine lv_aload_n hx hb dX14_byDraws_30 rfl (lv_at hl 1 rfl) ?_
    refine r_getr hx hb hts cfX14 hown hK hR (sk_128 hSk) 2 (by decide) rfl (sr_128_2 hSk) (hts _ q1523) (fun _ h => h) dX14_byDraws_31 ?_
    refine lv_iconst (v := 3) hx hb dX14_byDraws_34 ki_3 ?_
    obtain ⟨v17, e16, h⟩ := obd h
    refine r_ldi hx hb hK hR (sk_131 hSk) e16 dX14_byDraws_35 ?_
    refine lv_icmp_ge (tgt := 51) hx hb dX14_byDraws_36 (by decide) (fun c18 => ?_) (fun c18 => ?_)
    · replace h := ifp h c18
      exact J51 g15 _ _ _ hR hS (lv_sub hl [1] rfl) h
    · replace h := ifn h c18
      refine lv_aload_n hx hb dX14_byDraws_39 rfl (lv_at hl 1 rfl) ?_
      refine lv_iload_n hx hb dX14_byDraws_40 rfl (lv_at hl 0 rfl) ?_
      refine lv_aload_n hx hb dX14_byDraws_41 rfl (lv_at hl 1 rfl) ?_
      obtain ⟨r20, g21, e19, h⟩ := obd2 h
      refine rc_V0 (rest := [.int (r8 - r8 / v11 * v11), .ref (adr G 128)]) (st1 := [.int r20, .int (r8 - r8 / v11 * v11), .ref (adr G 128)]) hF (w_X14_draw hSk e19) (cwV 0 hts (lw_V q1749 q1751 qs59 q117 q1752) rfl rfl rfl hd_X14_draw ⟨Nat.le_of_ble_eq_true rfl, Nat.le_of_ble_eq_true rfl⟩) cfX14 (sk_128 hSk) hK hW hR hS rfl hl.1 rfl (Nat.le_of_ble_eq_true rfl) rfl dX14_byDraws_42 ⟨rfl, rfl⟩ ⟨Nat.zero_le _, Nat.zero_le _⟩ (fun H locs hR hS => ?_)
      refine lv_bipush (v := 8) hx hb dX14_byDraws_45 kb_8 ?_
      refine lv_irem hx hb dX14_byDraws_47 (by decide) ?_
      obtain ⟨g23, e22, h⟩ := obd h
      refine rc_V0 (rest := []) (st1 := []) hF (w_X14_dips hSk (r8 - r8 / v11 * v11) (r20 - r20 / 8 * 8) e22) (cwV 2 hts (lw_V q1707 q1709 qs53 q117 q1710) rfl rfl rfl hd_X14_dips ⟨Nat.le_of_ble_eq_true rfl, Nat.le_of_ble_eq_true rfl⟩) cfX14 (sk_128 hSk) hK hW hR hS rfl hl.1 rfl (Nat.le_of_ble_eq_true rfl) rfl dX14_byDraws_48 ⟨rfl, rfl⟩ ⟨Nat.zero_le _, Nat.zero_le _⟩ (fun H locs hR hS => ?_)
      exact J51 g23 _ _ _ hR hS (lv_sub hl [1] rfl) h
def rm_X14_day : Room := { frames := 6, cells := 0, slots := 0, locals := 131 }
theorem hd_X14_day : yX14_day.cls = "IntentVatsModel" ∧ yX14_day.cls ≠ "java/lang/invoke/MethodHandle" ∧ yX14_day.cls ≠ "java/lang/invoke/VarHandle" ∧ (parseMethodDescriptor yX14_day.desc).map (fun d => d.parameters.length) = some 0 := by decide +kernel
theorem he_X14_day : yX14_day.cls ≠ "java/lang/invoke/MethodHandle" ∧ yX14_day.cls ≠ "java/lang/invoke/VarHandle" ∧ (parseMethodDescriptor yX14_day.desc).map (fun d => d.parameters.length) = some 0 := hd_X14_day.2

set_option maxHeartbeats 4000000 in
set_option maxRecDepth 100000 in
theorem w_X14_day {l : Launch} {G : Gx} {sh : SM} {g : GM} {gl : LM} {gr : RM} {n : Nat} (hSk : Sk sh gr)   {r : Int32} {go : GM} (h : f_X14_day g  = some (r, go)) : MetI l G yX14_day (ws_ yX14_day cX14_day 1 (Option.some Jvm.ClassFile.FieldType.int)) rm_X14_day [.ref (adr G 128)] sh g gl gr n (some (.int r)) sh go gl gr n := by
  refine MetI.of (by decide) (Nat.le_of_ble_eq_true rfl) ?_
  intro p e s m below meth c ls hx hb hr hml hown hts hlk hnm hW hK hR hS hl
  have hown : s.vm.findClass RX14 = some m.cls := hown
  have hF : CallFix p m c cX14_day 1 s ([.ref (adr G 128)] : List Value).toArray lw_all RX14 := ⟨hx, hb, hml, hown, hts⟩
  have hl : lv_has ls 1 [(0, .ref (adr G 128))] := hl
  unfold f_X14_day at h
  refine lv_aload_n hx hb dX14_day_0 rfl (lv_at hl 0 rfl) ?_
  obtain ⟨g2, e1, h⟩ := obd h
  refine rc_V0 (rest := []) (st1 := []) hF (w_X14_byDraws hSk e1) (cwV 0 hts (lw_V q1745 q1747 qs58 q117 q1748) rfl rfl rfl hd_X14_byDraws ⟨Nat.le_of_ble_eq_true rfl, Nat.le_of_ble_eq_true rfl⟩) cfX14 (sk_128 hSk) hK hW hR hS rfl hl.1 rfl (Nat.le_of_ble_eq_true rfl) rfl dX14_day_1 ⟨rfl, rfl⟩ ⟨Nat.zero_le _, Nat.zero_le _⟩ (fun H locs hR hS => ?_)
  refine lv_aload_n hx hb dX14_day_4 rfl (lv_at hl 0 rfl) ?_
  obtain ⟨r4, e3, h⟩ := obd h
  refine rc_V0 (rest := []) (st1 := [.int r4]) hF (w_X14_depths hSk e3) (cwV 0 hts (lw_V q1733 q1735 qs57 q117 q1736) rfl rfl rfl hd_X14_depths ⟨Nat.le_of_ble_eq_true rfl, Nat.le_of_ble_eq_true rfl⟩) cfX14 (sk_128 hSk) hK hW hR hS rfl hl.1 rfl (Nat.le_of_ble_eq_true rfl) rfl dX14_day_5 ⟨rfl, rfl⟩ ⟨Nat.zero_le _, Nat.zero_le _⟩ (fun H locs hR hS => ?_)
  obtain ⟨rfl, rfl⟩ := s2i h
  exact r_iret0 hx hb hr hlk hR hS (Nat.zero_le _) (Nat.zero_le _) dX14_day_8
