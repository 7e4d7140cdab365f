/-! walks: X14_isRight, X14_judge, X14_minds, X14_sheet, X14_narrowed, X14_put, X14_item_2, X14_shelf, X14_isHeld, X14_isUnder, X14_taken -/
def rm_X14_isRight : Room := { frames := 6, cells := 0, slots := 0, locals := 132 }
theorem hd_X14_isRight : yX14_isRight.cls = "IntentVatsModel" ∧ yX14_isRight.cls ≠ "java/lang/invoke/MethodHandle" ∧ yX14_isRight.cls ≠ "java/lang/invoke/VarHandle" ∧ (parseMethodDescriptor yX14_isRight.desc).map (fun d => d.parameters.length) = some 2 := by decide +kernel
theorem he_X14_isRight : yX14_isRight.cls ≠ "java/lang/invoke/MethodHandle" ∧ yX14_isRight.cls ≠ "java/lang/invoke/VarHandle" ∧ (parseMethodDescriptor yX14_isRight.desc).map (fun d => d.parameters.length) = some 2 := hd_X14_isRight.2

set_option maxHeartbeats 4000000 in
set_option maxRecDepth 100000 in
theorem w_X14_isRight {l : Launch} {G : Gx} {sh : SM} {g : GM} {gl : LM} {gr : RM} {n : Nat} (hSk : Sk sh gr) (a1 : Int32) (a2 : Int32)  {r : Int32} {go : GM} (h : f_X14_isRight g a1 a2 = some (r, go)) : MetI l G yX14_isRight (ws_ yX14_isRight cX14_isRight 3 (Option.some Jvm.ClassFile.FieldType.boolean)) rm_X14_isRight [.ref (adr G 128), .int a1, .int a2] sh g gl gr n (some (.int r)) sh go gl gr n := by
  refine MetI.of (by decide) (Nat.le_of_ble_eq_true rfl) ?_
  intro p e s m below meth c ls hx hb hr hml hown hts hlk hnm hW hK hR hS hl
  have hown : s.vm.findClass RX14 = some m.cls := hown
  have hF : CallFix p m c cX14_isRight 3 s ([.ref (adr G 128), .int a1, .int a2] : List Value).toArray lw_all RX14 := ⟨hx, hb, hml, hown, hts⟩
  have hl : lv_has ls 3 [(0, .ref (adr G 128)), (1, .int a1), (2, .int a2)] := hl
  unfold f_X14_isRight at h
  refine lv_aload_n hx hb dX14_isRight_0 rfl (lv_at hl 0 rfl) ?_
  refine lv_iconst (v := 1) hx hb dX14_isRight_1 ki_1 ?_
  obtain ⟨g2, e1, h⟩ := obd h
  refine rc_V0 (rest := []) (st1 := []) hF (w_X14_goes hSk 1 e1) (cwV 1 hts (lw_V q1725 q1727 qs55 q117 q1728) rfl rfl rfl hd_X14_goes ⟨Nat.le_of_ble_eq_true rfl, Nat.le_of_ble_eq_true rfl⟩) cfX14 (sk_128 hSk) hK hW hR hS rfl hl.1 rfl (Nat.le_of_ble_eq_true rfl) rfl dX14_isRight_2 ⟨rfl, rfl⟩ ⟨Nat.zero_le _, Nat.zero_le _⟩ (fun H locs hR hS => ?_)
  refine lv_aload_n hx hb dX14_isRight_5 rfl (lv_at hl 0 rfl) ?_
  refine r_getr hx hb hts cfX14 hown hK hR (sk_128 hSk) 11 (by decide) rfl (sr_128_11 hSk) (hts _ q1532) (fun _ h => h) dX14_isRight_6 ?_
  refine lv_iconst (v := 3) hx hb dX14_isRight_9 ki_3 ?_
  refine lv_iload_n hx hb dX14_isRight_10 rfl (lv_at hl 2 rfl) ?_
  refine lv_imul hx hb dX14_isRight_11 ?_
  obtain ⟨v4, e3, h⟩ := obd h
  refine r_ldi hx hb hK hR (sk_135 hSk) e3 dX14_isRight_12 ?_
  refine lv_iconst (v := 1) hx hb dX14_isRight_13 ki_1 ?_
  refine lv_aload_n hx hb dX14_isRight_14 rfl (lv_at hl 0 rfl) ?_
  refine lv_iload_n hx hb dX14_isRight_15 rfl (lv_at hl 1 rfl) ?_
  refine lv_iconst (v := 1) hx hb dX14_isRight_16 ki_1 ?_
  obtain ⟨r6, e5, h⟩ := obd h
  refine rc_V0 (rest := [.int 1, .int v4]) (st1 := [.int r6, .int 1, .int v4]) hF (w_X14_its hSk a1 1 e5) (cwV 2 hts (lw_V q1662 q1664 qs48 q117 q1665) rfl rfl rfl hd_X14_its ⟨Nat.le_of_ble_eq_true rfl, Nat.le_of_ble_eq_true rfl⟩) cfX14 (sk_128 hSk) hK hW hR hS rfl hl.1 rfl (Nat.le_of_ble_eq_true rfl) rfl dX14_isRight_17 ⟨rfl, rfl⟩ ⟨Nat.zero_le _, Nat.zero_le _⟩ (fun H locs hR hS => ?_)
  refine lv_iadd hx hb dX14_isRight_20 ?_
  have J65 : ∀ (x7 : Int32) (H : Heap) (locs : List Loc) (ls : Array Slot), Rep G sh g2 gl gr n H → va_S (own G) s.heap H locs → lv_has ls 3 [] → j_X14_isRight_65 g2 x7 = some (r, go) → W p l e rm_X14_isRight s m ([.ref (adr G 128), .int a1, .int a2] : List Value).toArray below meth c H locs 0 0 (MQ below (QR G (some (.int r)) sh go gl gr n) ([.ref (adr G 128), .int a1, .int a2] : List Value).toArray s rm_X14_isRight.cells rm_X14_isRight.slots (own G)) (F0 m 65 ls [.int x7]) := by
    intro x7 H locs ls hR hS hl h
    unfold j_X14_isRight_65 at h
    obtain ⟨c8, h⟩ := ogrd h
    obtain ⟨rfl, rfl⟩ := s2i h
    exact r_zret0 hx hb hr hlk hR hS (Nat.zero_le _) (Nat.zero_le _) (nb01 c8) dX14_isRight_65
  have J64 : ∀  (H : Heap) (locs : List Loc) (ls : Array Slot), Rep G sh g2 gl gr n H → va_S (own G) s.heap H locs → lv_has ls 3 [] → j_X14_isRight_64 g2  = some (r, go) → W p l e rm_X14_isRight s m ([.ref (adr G 128), .int a1, .int a2] : List Value).toArray below meth c H locs 0 0 (MQ below (QR G (some (.int r)) sh go gl gr n) ([.ref (adr G 128), .int a1, .int a2] : List Value).toArray s rm_X14_isRight.cells rm_X14_isRight.slots (own G)) (F0 m 64 ls []) := by
    intro  H locs ls hR hS hl h
    unfold j_X14_isRight_64 at h
    refine lv_iconst (v := 0) hx hb dX14_isRight_64 ki_0 ?_
    exact J65 0 _ _ _ hR hS (lv_sub hl [] rfl) h
  refine lv_icmp_ne (tgt := 64) hx hb dX14_isRight_21 (by decide) (fun c9 => ?_) (fun c9 => ?_)
  · replace h := ifn h c9
    exact J64  _ _ _ hR hS (lv_sub hl [] rfl) h
  · replace h := ifp h c9
    refine lv_aload_n hx hb dX14_isRight_24 rfl (lv_at hl 0 rfl) ?_
    refine r_getr hx hb hts cfX14 hown hK hR (sk_128 hSk) 11 (by decide) rfl (sr_128_11 hSk) (hts _ q1532) (fun _ h => h) dX14_isRight_25 ?_
    refine lv_iconst (v := 3) hx hb dX14_isRight_28 ki_3 ?_
    refine lv_iload_n hx hb dX14_isRight_29 rfl (lv_at hl 2 rfl) ?_
    refine lv_imul hx hb dX14_isRight_30 ?_
    refine lv_iconst (v := 1) hx hb dX14_isRight_31 ki_1 ?_
    refine lv_iadd hx hb dX14_isRight_32 ?_
    obtain ⟨v11, e10, h⟩ := obd h
    refine r_ldi hx hb hK hR (sk_135 hSk) e10 dX14_isRight_33 ?_
    refine lv_aload_n hx hb dX14_isRight_34 rfl (lv_at hl 0 rfl) ?_
    refine lv_iload_n hx hb dX14_isRight_35 rfl (lv_at hl 1 rfl) ?_
    refine lv_iconst (v := 2) hx hb dX14_isRight_36 ki_2 ?_
    obtain ⟨r13, e12, h⟩ := obd h
    refine rc_V0 (rest := [.int v11]) (st1 := [.int r13, .int v11]) hF (w_X14_its hSk a1 2 e12) (cwV 2 hts (lw_V q1662 q1664 qs48 q117 q1665) rfl rfl rfl hd_X14_its ⟨Nat.le_of_ble_eq_true rfl, Nat.le_of_ble_eq_true rfl⟩) cfX14 (sk_128 hSk) hK hW hR hS rfl hl.1 rfl (Nat.le_of_ble_eq_true rfl) rfl dX14_isRight_37 ⟨rfl, rfl⟩ ⟨Nat.zero_le _, Nat.zero_le _⟩ (fun H locs hR hS => ?_)
    refine lv_icmp_ne (tgt := 64) hx hb dX14_isRight_40 (by decide) (fun c14 => ?_) (fun c14 => ?_)
    · replace h := ifn h c14
      exact J64  _ _ _ hR hS (lv_sub hl [] rfl) h
    · replace h := ifp h c14
      refine lv_aload_n hx hb dX14_isRight_43 rfl (lv_at hl 0 rfl) ?_
      refine r_getr hx hb hts cfX14 hown hK hR (sk_128 hSk) 11 (by decide) rfl (sr_128_11 hSk) (hts _ q1532) (fun _ h => h) dX14_isRight_44 ?_
      refine lv_iconst (v := 3) hx hb dX14_isRight_47 ki_3 ?_
      refine lv_iload_n hx hb dX14_isRight_48 rfl (lv_at hl 2 rfl) ?_
      refine lv_imul hx hb dX14_isRight_49 ?_
      refine lv_iconst (v := 2) hx hb dX14_isRight_50 ki_2 ?_
      refine lv_iadd hx hb dX14_isRight_51 ?_
      obtain ⟨v16, e15, h⟩ := obd h
      refine r_ldi hx hb hK hR (sk_135 hSk) e15 dX14_isRight_52 ?_
      refine lv_aload_n hx hb dX14_isRight_53 rfl (lv_at hl 0 rfl) ?_
      obtain ⟨r18, e17, h⟩ := obd h
      refine rc_V0 (rest := [.int v16]) (st1 := [.int r18, .int v16]) hF (w_X14_depths hSk e17) (cwV 0 hts (lw_V q1733 q1735 qs57 q117 q1736) rfl rfl rfl hd_X14_depths ⟨Nat.le_of_ble_eq_true rfl, Nat.le_of_ble_eq_true rfl⟩) cfX14 (sk_128 hSk) hK hW hR hS rfl hl.1 rfl (Nat.le_of_ble_eq_true rfl) rfl dX14_isRight_54 ⟨rfl, rfl⟩ ⟨Nat.zero_le _, Nat.zero_le _⟩ (fun H locs hR hS => ?_)
      refine lv_icmp_ne (tgt := 64) hx hb dX14_isRight_57 (by decide) (fun c19 => ?_) (fun c19 => ?_)
      · replace h := ifn h c19
        exact J64  _ _ _ hR hS (lv_sub hl [] rfl) h
      · replace h := ifp h c19
        refine lv_iconst (v := 1) hx hb dX14_isRight_60 ki_1 ?_
        refine lv_goto (tgt := 65) hx hb dX14_isRight_61 (by decide) ?_
        exact J65 1 _ _ _ hR hS (lv_sub hl [] rfl) h
def rm_X14_judge : Room := { frames := 7, cells := 0, slots := 0, locals := 154 }
theorem hd_X14_judge : yX14_judge.cls = "IntentVatsModel" ∧ yX14_judge.cls ≠ "java/lang/invoke/MethodHandle" ∧ yX14_judge.cls ≠ "java/lang/invoke/VarHandle" ∧ (parseMethodDescriptor yX14_judge.desc).map (fun d => d.parameters.length) = some 1 := by decide +kernel
theorem he_X14_judge : yX14_judge.cls ≠ "java/lang/invoke/MethodHandle" ∧ yX14_judge.cls ≠ "java/lang/invoke/VarHandle" ∧ (parseMethodDescriptor yX14_judge.desc).map (fun d => d.parameters.length) = some 1 := hd_X14_judge.2

set_option maxHeartbeats 4000000 in
set_option maxRecDepth 100000 in
theorem w_X14_judge {l : Launch} {G : Gx} {sh : SM} {g : GM} {gl : LM} {gr : RM} {n : Nat} (hSk : Sk sh gr) (a1 : Int32)  {r : Int32} {go : GM} (h : f_X14_judge g a1 = some (r, go)) : MetI l G yX14_judge (ws_ yX14_judge cX14_judge 3 (Option.some Jvm.ClassFile.FieldType.int)) rm_X14_judge [.ref (adr G 128), .int a1] sh g gl gr n (some (.int r)) sh go gl gr n := by
  refine MetI.of (by decide) (Nat.le_of_ble_eq_true rfl) ?_
  intro p e s m below meth c ls hx hb hr hml hown hts hlk hnm hW hK hR hS hl
  have hown : s.vm.findClass RX14 = some m.cls := hown
  have hF : CallFix p m c cX14_judge 3 s ([.ref (adr G 128), .int a1] : List Value).toArray lw_all RX14 := ⟨hx, hb, hml, hown, hts⟩
  have hl : lv_has ls 3 [(0, .ref (adr G 128)), (1, .int a1)] := hl
  unfold f_X14_judge at h
  refine lv_aload_n hx hb dX14_judge_0 rfl (lv_at hl 0 rfl) ?_
  refine lv_iload_n hx hb dX14_judge_1 rfl (lv_at hl 1 rfl) ?_
  obtain ⟨r2, e1, h⟩ := obd h
  refine rc_V0 (rest := []) (st1 := [.int r2]) hF (w_X14_isCloth hSk a1 e1) (cwV 1 hts (lw_V q1657 q1659 qs47 q117 q1660) rfl rfl rfl hd_X14_isCloth ⟨Nat.le_of_ble_eq_true rfl, Nat.le_of_ble_eq_true rfl⟩) cfX14 (sk_128 hSk) hK hW hR hS rfl hl.1 rfl (Nat.le_of_ble_eq_true rfl) rfl dX14_judge_2 ⟨rfl, rfl⟩ ⟨Nat.zero_le _, Nat.zero_le _⟩ (fun H locs hR hS => ?_)
  refine lv_if_ne (tgt := 10) hx hb dX14_judge_5 (by decide) (fun c3 => ?_) (fun c3 => ?_)
  · replace h := ifn h c3
    refine lv_aload_n hx hb dX14_judge_10 rfl (lv_at hl 0 rfl) ?_
    obtain ⟨g5, e4, h⟩ := obd h
    refine rc_V0 (rest := []) (st1 := []) hF (w_X14_lends hSk e4) (cwV 0 hts (lw_V q1759 q1761 qs60 q117 q1762) rfl rfl rfl hd_X14_lends ⟨Nat.le_of_ble_eq_true rfl, Nat.le_of_ble_eq_true rfl⟩) cfX14 (sk_128 hSk) hK hW hR hS rfl hl.1 rfl (Nat.le_of_ble_eq_true rfl) rfl dX14_judge_11 ⟨rfl, rfl⟩ ⟨Nat.zero_le _, Nat.zero_le _⟩ (fun H locs hR hS => ?_)
    refine lv_iconst (v := 0) hx hb dX14_judge_14 ki_0 ?_
    refine lv_istore_n (lv' := [(2, .int 0), (0, .ref (adr G 128)), (1, .int a1)]) hx hb dX14_judge_15 rfl hl (by decide) rfl (fun ls hl => ?_)
    have J16 : ∀ (k16 : Nat) (x6 : Int32) (g7 : GM) (H : Heap) (locs : List Loc) (ls : Array Slot), Rep G sh g7 gl gr n H → va_S (own G) s.heap H locs → lv_has ls 3 [(0, .ref (adr G 128)), (1, .int a1), (2, .int x6)] → l_X14_judge_16 a1 k16 x6 g7 = some (r, go) → W p l e rm_X14_judge s m ([.ref (adr G 128), .int a1] : List Value).toArray below meth c H locs 0 0 (MQ below (QR G (some (.int r)) sh go gl gr n) ([.ref (adr G 128), .int a1] : List Value).toArray s rm_X14_judge.cells rm_X14_judge.slots (own G)) (F0 m 16 ls []) := by
      intro k16
      induction k16 with
      | zero => intro _ _ _ _ _ _ _ _; exact nofun
      | succ k16 ih16 =>
        intro x6 g7 H locs ls hR hS hl h
        unfold l_X14_judge_16 b_X14_judge_16 at h
        refine lv_iload_n hx hb dX14_judge_16 rfl (lv_at hl 2 rfl) ?_
        refine lv_aload_n hx hb dX14_judge_17 rfl (lv_at hl 0 rfl) ?_
        refine r_geti hx hb hts cfX14 hown hK hR (sk_128 hSk) 12 (by decide) rfl (hts _ q1533) (fun _ h => h) dX14_judge_18 ?_
        have J39 : ∀ (g8 : GM) (H : Heap) (locs : List Loc) (ls : Array Slot), Rep G sh g8 gl gr n H → va_S (own G) s.heap H locs → lv_has ls 3 [(0, .ref (adr G 128)), (2, .int x6)] → j_X14_judge_39 x6 g8 = some (r, go) → W p l e rm_X14_judge s m ([.ref (adr G 128), .int a1] : List Value).toArray below meth c H locs 0 0 (MQ below (QR G (some (.int r)) sh go gl gr n) ([.ref (adr G 128), .int a1] : List Value).toArray s rm_X14_judge.cells rm_X14_judge.slots (own G)) (F0 m 39 ls []) := by
          intro g8 H locs ls hR hS hl h
          unfold j_X14_judge_39 at h
          refine lv_aload_n hx hb dX14_judge_39 rfl (lv_at hl 0 rfl) ?_
          obtain ⟨g10, e9, h⟩ := obd h
          refine rc_V0 (rest := []) (st1 := []) hF (w_X14_laysBack hSk e9) (cwV 0 hts (lw_V q1766 q1768 qs61 q117 q1769) rfl rfl rfl hd_X14_laysBack ⟨Nat.le_of_ble_eq_true rfl, Nat.le_of_ble_eq_true rfl⟩) cfX14 (sk_128 hSk) hK hW hR hS rfl hl.1 rfl (Nat.le_of_ble_eq_true rfl) rfl dX14_judge_40 ⟨rfl, rfl⟩ ⟨Nat.zero_le _, Nat.zero_le _⟩ (fun H locs hR hS => ?_)
          refine lv_iload_n hx hb dX14_judge_43 rfl (lv_at hl 1 rfl) ?_
          refine lv_aload_n hx hb dX14_judge_44 rfl (lv_at hl 0 rfl) ?_
          refine r_geti hx hb hts cfX14 hown hK hR (sk_128 hSk) 12 (by decide) rfl (hts _ q1533) (fun _ h => h) dX14_judge_45 ?_
          have J58 : ∀ (x11 : Int32) (H : Heap) (locs : List Loc) (ls : Array Slot), Rep G sh g10 gl gr n H → va_S (own G) s.heap H locs → lv_has ls 3 [] → j_X14_judge_58 g10 x11 = some (r, go) → W p l e rm_X14_judge s m ([.ref (adr G 128), .int a1] : List Value).toArray below meth c H locs 0 0 (MQ below (QR G (some (.int r)) sh go gl gr n) ([.ref (adr G 128), .int a1] : List Value).toArray s rm_X14_judge.cells rm_X14_judge.slots (own G)) (F0 m 58 ls [.int x11]) := by
            intro x11 H locs ls hR hS hl h
            unfold j_X14_judge_58 at h
            obtain ⟨rfl, rfl⟩ := s2i h
            exact r_iret0 hx hb hr hlk hR hS (Nat.zero_le _) (Nat.zero_le _) dX14_judge_58
          refine lv_icmp_ge (tgt := 57) hx hb dX14_judge_48 (by decide) (fun c12 => ?_) (fun c12 => ?_)
          · replace h := ifp h c12
            refine lv_iconst (v := 0) hx hb dX14_judge_57 ki_0 ?_
            exact J58 0 _ _ _ hR hS (lv_sub hl [] rfl) h
          · replace h := ifn h c12
            refine lv_iload_n hx hb dX14_judge_51 rfl (lv_at hl 1 rfl) ?_
            refine lv_iconst (v := 1) hx hb dX14_judge_52 ki_1 ?_
            refine lv_iadd hx hb dX14_judge_53 ?_
            refine lv_goto (tgt := 58) hx hb dX14_judge_54 (by decide) ?_
            exact J58 (x6 + 1) _ _ _ hR hS (lv_sub hl [] rfl) h
        refine lv_icmp_ge (tgt := 39) hx hb dX14_judge_21 (by decide) (fun c13 => ?_) (fun c13 => ?_)
        · replace h := ifp h c13
          exact J39 g7 _ _ _ hR hS (lv_sub hl [0, 2] rfl) h
        · replace h := ifn h c13
          refine lv_aload_n hx hb dX14_judge_24 rfl (lv_at hl 0 rfl) ?_
          refine lv_iload_n hx hb dX14_judge_25 rfl (lv_at hl 1 rfl) ?_
          refine lv_iload_n hx hb dX14_judge_26 rfl (lv_at hl 2 rfl) ?_
          obtain ⟨r15, g16, e14, h⟩ := obd2 h
          refine rc_V0 (rest := []) (st1 := [.int r15]) hF (w_X14_isRight hSk a1 x6 e14) (cwV 2 hts (lw_V q1988 q1990 qs86 q117 q1991) rfl rfl rfl hd_X14_isRight ⟨Nat.le_of_ble_eq_true rfl, Nat.le_of_ble_eq_true rfl⟩) cfX14 (sk_128 hSk) hK hW hR hS rfl hl.1 rfl (Nat.le_of_ble_eq_true rfl) rfl dX14_judge_27 ⟨rfl, rfl⟩ ⟨Nat.zero_le _, Nat.zero_le _⟩ (fun H locs hR hS => ?_)
          refine lv_if_eq (tgt := 39) hx hb dX14_judge_30 (by decide) (fun c17 => ?_) (fun c17 => ?_)
          · replace h := ifp h c17
            exact J39 g16 _ _ _ hR hS (lv_sub hl [0, 2] rfl) h
          · replace h := ifn h c17
            refine lv_iinc (v := x6 + 1) (lv' := [(2, .int (x6 + 1)), (0, .ref (adr G 128)), (1, .int a1)]) hx hb dX14_judge_33 hl (k := 2) rfl rfl (by decide) rfl (fun ls hl => ?_)
            refine lv_goto (tgt := 16) hx hb dX14_judge_36 (by decide) ?_
            exact ih16 (x6 + 1) g16 _ _ _ hR hS (lv_sub hl [1, 2, 0] rfl) h
    exact J16 fuel 0 g5 _ _ _ hR hS (lv_sub hl [1, 2, 0] rfl) h
  · replace h := ifp h c3
    refine lv_iconst (v := (-1)) hx hb dX14_judge_8 ki_m1 ?_
    obtain ⟨rfl, rfl⟩ := s2i h
    exact r_iret0 hx hb hr hlk hR hS (Nat.zero_le _) (Nat.zero_le _) dX14_judge_9
def rm_X14_minds : Room := { frames := 3, cells := 0, slots := 0, locals := 62 }
theorem hd_X14_minds : yX14_minds.cls = "IntentVatsModel" ∧ yX14_minds.cls ≠ "java/lang/invoke/MethodHandle" ∧ yX14_minds.cls ≠ "java/lang/invoke/VarHandle" ∧ (parseMethodDescriptor yX14_minds.desc).map (fun d => d.parameters.length) = some 4 := by decide +kernel
theorem he_X14_minds : yX14_minds.cls ≠ "java/lang/invoke/MethodHandle" ∧ yX14_minds.cls ≠ "java/lang/invoke/VarHandle" ∧ (parseMethodDescriptor yX14_minds.desc).map (fun d => d.parameters.length) = some 4 := hd_X14_minds.2

set_option maxHeartbeats 4000000 in
set_option maxRecDepth 100000 in
theorem w_X14_minds {l : Launch} {G : Gx} {sh : SM} {g : GM} {gl : LM} {gr : RM} {n : Nat} (hSk : Sk sh gr) (a1 : Int32) (a2 : Int32) (a3 : Int32) (a4 : Int32)  {r : Int32} {go : GM} (h : f_X14_minds g a1 a2 a3 a4 = some (r, go)) : MetI l G yX14_minds (ws_ yX14_minds cX14_minds 6 (Option.some Jvm.ClassFile.FieldType.int)) rm_X14_minds [.ref (adr G 128), .int a1, .int a2, .int a3, .int a4] sh g gl gr n (some (.int r)) sh go gl gr n := by
  refine MetI.of (by decide) (Nat.le_of_ble_eq_true rfl) ?_
  intro p e s m below meth c ls hx hb hr hml hown hts hlk hnm hW hK hR hS hl
  have hown : s.vm.findClass RX14 = some m.cls := hown
  have hF : CallFix p m c cX14_minds 6 s ([.ref (adr G 128), .int a1, .int a2, .int a3, .int a4] : List Value).toArray lw_all RX14 := ⟨hx, hb, hml, hown, hts⟩
  have hl : lv_has ls 6 [(0, .ref (adr G 128)), (1, .int a1), (2, .int a2), (3, .int a3), (4, .int a4)] := hl
  unfold f_X14_minds at h
  refine lv_iload_n hx hb dX14_minds_0 rfl (lv_at hl 1 rfl) ?_
  obtain ⟨r2, e1, h⟩ := obd h
  refine rc_S0 (rest := []) (st1 := [.int r2]) hF (w_X14_isFour hSk a1 e1) (va_cwS 1 hts (lw_S q1865 q1866 q117 q1867) rfl rfl rfl he_X14_isFour ⟨Nat.le_of_ble_eq_true rfl, Nat.le_of_ble_eq_true rfl⟩) hW hR hS rfl hl.1 rfl (Nat.le_of_ble_eq_true rfl) rfl dX14_minds_1 ⟨rfl, rfl⟩ ⟨Nat.zero_le _, Nat.zero_le _⟩ (fun H locs hR hS => ?_)
  have J42 : ∀  (H : Heap) (locs : List Loc) (ls : Array Slot), Rep G sh g gl gr n H → va_S (own G) s.heap H locs → lv_has ls 6 [] → j_X14_minds_42 g  = some (r, go) → W p l e rm_X14_minds s m ([.ref (adr G 128), .int a1, .int a2, .int a3, .int a4] : List Value).toArray below meth c H locs 0 0 (MQ below (QR G (some (.int r)) sh go gl gr n) ([.ref (adr G 128), .int a1, .int a2, .int a3, .int a4] : List Value).toArray s rm_X14_minds.cells rm_X14_minds.slots (own G)) (F0 m 42 ls []) := by
    intro  H locs ls hR hS hl h
    unfold j_X14_minds_42 at h
    refine lv_iconst (v := (-1)) hx hb dX14_minds_42 ki_m1 ?_
    obtain ⟨rfl, rfl⟩ := s2i h
    exact r_iret0 hx hb hr hlk hR hS (Nat.zero_le _) (Nat.zero_le _) dX14_minds_43
  refine lv_if_eq (tgt := 42) hx hb dX14_minds_4 (by decide) (fun c3 => ?_) (fun c3 => ?_)
  · replace h := ifp h c3
    exact J42  _ _ _ hR hS (lv_sub hl [] rfl) h
  · replace h := ifn h c3
    refine lv_aload_n hx hb dX14_minds_7 rfl (lv_at hl 0 rfl) ?_
    refine lv_iload_n hx hb dX14_minds_8 rfl (lv_at hl 3 rfl) ?_
    obtain ⟨r5, e4, h⟩ := obd h
    refine rc_V0 (rest := []) (st1 := [.int r5]) hF (w_X14_isCloth hSk a3 e4) (cwV 1 hts (lw_V q1657 q1659 qs47 q117 q1660) rfl rfl rfl hd_X14_isCloth ⟨Nat.le_of_ble_eq_true rfl, Nat.le_of_ble_eq_true rfl⟩) cfX14 (sk_128 hSk) hK hW hR hS rfl hl.1 rfl (Nat.le_of_ble_eq_true rfl) rfl dX14_minds_9 ⟨rfl, rfl⟩ ⟨Nat.zero_le _, Nat.zero_le _⟩ (fun H locs hR hS => ?_)
    refine lv_if_eq (tgt := 42) hx hb dX14_minds_12 (by decide) (fun c6 => ?_) (fun c6 => ?_)
    · replace h := ifp h c6
      exact J42  _ _ _ hR hS (lv_sub hl [] rfl) h
    · replace h := ifn h c6
      refine lv_iload hx hb dX14_minds_15 (lv_at hl 4 rfl) ?_
      refine lv_i2l hx hb dX14_minds_17 rfl ?_
      refine lv_lconst (v := 0) hx hb dX14_minds_18 rfl ?_
      refine lv_ldc2 (v := 8) hx hb hown (hts _ q1853) dX14_minds_19 ?_
      obtain ⟨r8, e7, h⟩ := obd h
      refine rc_S0 (rest := []) (st1 := [.int r8]) hF (w_X14_in hSk a4.toInt64 0 8 e7) (va_cwS 3 hts (lw_S q1602 q1603 q117 q1604) rfl rfl rfl he_X14_in ⟨Nat.le_of_ble_eq_true rfl, Nat.le_of_ble_eq_true rfl⟩) hW hR hS rfl hl.1 rfl (Nat.le_of_ble_eq_true rfl) rfl dX14_minds_22 ⟨rfl, rfl⟩ ⟨Nat.zero_le _, Nat.zero_le _⟩ (fun H locs hR hS => ?_)
      refine lv_if_eq (tgt := 42) hx hb dX14_minds_25 (by decide) (fun c9 => ?_) (fun c9 => ?_)
      · replace h := ifp h c9
        exact J42  _ _ _ hR hS (lv_sub hl [] rfl) h
      · replace h := ifn h c9
        refine lv_iload_n hx hb dX14_minds_28 rfl (lv_at hl 3 rfl) ?_
        refine lv_iload hx hb dX14_minds_29 (lv_at hl 4 rfl) ?_
        refine lv_iadd hx hb dX14_minds_31 ?_
        refine lv_aload_n hx hb dX14_minds_32 rfl (lv_at hl 0 rfl) ?_
        refine r_getr hx hb hts cfX14 hown hK hR (sk_128 hSk) 2 (by decide) rfl (sr_128_2 hSk) (hts _ q1523) (fun _ h => h) dX14_minds_33 ?_
        refine lv_bipush (v := 6) hx hb dX14_minds_36 kb_6 ?_
        obtain ⟨v11, e10, h⟩ := obd h
        refine r_ldi hx hb hK hR (sk_131 hSk) e10 dX14_minds_38 ?_
        refine lv_icmp_le (tgt := 44) hx hb dX14_minds_39 (by decide) (fun c12 => ?_) (fun c12 => ?_)
        · replace h := ifp h c12
          refine lv_aload_n hx hb dX14_minds_44 rfl (lv_at hl 0 rfl) ?_
          refine r_getr hx hb hts cfX14 hown hK hR (sk_128 hSk) 13 (by decide) rfl (sr_128_13 hSk) (hts _ q1534) (fun _ h => h) dX14_minds_45 ?_
          refine lv_iload_n hx hb dX14_minds_48 rfl (lv_at hl 1 rfl) ?_
          obtain ⟨v14, e13, h⟩ := obd h
          refine r_ldi hx hb hK hR (sk_136 hSk) e13 dX14_minds_49 ?_
          refine lv_if_eq (tgt := 70) hx hb dX14_minds_50 (by decide) (fun c15 => ?_) (fun c15 => ?_)
          · replace h := ifp h c15
            refine lv_iload_n hx hb dX14_minds_70 rfl (lv_at hl 2 rfl) ?_
            refine lv_i2l hx hb dX14_minds_71 rfl ?_
            refine lv_lconst (v := 0) hx hb dX14_minds_72 rfl ?_
            refine lv_aload_n hx hb dX14_minds_73 rfl (lv_at hl 0 rfl) ?_
            refine r_getr hx hb hts cfX14 hown hK hR (sk_128 hSk) 14 (by decide) rfl (sr_128_14 hSk) (hts _ q1535) (fun _ h => h) dX14_minds_74 ?_
            refine lv_iload_n hx hb dX14_minds_77 rfl (lv_at hl 1 rfl) ?_
            obtain ⟨v17, e16, h⟩ := obd h
            refine r_ldi hx hb hK hR (sk_137 hSk) e16 dX14_minds_78 ?_
            refine lv_i2l hx hb dX14_minds_79 rfl ?_
            obtain ⟨r19, e18, h⟩ := obd h
            refine rc_S0 (rest := []) (st1 := [.int r19]) hF (w_X14_in hSk a2.toInt64 0 v17.toInt64 e18) (va_cwS 3 hts (lw_S q1602 q1603 q117 q1604) rfl rfl rfl he_X14_in ⟨Nat.le_of_ble_eq_true rfl, Nat.le_of_ble_eq_true rfl⟩) hW hR hS rfl hl.1 rfl (Nat.le_of_ble_eq_true rfl) rfl dX14_minds_80 ⟨rfl, rfl⟩ ⟨Nat.zero_le _, Nat.zero_le _⟩ (fun H locs hR hS => ?_)
            have J99 : ∀  (H : Heap) (locs : List Loc) (ls : Array Slot), Rep G sh g gl gr n H → va_S (own G) s.heap H locs → lv_has ls 6 [] → j_X14_minds_99 g  = some (r, go) → W p l e rm_X14_minds s m ([.ref (adr G 128), .int a1, .int a2, .int a3, .int a4] : List Value).toArray below meth c H locs 0 0 (MQ below (QR G (some (.int r)) sh go gl gr n) ([.ref (adr G 128), .int a1, .int a2, .int a3, .int a4] : List Value).toArray s rm_X14_minds.cells rm_X14_minds.slots (own G)) (F0 m 99 ls []) := by
              intro  H locs ls hR hS hl h
              unfold j_X14_minds_99 at h
              refine lv_bipush (v := (-12)) hx hb dX14_minds_99 kb_m12 ?_
              obtain ⟨rfl, rfl⟩ := s2i h
              exact r_iret0 hx hb hr hlk hR hS (Nat.zero_le _) (Nat.zero_le _) dX14_minds_101
            refine lv_if_eq (tgt := 99) hx hb dX14_minds_83 (by decide) (fun c20 => ?_) (fun c20 => ?_)
            · replace h := ifp h c20
              exact J99  _ _ _ hR hS (lv_sub hl [] rfl) h
            · replace h := ifn h c20
              refine lv_iload hx hb dX14_minds_86 (lv_at hl 4 rfl) ?_
              refine lv_aload_n hx hb dX14_minds_88 rfl (lv_at hl 0 rfl) ?_
              refine r_getr hx hb hts cfX14 hown hK hR (sk_128 hSk) 14 (by decide) rfl (sr_128_14 hSk) (hts _ q1535) (fun _ h => h) dX14_minds_89 ?_
              refine lv_iload_n hx hb dX14_minds_92 rfl (lv_at hl 1 rfl) ?_
              obtain ⟨v22, e21, h⟩ := obd h
              refine r_ldi hx hb hK hR (sk_137 hSk) e21 dX14_minds_93 ?_
              refine lv_iload_n hx hb dX14_minds_94 rfl (lv_at hl 2 rfl) ?_
              refine lv_isub hx hb dX14_minds_95 ?_
              refine lv_icmp_le (tgt := 102) hx hb dX14_minds_96 (by decide) (fun c23 => ?_) (fun c23 => ?_)
              · replace h := ifp h c23
                refine lv_iconst (v := 0) hx hb dX14_minds_102 ki_0 ?_
                refine lv_istore (lv' := [(5, .int 0), (0, .ref (adr G 128)), (1, .int a1), (2, .int a2), (3, .int a3), (4, .int a4)]) hx hb dX14_minds_103 hl (by decide) rfl (fun ls hl => ?_)
                have J105 : ∀ (k105 : Nat) (x24 : Int32) (g25 : GM) (H : Heap) (locs : List Loc) (ls : Array Slot), Rep G sh g25 gl gr n H → va_S (own G) s.heap H locs → lv_has ls 6 [(0, .ref (adr G 128)), (1, .int a1), (2, .int a2), (3, .int a3), (4, .int a4), (5, .int x24)] → l_X14_minds_105 a1 a2 a3 a4 k105 x24 g25 = some (r, go) → W p l e rm_X14_minds s m ([.ref (adr G 128), .int a1, .int a2, .int a3, .int a4] : List Value).toArray below meth c H locs 0 0 (MQ below (QR G (some (.int r)) sh go gl gr n) ([.ref (adr G 128), .int a1, .int a2, .int a3, .int a4] : List Value).toArray s rm_X14_minds.cells rm_X14_minds.slots (own G)) (F0 m 105 ls []) := by
                  intro k105
                  induction k105 with
                  | zero => intro _ _ _ _ _ _ _ _; exact nofun
                  | succ k105 ih105 =>
                    intro x24 g25 H locs ls hR hS hl h
                    unfold l_X14_minds_105 b_X14_minds_105 at h
                    refine lv_iload hx hb dX14_minds_105 (lv_at hl 5 rfl) ?_
                    refine lv_iload hx hb dX14_minds_107 (lv_at hl 4 rfl) ?_
                    refine lv_icmp_ge (tgt := 152) hx hb dX14_minds_109 (by decide) (fun c26 => ?_) (fun c26 => ?_)
                    · replace h := ifp h c26
                      refine lv_iload hx hb dX14_minds_152 (lv_at hl 4 rfl) ?_
                      obtain ⟨rfl, rfl⟩ := s2i h
                      exact r_iret0 hx hb hr hlk hR hS (Nat.zero_le _) (Nat.zero_le _) dX14_minds_154
                    · replace h := ifn h c26
                      refine lv_aload_n hx hb dX14_minds_112 rfl (lv_at hl 0 rfl) ?_
                      refine lv_iload_n hx hb dX14_minds_113 rfl (lv_at hl 3 rfl) ?_
                      refine lv_iload hx hb dX14_minds_114 (lv_at hl 5 rfl) ?_
                      refine lv_iadd hx hb dX14_minds_116 ?_
                      refine lv_iconst (v := 1) hx hb dX14_minds_117 ki_1 ?_
                      obtain ⟨r28, e27, h⟩ := obd h
                      refine rc_V0 (rest := []) (st1 := [.int r28]) hF (w_X14_its hSk (a3 + x24) 1 e27) (cwV 2 hts (lw_V q1662 q1664 qs48 q117 q1665) rfl rfl rfl hd_X14_its ⟨Nat.le_of_ble_eq_true rfl, Nat.le_of_ble_eq_true rfl⟩) cfX14 (sk_128 hSk) hK hW hR hS rfl hl.1 rfl (Nat.le_of_ble_eq_true rfl) rfl dX14_minds_118 ⟨rfl, rfl⟩ ⟨Nat.zero_le _, Nat.zero_le _⟩ (fun H locs hR hS => ?_)
                      have J146 : ∀ (g29 : GM) (H : Heap) (locs : List Loc) (ls : Array Slot), Rep G sh g29 gl gr n H → va_S (own G) s.heap H locs → lv_has ls 6 [(0, .ref (adr G 128)), (1, .int a1), (2, .int a2), (3, .int a3), (4, .int a4), (5, .int x24)] → j_X14_minds_146 x24 (l_X14_minds_105 a1 a2 a3 a4 k105) g29 = some (r, go) → W p l e rm_X14_minds s m ([.ref (adr G 128), .int a1, .int a2, .int a3, .int a4] : List Value).toArray below meth c H locs 0 0 (MQ below (QR G (some (.int r)) sh go gl gr n) ([.ref (adr G 128), .int a1, .int a2, .int a3, .int a4] : List Value).toArray s rm_X14_minds.cells rm_X14_minds.slots (own G)) (F0 m 146 ls []) := by
                        intro g29 H locs ls hR hS hl h
                        unfold j_X14_minds_146 at h
                        refine lv_iinc (v := x24 + 1) (lv' := [(5, .int (x24 + 1)), (0, .ref (adr G 128)), (1, .int a1), (2, .int a2), (3, .int a3), (4, .int a4)]) hx hb dX14_minds_146 hl (k := 5) rfl rfl (by decide) rfl (fun ls hl => ?_)
                        refine lv_goto (tgt := 105) hx hb dX14_minds_149 (by decide) ?_
                        exact ih105 (x24 + 1) g29 _ _ _ hR hS (lv_sub hl [1, 2, 3, 4, 5, 0] rfl) h
                      refine lv_if_lt (tgt := 146) hx hb dX14_minds_121 (by decide) (fun c30 => ?_) (fun c30 => ?_)
                      · replace h := ifp h c30
                        exact J146 g25 _ _ _ hR hS (lv_sub hl [0, 1, 2, 3, 4, 5] rfl) h
                      · replace h := ifn h c30
                        refine lv_aload_n hx hb dX14_minds_124 rfl (lv_at hl 0 rfl) ?_
                        refine lv_iload_n hx hb dX14_minds_125 rfl (lv_at hl 3 rfl) ?_
                        refine lv_iload hx hb dX14_minds_126 (lv_at hl 5 rfl) ?_
                        refine lv_iadd hx hb dX14_minds_128 ?_
                        refine lv_aload_n hx hb dX14_minds_129 rfl (lv_at hl 0 rfl) ?_
                        refine r_getr hx hb hts cfX14 hown hK hR (sk_128 hSk) 15 (by decide) rfl (sr_128_15 hSk) (hts _ q1536) (fun _ h => h) dX14_minds_130 ?_
                        refine lv_bipush (v := 40) hx hb dX14_minds_133 kb_40 ?_
                        refine lv_iload_n hx hb dX14_minds_135 rfl (lv_at hl 1 rfl) ?_
                        refine lv_imul hx hb dX14_minds_136 ?_
                        refine lv_iload_n hx hb dX14_minds_137 rfl (lv_at hl 2 rfl) ?_
                        refine lv_iadd hx hb dX14_minds_138 ?_
                        refine lv_iload hx hb dX14_minds_139 (lv_at hl 5 rfl) ?_
                        refine lv_iadd hx hb dX14_minds_141 ?_
                        obtain ⟨v32, e31, h⟩ := obd h
                        refine r_ldi hx hb hK hR (sk_138 hSk) e31 dX14_minds_142 ?_
                        obtain ⟨g34, e33, h⟩ := obd h
                        refine rc_V0 (rest := []) (st1 := []) hF (w_X14_isDeep hSk (a3 + x24) v32 e33) (cwV 2 hts (lw_V q1711 q1713 qs54 q117 q1714) rfl rfl rfl hd_X14_isDeep ⟨Nat.le_of_ble_eq_true rfl, Nat.le_of_ble_eq_true rfl⟩) cfX14 (sk_128 hSk) hK hW hR hS rfl hl.1 rfl (Nat.le_of_ble_eq_true rfl) rfl dX14_minds_143 ⟨rfl, rfl⟩ ⟨Nat.zero_le _, Nat.zero_le _⟩ (fun H locs hR hS => ?_)
                        exact J146 g34 _ _ _ hR hS (lv_sub hl [0, 1, 2, 3, 4, 5] rfl) h
                exact J105 fuel 0 g _ _ _ hR hS (lv_sub hl [1, 2, 3, 4, 5, 0] rfl) h
              · replace h := ifn h c23
                exact J99  _ _ _ hR hS (lv_sub hl [] rfl) h
          · replace h := ifn h c15
            refine lv_aload_n hx hb dX14_minds_53 rfl (lv_at hl 0 rfl) ?_
            refine r_getr hx hb hts cfX14 hown hK hR (sk_128 hSk) 13 (by decide) rfl (sr_128_13 hSk) (hts _ q1534) (fun _ h => h) dX14_minds_54 ?_
            refine lv_iload_n hx hb dX14_minds_57 rfl (lv_at hl 1 rfl) ?_
            obtain ⟨v36, e35, h⟩ := obd h
            refine r_ldi hx hb hK hR (sk_136 hSk) e35 dX14_minds_58 ?_
            have J69 : ∀ (x37 : Int32) (H : Heap) (locs : List Loc) (ls : Array Slot), Rep G sh g gl gr n H → va_S (own G) s.heap H locs → lv_has ls 6 [] → j_X14_minds_69 g x37 = some (r, go) → W p l e rm_X14_minds s m ([.ref (adr G 128), .int a1, .int a2, .int a3, .int a4] : List Value).toArray below meth c H locs 0 0 (MQ below (QR G (some (.int r)) sh go gl gr n) ([.ref (adr G 128), .int a1, .int a2, .int a3, .int a4] : List Value).toArray s rm_X14_minds.cells rm_X14_minds.slots (own G)) (F0 m 69 ls [.int x37]) := by
              intro x37 H locs ls hR hS hl h
              unfold j_X14_minds_69 at h
              obtain ⟨rfl, rfl⟩ := s2i h
              exact r_iret0 hx hb hr hlk hR hS (Nat.zero_le _) (Nat.zero_le _) dX14_minds_69
            refine lv_if_ge (tgt := 67) hx hb dX14_minds_59 (by decide) (fun c38 => ?_) (fun c38 => ?_)
            · replace h := ifp h c38
              refine lv_bipush (v := (-13)) hx hb dX14_minds_67 kb_m13 ?_
              exact J69 (-13) _ _ _ hR hS (lv_sub hl [] rfl) h
            · replace h := ifn h c38
              refine lv_bipush (v := (-11)) hx hb dX14_minds_62 kb_m11 ?_
              refine lv_goto (tgt := 69) hx hb dX14_minds_64 (by decide) ?_
              exact J69 (-11) _ _ _ hR hS (lv_sub hl [] rfl) h
        · replace h := ifn h c12
          exact J42  _ _ _ hR hS (lv_sub hl [] rfl) h
def rm_X14_sheet : Room := { frames := 3, cells := 0, slots := 0, locals := 57 }
theorem hd_X14_sheet : yX14_sheet.cls = "IntentVatsModel" ∧ yX14_sheet.cls ≠ "java/lang/invoke/MethodHandle" ∧ yX14_sheet.cls ≠ "java/lang/invoke/VarHandle" ∧ (parseMethodDescriptor yX14_sheet.desc).map (fun d => d.parameters.length) = some 3 := by decide +kernel
theorem he_X14_sheet : yX14_sheet.cls ≠ "java/lang/invoke/MethodHandle" ∧ yX14_sheet.cls ≠ "java/lang/invoke/VarHandle" ∧ (parseMethodDescriptor yX14_sheet.desc).map (fun d => d.parameters.length) = some 3 := hd_X14_sheet.2

set_option maxHeartbeats 4000000 in
set_option maxRecDepth 100000 in
theorem w_X14_sheet {l : Launch} {G : Gx} {sh : SM} {g : GM} {gl : LM} {gr : RM} {n : Nat} (hSk : Sk sh gr) (a1 : Int32) (a2 : Int32) (a3 : Int32)  {r : Int32} {go : GM} (h : f_X14_sheet g a1 a2 a3 = some (r, go)) : MetI l G yX14_sheet (ws_ yX14_sheet cX14_sheet 5 (Option.some Jvm.ClassFile.FieldType.int)) rm_X14_sheet [.ref (adr G 128), .int a1, .int a2, .int a3] sh g gl gr n (some (.int r)) sh go gl gr n := by
  refine MetI.of (by decide) (Nat.le_of_ble_eq_true rfl) ?_
  intro p e s m below meth c ls hx hb hr hml hown hts hlk hnm hW hK hR hS hl
  have hown : s.vm.findClass RX14 = some m.cls := hown
  have hF : CallFix p m c cX14_sheet 5 s ([.ref (adr G 128), .int a1, .int a2, .int a3] : List Value).toArray lw_all RX14 := ⟨hx, hb, hml, hown, hts⟩
  have hl : lv_has ls 5 [(0, .ref (adr G 128)), (1, .int a1), (2, .int a2), (3, .int a3)] := hl
  unfold f_X14_sheet at h
  refine lv_iload_n hx hb dX14_sheet_0 rfl (lv_at hl 1 rfl) ?_
  obtain ⟨r2, e1, h⟩ := obd h
  refine rc_S0 (rest := []) (st1 := [.int r2]) hF (w_X14_isFour hSk a1 e1) (va_cwS 1 hts (lw_S q1865 q1866 q117 q1867) rfl rfl rfl he_X14_isFour ⟨Nat.le_of_ble_eq_true rfl, Nat.le_of_ble_eq_true rfl⟩) hW hR hS rfl hl.1 rfl (Nat.le_of_ble_eq_true rfl) rfl dX14_sheet_1 ⟨rfl, rfl⟩ ⟨Nat.zero_le _, Nat.zero_le _⟩ (fun H locs hR hS => ?_)
  have J31 : ∀  (H : Heap) (locs : List Loc) (ls : Array Slot), Rep G sh g gl gr n H → va_S (own G) s.heap H locs → lv_has ls 5 [] → j_X14_sheet_31 g  = some (r, go) → W p l e rm_X14_sheet s m ([.ref (adr G 128), .int a1, .int a2, .int a3] : List Value).toArray below meth c H locs 0 0 (MQ below (QR G (some (.int r)) sh go gl gr n) ([.ref (adr G 128), .int a1, .int a2, .int a3] : List Value).toArray s rm_X14_sheet.cells rm_X14_sheet.slots (own G)) (F0 m 31 ls []) := by
    intro  H locs ls hR hS hl h
    unfold j_X14_sheet_31 at h
    refine lv_iconst (v := (-1)) hx hb dX14_sheet_31 ki_m1 ?_
    obtain ⟨rfl, rfl⟩ := s2i h
    exact r_iret0 hx hb hr hlk hR hS (Nat.zero_le _) (Nat.zero_le _) dX14_sheet_32
  refine lv_if_eq (tgt := 31) hx hb dX14_sheet_4 (by decide) (fun c3 => ?_) (fun c3 => ?_)
  · replace h := ifp h c3
    exact J31  _ _ _ hR hS (lv_sub hl [] rfl) h
  · replace h := ifn h c3
    refine lv_iload_n hx hb dX14_sheet_7 rfl (lv_at hl 2 rfl) ?_
    refine lv_i2l hx hb dX14_sheet_8 rfl ?_
    refine lv_ldc2 (v := (-1)) hx hb hown (hts _ q1876) dX14_sheet_9 ?_
    refine lv_ldc2 (v := 3) hx hb hown (hts _ q1601) dX14_sheet_12 ?_
    obtain ⟨r5, e4, h⟩ := obd h
    refine rc_S0 (rest := []) (st1 := [.int r5]) hF (w_X14_in hSk a2.toInt64 (-1) 3 e4) (va_cwS 3 hts (lw_S q1602 q1603 q117 q1604) rfl rfl rfl he_X14_in ⟨Nat.le_of_ble_eq_true rfl, Nat.le_of_ble_eq_true rfl⟩) hW hR hS rfl hl.1 rfl (Nat.le_of_ble_eq_true rfl) rfl dX14_sheet_15 ⟨rfl, rfl⟩ ⟨Nat.zero_le _, Nat.zero_le _⟩ (fun H locs hR hS => ?_)
    refine lv_if_eq (tgt := 31) hx hb dX14_sheet_18 (by decide) (fun c6 => ?_) (fun c6 => ?_)
    · replace h := ifp h c6
      exact J31  _ _ _ hR hS (lv_sub hl [] rfl) h
    · replace h := ifn h c6
      refine lv_iload_n hx hb dX14_sheet_21 rfl (lv_at hl 2 rfl) ?_
      have J33 : ∀  (H : Heap) (locs : List Loc) (ls : Array Slot), Rep G sh g gl gr n H → va_S (own G) s.heap H locs → lv_has ls 5 [(0, .ref (adr G 128)), (1, .int a1), (2, .int a2), (3, .int a3)] → j_X14_sheet_33 g a1 a2 a3  = some (r, go) → W p l e rm_X14_sheet s m ([.ref (adr G 128), .int a1, .int a2, .int a3] : List Value).toArray below meth c H locs 0 0 (MQ below (QR G (some (.int r)) sh go gl gr n) ([.ref (adr G 128), .int a1, .int a2, .int a3] : List Value).toArray s rm_X14_sheet.cells rm_X14_sheet.slots (own G)) (F0 m 33 ls []) := by
        intro  H locs ls hR hS hl h
        unfold j_X14_sheet_33 at h
        refine lv_iload_n hx hb dX14_sheet_33 rfl (lv_at hl 2 rfl) ?_
        have J44 : ∀  (H : Heap) (locs : List Loc) (ls : Array Slot), Rep G sh g gl gr n H → va_S (own G) s.heap H locs → lv_has ls 5 [(0, .ref (adr G 128)), (1, .int a1), (2, .int a2), (3, .int a3)] → j_X14_sheet_44 g a1 a2 a3  = some (r, go) → W p l e rm_X14_sheet s m ([.ref (adr G 128), .int a1, .int a2, .int a3] : List Value).toArray below meth c H locs 0 0 (MQ below (QR G (some (.int r)) sh go gl gr n) ([.ref (adr G 128), .int a1, .int a2, .int a3] : List Value).toArray s rm_X14_sheet.cells rm_X14_sheet.slots (own G)) (F0 m 44 ls []) := by
          intro  H locs ls hR hS hl h
          unfold j_X14_sheet_44 at h
          refine lv_aload_n hx hb dX14_sheet_44 rfl (lv_at hl 0 rfl) ?_
          refine r_getr hx hb hts cfX14 hown hK hR (sk_128 hSk) 13 (by decide) rfl (sr_128_13 hSk) (hts _ q1534) (fun _ h => h) dX14_sheet_45 ?_
          refine lv_iload_n hx hb dX14_sheet_48 rfl (lv_at hl 1 rfl) ?_
          refine lv_iload_n hx hb dX14_sheet_49 rfl (lv_at hl 2 rfl) ?_
          obtain ⟨g8, e7, h⟩ := obd h
          refine r_sti hx hb hK hR hS (sk_136 hSk) e7 dX14_sheet_50 (fun H locs hR hS => ?_)
          refine lv_aload_n hx hb dX14_sheet_51 rfl (lv_at hl 0 rfl) ?_
          refine r_getr hx hb hts cfX14 hown hK hR (sk_128 hSk) 14 (by decide) rfl (sr_128_14 hSk) (hts _ q1535) (fun _ h => h) dX14_sheet_52 ?_
          refine lv_iload_n hx hb dX14_sheet_55 rfl (lv_at hl 1 rfl) ?_
          refine lv_iload_n hx hb dX14_sheet_56 rfl (lv_at hl 2 rfl) ?_
          have J65 : ∀ (x9 : Int32) (H : Heap) (locs : List Loc) (ls : Array Slot), Rep G sh g8 gl gr n H → va_S (own G) s.heap H locs → lv_has ls 5 [(0, .ref (adr G 128)), (1, .int a1)] → j_X14_sheet_65 a1 g8 x9 = some (r, go) → W p l e rm_X14_sheet s m ([.ref (adr G 128), .int a1, .int a2, .int a3] : List Value).toArray below meth c H locs 0 0 (MQ below (QR G (some (.int r)) sh go gl gr n) ([.ref (adr G 128), .int a1, .int a2, .int a3] : List Value).toArray s rm_X14_sheet.cells rm_X14_sheet.slots (own G)) (F0 m 65 ls [.int x9, .int a1, .ref (adr G 137)]) := by
            intro x9 H locs ls hR hS hl h
            unfold j_X14_sheet_65 at h
            obtain ⟨g11, e10, h⟩ := obd h
            refine r_sti hx hb hK hR hS (sk_137 hSk) e10 dX14_sheet_65 (fun H locs hR hS => ?_)
            refine lv_iconst (v := 0) hx hb dX14_sheet_66 ki_0 ?_
            refine lv_istore (lv' := [(4, .int 0), (0, .ref (adr G 128)), (1, .int a1)]) hx hb dX14_sheet_67 hl (by decide) rfl (fun ls hl => ?_)
            have J69 : ∀ (k69 : Nat) (x12 : Int32) (g13 : GM) (H : Heap) (locs : List Loc) (ls : Array Slot), Rep G sh g13 gl gr n H → va_S (own G) s.heap H locs → lv_has ls 5 [(0, .ref (adr G 128)), (1, .int a1), (4, .int x12)] → l_X14_sheet_69 a1 k69 x12 g13 = some (r, go) → W p l e rm_X14_sheet s m ([.ref (adr G 128), .int a1, .int a2, .int a3] : List Value).toArray below meth c H locs 0 0 (MQ below (QR G (some (.int r)) sh go gl gr n) ([.ref (adr G 128), .int a1, .int a2, .int a3] : List Value).toArray s rm_X14_sheet.cells rm_X14_sheet.slots (own G)) (F0 m 69 ls []) := by
              intro k69
              induction k69 with
              | zero => intro _ _ _ _ _ _ _ _; exact nofun
              | succ k69 ih69 =>
                intro x12 g13 H locs ls hR hS hl h
                unfold l_X14_sheet_69 b_X14_sheet_69 at h
                refine lv_iload hx hb dX14_sheet_69 (lv_at hl 2 rfl) ?_
                refine lv_bipush (v := 40) hx hb dX14_sheet_71 kb_40 ?_
                refine lv_icmp_ge (tgt := 95) hx hb dX14_sheet_73 (by decide) (fun c14 => ?_) (fun c14 => ?_)
                · replace h := ifp h c14
                  refine lv_iconst (v := 1) hx hb dX14_sheet_95 ki_1 ?_
                  obtain ⟨rfl, rfl⟩ := s2i h
                  exact r_iret0 hx hb hr hlk hR hS (Nat.zero_le _) (Nat.zero_le _) dX14_sheet_96
                · replace h := ifn h c14
                  refine lv_aload_n hx hb dX14_sheet_76 rfl (lv_at hl 0 rfl) ?_
                  refine r_getr hx hb hts cfX14 hown hK hR (sk_128 hSk) 15 (by decide) rfl (sr_128_15 hSk) (hts _ q1536) (fun _ h => h) dX14_sheet_77 ?_
                  refine lv_bipush (v := 40) hx hb dX14_sheet_80 kb_40 ?_
                  refine lv_iload_n hx hb dX14_sheet_82 rfl (lv_at hl 1 rfl) ?_
                  refine lv_imul hx hb dX14_sheet_83 ?_
                  refine lv_iload hx hb dX14_sheet_84 (lv_at hl 2 rfl) ?_
                  refine lv_iadd hx hb dX14_sheet_86 ?_
                  refine lv_iconst (v := 0) hx hb dX14_sheet_87 ki_0 ?_
                  obtain ⟨g16, e15, h⟩ := obd h
                  refine r_sti hx hb hK hR hS (sk_138 hSk) e15 dX14_sheet_88 (fun H locs hR hS => ?_)
                  refine lv_iinc (v := x12 + 1) (lv' := [(4, .int (x12 + 1)), (0, .ref (adr G 128)), (1, .int a1)]) hx hb dX14_sheet_89 hl (k := 2) rfl rfl (by decide) rfl (fun ls hl => ?_)
                  refine lv_goto (tgt := 69) hx hb dX14_sheet_92 (by decide) ?_
                  exact ih69 (x12 + 1) g16 _ _ _ hR hS (lv_sub hl [1, 2, 0] rfl) h
            exact J69 fuel 0 g11 _ _ _ hR hS (lv_sub hl [1, 2, 0] rfl) h
          refine lv_if_ge (tgt := 64) hx hb dX14_sheet_57 (by decide) (fun c17 => ?_) (fun c17 => ?_)
          · replace h := ifp h c17
            refine lv_iload_n hx hb dX14_sheet_64 rfl (lv_at hl 3 rfl) ?_
            exact J65 a3 _ _ _ hR hS (lv_sub hl [0, 1] rfl) h
          · replace h := ifn h c17
            refine lv_iconst (v := 0) hx hb dX14_sheet_60 ki_0 ?_
            refine lv_goto (tgt := 65) hx hb dX14_sheet_61 (by decide) ?_
            exact J65 0 _ _ _ hR hS (lv_sub hl [0, 1] rfl) h
        refine lv_if_lt (tgt := 44) hx hb dX14_sheet_34 (by decide) (fun c18 => ?_) (fun c18 => ?_)
        · replace h := ifp h c18
          exact J44  _ _ _ hR hS (lv_sub hl [0, 1, 2, 3] rfl) h
        · replace h := ifn h c18
          refine lv_iload_n hx hb dX14_sheet_37 rfl (lv_at hl 3 rfl) ?_
          refine lv_if_ge (tgt := 44) hx hb dX14_sheet_38 (by decide) (fun c19 => ?_) (fun c19 => ?_)
          · replace h := ifp h c19
            exact J44  _ _ _ hR hS (lv_sub hl [0, 1, 2, 3] rfl) h
          · replace h := ifn h c19
            refine lv_bipush (v := (-14)) hx hb dX14_sheet_41 kb_m14 ?_
            obtain ⟨rfl, rfl⟩ := s2i h
            exact r_iret0 hx hb hr hlk hR hS (Nat.zero_le _) (Nat.zero_le _) dX14_sheet_43
      refine lv_if_lt (tgt := 33) hx hb dX14_sheet_22 (by decide) (fun c20 => ?_) (fun c20 => ?_)
      · replace h := ifp h c20
        exact J33  _ _ _ hR hS (lv_sub hl [0, 1, 2, 3] rfl) h
      · replace h := ifn h c20
        refine lv_iload_n hx hb dX14_sheet_25 rfl (lv_at hl 3 rfl) ?_
        refine lv_bipush (v := 40) hx hb dX14_sheet_26 kb_40 ?_
        refine lv_icmp_le (tgt := 33) hx hb dX14_sheet_28 (by decide) (fun c21 => ?_) (fun c21 => ?_)
        · replace h := ifp h c21
          exact J33  _ _ _ hR hS (lv_sub hl [0, 1, 2, 3] rfl) h
        · replace h := ifn h c21
          exact J31  _ _ _ hR hS (lv_sub hl [] rfl) h
def rm_X14_narrowed : Room := { frames := 1, cells := 0, slots := 0, locals := 12 }
theorem he_X14_narrowed : yX14_narrowed.cls ≠ "java/lang/invoke/MethodHandle" ∧ yX14_narrowed.cls ≠ "java/lang/invoke/VarHandle" ∧ (parseMethodDescriptor yX14_narrowed.desc).map (fun d => d.parameters.length) = some 2 := by decide +kernel

set_option maxHeartbeats 4000000 in
set_option maxRecDepth 100000 in
theorem w_X14_narrowed {l : Launch} {G : Gx} {sh : SM} {g : GM} {gl : LM} {gr : RM} {n : Nat} (hSk : Sk sh gr) (a0 : Int32) (a1 : Int32)  {r : Int32} (h : f_X14_narrowed  a0 a1 = some r) : MetI l G yX14_narrowed (ws_ yX14_narrowed cX14_narrowed 2 (Option.some Jvm.ClassFile.FieldType.int)) rm_X14_narrowed [.int a0, .int a1] sh g gl gr n (some (.int r)) sh g gl gr n := by
  refine MetI.of (by decide) (Nat.le_of_ble_eq_true rfl) ?_
  intro p e s m below meth c ls hx hb hr hml hown hts hlk hnm hW hK hR hS hl
  have hown : s.vm.findClass RX14 = some m.cls := hown
  have hF : CallFix p m c cX14_narrowed 2 s ([.int a0, .int a1] : List Value).toArray lw_all RX14 := ⟨hx, hb, hml, hown, hts⟩
  have hl : lv_has ls 2 [(0, .int a0), (1, .int a1)] := hl
  unfold f_X14_narrowed at h
  refine lv_iload_n hx hb dX14_narrowed_0 rfl (lv_at hl 0 rfl) ?_
  have J20 : ∀ (x1 : Int32) (H : Heap) (locs : List Loc) (ls : Array Slot), Rep G sh g gl gr n H → va_S (own G) s.heap H locs → lv_has ls 2 [] → j_X14_narrowed_20  x1 = some r → W p l e rm_X14_narrowed s m ([.int a0, .int a1] : List Value).toArray below meth c H locs 0 0 (MQ below (QR G (some (.int r)) sh g gl gr n) ([.int a0, .int a1] : List Value).toArray s rm_X14_narrowed.cells rm_X14_narrowed.slots (own G)) (F0 m 20 ls [.int x1]) := by
    intro x1 H locs ls hR hS hl h
    unfold j_X14_narrowed_20 at h
    obtain rfl := s1i h
    exact r_iret0 hx hb hr hlk hR hS (Nat.zero_le _) (Nat.zero_le _) dX14_narrowed_20
  refine lv_if_ne (tgt := 9) hx hb dX14_narrowed_1 (by decide) (fun c2 => ?_) (fun c2 => ?_)
  · replace h := ifn h c2
    refine lv_iload_n hx hb dX14_narrowed_9 rfl (lv_at hl 0 rfl) ?_
    refine lv_iconst (v := 1) hx hb dX14_narrowed_10 ki_1 ?_
    refine lv_icmp_ne (tgt := 19) hx hb dX14_narrowed_11 (by decide) (fun c3 => ?_) (fun c3 => ?_)
    · replace h := ifn h c3
      refine lv_iload_n hx hb dX14_narrowed_19 rfl (lv_at hl 1 rfl) ?_
      exact J20 a1 _ _ _ hR hS (lv_sub hl [] rfl) h
    · replace h := ifp h c3
      refine lv_iload_n hx hb dX14_narrowed_14 rfl (lv_at hl 1 rfl) ?_
      refine lv_i2s hx hb dX14_narrowed_15 rfl ?_
      refine lv_goto (tgt := 20) hx hb dX14_narrowed_16 (by decide) ?_
      exact J20 a1.toInt16.toInt32 _ _ _ hR hS (lv_sub hl [] rfl) h
  · replace h := ifp h c2
    refine lv_iload_n hx hb dX14_narrowed_4 rfl (lv_at hl 1 rfl) ?_
    refine lv_i2b hx hb dX14_narrowed_5 rfl ?_
    refine lv_goto (tgt := 20) hx hb dX14_narrowed_6 (by decide) ?_
    exact J20 a1.toInt8.toInt32 _ _ _ hR hS (lv_sub hl [] rfl) h
def rm_X14_put : Room := { frames := 3, cells := 0, slots := 0, locals := 57 }
theorem hd_X14_put : yX14_put.cls = "IntentVatsModel" ∧ yX14_put.cls ≠ "java/lang/invoke/MethodHandle" ∧ yX14_put.cls ≠ "java/lang/invoke/VarHandle" ∧ (parseMethodDescriptor yX14_put.desc).map (fun d => d.parameters.length) = some 3 := by decide +kernel
theorem he_X14_put : yX14_put.cls ≠ "java/lang/invoke/MethodHandle" ∧ yX14_put.cls ≠ "java/lang/invoke/VarHandle" ∧ (parseMethodDescriptor yX14_put.desc).map (fun d => d.parameters.length) = some 3 := hd_X14_put.2

set_option maxHeartbeats 4000000 in
set_option maxRecDepth 100000 in
theorem w_X14_put {l : Launch} {G : Gx} {sh : SM} {g : GM} {gl : LM} {gr : RM} {n : Nat} (hSk : Sk sh gr) (a1 : Int32) (a2 : Int32) (a3 : Int32)  {r : Int32} {go : GM} (h : f_X14_put g a1 a2 a3 = some (r, go)) : MetI l G yX14_put (ws_ yX14_put cX14_put 4 (Option.some Jvm.ClassFile.FieldType.int)) rm_X14_put [.ref (adr G 128), .int a1, .int a2, .int a3] sh g gl gr n (some (.int r)) sh go gl gr n := by
  refine MetI.of (by decide) (Nat.le_of_ble_eq_true rfl) ?_
  intro p e s m below meth c ls hx hb hr hml hown hts hlk hnm hW hK hR hS hl
  have hown : s.vm.findClass RX14 = some m.cls := hown
  have hF : CallFix p m c cX14_put 4 s ([.ref (adr G 128), .int a1, .int a2, .int a3] : List Value).toArray lw_all RX14 := ⟨hx, hb, hml, hown, hts⟩
  have hl : lv_has ls 4 [(0, .ref (adr G 128)), (1, .int a1), (2, .int a2), (3, .int a3)] := hl
  unfold f_X14_put at h
  refine lv_iload_n hx hb dX14_put_0 rfl (lv_at hl 1 rfl) ?_
  obtain ⟨r2, e1, h⟩ := obd h
  refine rc_S0 (rest := []) (st1 := [.int r2]) hF (w_X14_isFour hSk a1 e1) (va_cwS 1 hts (lw_S q1865 q1866 q117 q1867) rfl rfl rfl he_X14_isFour ⟨Nat.le_of_ble_eq_true rfl, Nat.le_of_ble_eq_true rfl⟩) hW hR hS rfl hl.1 rfl (Nat.le_of_ble_eq_true rfl) rfl dX14_put_1 ⟨rfl, rfl⟩ ⟨Nat.zero_le _, Nat.zero_le _⟩ (fun H locs hR hS => ?_)
  refine lv_if_ne (tgt := 9) hx hb dX14_put_4 (by decide) (fun c3 => ?_) (fun c3 => ?_)
  · replace h := ifn h c3
    refine lv_aload_n hx hb dX14_put_9 rfl (lv_at hl 0 rfl) ?_
    refine r_getr hx hb hts cfX14 hown hK hR (sk_128 hSk) 13 (by decide) rfl (sr_128_13 hSk) (hts _ q1534) (fun _ h => h) dX14_put_10 ?_
    refine lv_iload_n hx hb dX14_put_13 rfl (lv_at hl 1 rfl) ?_
    obtain ⟨v5, e4, h⟩ := obd h
    refine r_ldi hx hb hK hR (sk_136 hSk) e4 dX14_put_14 ?_
    refine lv_if_ge (tgt := 21) hx hb dX14_put_15 (by decide) (fun c6 => ?_) (fun c6 => ?_)
    · replace h := ifp h c6
      refine lv_iload_n hx hb dX14_put_21 rfl (lv_at hl 2 rfl) ?_
      refine lv_i2l hx hb dX14_put_22 rfl ?_
      refine lv_lconst (v := 0) hx hb dX14_put_23 rfl ?_
      refine lv_aload_n hx hb dX14_put_24 rfl (lv_at hl 0 rfl) ?_
      refine r_getr hx hb hts cfX14 hown hK hR (sk_128 hSk) 14 (by decide) rfl (sr_128_14 hSk) (hts _ q1535) (fun _ h => h) dX14_put_25 ?_
      refine lv_iload_n hx hb dX14_put_28 rfl (lv_at hl 1 rfl) ?_
      obtain ⟨v8, e7, h⟩ := obd h
      refine r_ldi hx hb hK hR (sk_137 hSk) e7 dX14_put_29 ?_
      refine lv_iconst (v := 1) hx hb dX14_put_30 ki_1 ?_
      refine lv_isub hx hb dX14_put_31 ?_
      refine lv_i2l hx hb dX14_put_32 rfl ?_
      obtain ⟨r10, e9, h⟩ := obd h
      refine rc_S0 (rest := []) (st1 := [.int r10]) hF (w_X14_in hSk a2.toInt64 0 ((v8 - 1).toInt64) e9) (va_cwS 3 hts (lw_S q1602 q1603 q117 q1604) rfl rfl rfl he_X14_in ⟨Nat.le_of_ble_eq_true rfl, Nat.le_of_ble_eq_true rfl⟩) hW hR hS rfl hl.1 rfl (Nat.le_of_ble_eq_true rfl) rfl dX14_put_33 ⟨rfl, rfl⟩ ⟨Nat.zero_le _, Nat.zero_le _⟩ (fun H locs hR hS => ?_)
      refine lv_if_ne (tgt := 42) hx hb dX14_put_36 (by decide) (fun c11 => ?_) (fun c11 => ?_)
      · replace h := ifn h c11
        refine lv_aload_n hx hb dX14_put_42 rfl (lv_at hl 0 rfl) ?_
        refine r_getr hx hb hts cfX14 hown hK hR (sk_128 hSk) 15 (by decide) rfl (sr_128_15 hSk) (hts _ q1536) (fun _ h => h) dX14_put_43 ?_
        refine lv_bipush (v := 40) hx hb dX14_put_46 kb_40 ?_
        refine lv_iload_n hx hb dX14_put_48 rfl (lv_at hl 1 rfl) ?_
        refine lv_imul hx hb dX14_put_49 ?_
        refine lv_iload_n hx hb dX14_put_50 rfl (lv_at hl 2 rfl) ?_
        refine lv_iadd hx hb dX14_put_51 ?_
        refine lv_aload_n hx hb dX14_put_52 rfl (lv_at hl 0 rfl) ?_
        refine r_getr hx hb hts cfX14 hown hK hR (sk_128 hSk) 13 (by decide) rfl (sr_128_13 hSk) (hts _ q1534) (fun _ h => h) dX14_put_53 ?_
        refine lv_iload_n hx hb dX14_put_56 rfl (lv_at hl 1 rfl) ?_
        obtain ⟨v13, e12, h⟩ := obd h
        refine r_ldi hx hb hK hR (sk_136 hSk) e12 dX14_put_57 ?_
        refine lv_iload_n hx hb dX14_put_58 rfl (lv_at hl 3 rfl) ?_
        obtain ⟨r15, e14, h⟩ := obd h
        refine rc_S0 (rest := [.int ((40 * a1) + a2), .ref (adr G 138)]) (st1 := [.int r15, .int ((40 * a1) + a2), .ref (adr G 138)]) hF (w_X14_narrowed hSk v13 a3 e14) (va_cwS 2 hts (lw_S q2004 q2005 q117 q2006) rfl rfl rfl he_X14_narrowed ⟨Nat.le_of_ble_eq_true rfl, Nat.le_of_ble_eq_true rfl⟩) hW hR hS rfl hl.1 rfl (Nat.le_of_ble_eq_true rfl) rfl dX14_put_59 ⟨rfl, rfl⟩ ⟨Nat.zero_le _, Nat.zero_le _⟩ (fun H locs hR hS => ?_)
        obtain ⟨g17, e16, h⟩ := obd h
        refine r_sti hx hb hK hR hS (sk_138 hSk) e16 dX14_put_62 (fun H locs hR hS => ?_)
        refine lv_iconst (v := 1) hx hb dX14_put_63 ki_1 ?_
        obtain ⟨rfl, rfl⟩ := s2i h
        exact r_iret0 hx hb hr hlk hR hS (Nat.zero_le _) (Nat.zero_le _) dX14_put_64
      · replace h := ifp h c11
        refine lv_bipush (v := (-12)) hx hb dX14_put_39 kb_m12 ?_
        obtain ⟨rfl, rfl⟩ := s2i h
        exact r_iret0 hx hb hr hlk hR hS (Nat.zero_le _) (Nat.zero_le _) dX14_put_41
    · replace h := ifn h c6
      refine lv_bipush (v := (-11)) hx hb dX14_put_18 kb_m11 ?_
      obtain ⟨rfl, rfl⟩ := s2i h
      exact r_iret0 hx hb hr hlk hR hS (Nat.zero_le _) (Nat.zero_le _) dX14_put_20
  · replace h := ifp h c3
    refine lv_iconst (v := (-1)) hx hb dX14_put_7 ki_m1 ?_
    obtain ⟨rfl, rfl⟩ := s2i h
    exact r_iret0 hx hb hr hlk hR hS (Nat.zero_le _) (Nat.zero_le _) dX14_put_8
def rm_X14_item_2 : Room := { frames := 3, cells := 0, slots := 0, locals := 57 }
theorem hd_X14_item_2 : yX14_item_2.cls = "IntentVatsModel" ∧ yX14_item_2.cls ≠ "java/lang/invoke/MethodHandle" ∧ yX14_item_2.cls ≠ "java/lang/invoke/VarHandle" ∧ (parseMethodDescriptor yX14_item_2.desc).map (fun d => d.parameters.length) = some 3 := by decide +kernel
theorem he_X14_item_2 : yX14_item_2.cls ≠ "java/lang/invoke/MethodHandle" ∧ yX14_item_2.cls ≠ "java/lang/invoke/VarHandle" ∧ (parseMethodDescriptor yX14_item_2.desc).map (fun d => d.parameters.length) = some 3 := hd_X14_item_2.2

set_option maxHeartbeats 4000000 in
set_option maxRecDepth 100000 in
theorem w_X14_item_2 {l : Launch} {G : Gx} {sh : SM} {g : GM} {gl : LM} {gr : RM} {n : Nat} (hSk : Sk sh gr) (a1 : Int32) (a2 : Int32) (a3 : Int32)  {r : Int32} (h : f_X14_item_2 g a1 a2 a3 = some r) : MetI l G yX14_item_2 (ws_ yX14_item_2 cX14_item_2 4 (Option.some Jvm.ClassFile.FieldType.int)) rm_X14_item_2 [.ref (adr G 128), .int a1, .int a2, .int a3] sh g gl gr n (some (.int r)) sh g gl gr n := by
  refine MetI.of (by decide) (Nat.le_of_ble_eq_true rfl) ?_
  intro p e s m below meth c ls hx hb hr hml hown hts hlk hnm hW hK hR hS hl
  have hown : s.vm.findClass RX14 = some m.cls := hown
  have hF : CallFix p m c cX14_item_2 4 s ([.ref (adr G 128), .int a1, .int a2, .int a3] : List Value).toArray lw_all RX14 := ⟨hx, hb, hml, hown, hts⟩
  have hl : lv_has ls 4 [(0, .ref (adr G 128)), (1, .int a1), (2, .int a2), (3, .int a3)] := hl
  unfold f_X14_item_2 at h
  refine lv_iload_n hx hb dX14_item_2_0 rfl (lv_at hl 1 rfl) ?_
  obtain ⟨r2, e1, h⟩ := obd h
  refine rc_S0 (rest := []) (st1 := [.int r2]) hF (w_X14_isFour hSk a1 e1) (va_cwS 1 hts (lw_S q1865 q1866 q117 q1867) rfl rfl rfl he_X14_isFour ⟨Nat.le_of_ble_eq_true rfl, Nat.le_of_ble_eq_true rfl⟩) hW hR hS rfl hl.1 rfl (Nat.le_of_ble_eq_true rfl) rfl dX14_item_2_1 ⟨rfl, rfl⟩ ⟨Nat.zero_le _, Nat.zero_le _⟩ (fun H locs hR hS => ?_)
  have J19 : ∀  (H : Heap) (locs : List Loc) (ls : Array Slot), Rep G sh g gl gr n H → va_S (own G) s.heap H locs → lv_has ls 4 [] → j_X14_item_2_19   = some r → W p l e rm_X14_item_2 s m ([.ref (adr G 128), .int a1, .int a2, .int a3] : List Value).toArray below meth c H locs 0 0 (MQ below (QR G (some (.int r)) sh g gl gr n) ([.ref (adr G 128), .int a1, .int a2, .int a3] : List Value).toArray s rm_X14_item_2.cells rm_X14_item_2.slots (own G)) (F0 m 19 ls []) := by
    intro  H locs ls hR hS hl h
    unfold j_X14_item_2_19 at h
    refine lv_iconst (v := (-1)) hx hb dX14_item_2_19 ki_m1 ?_
    obtain rfl := s1i h
    exact r_iret0 hx hb hr hlk hR hS (Nat.zero_le _) (Nat.zero_le _) dX14_item_2_20
  refine lv_if_eq (tgt := 19) hx hb dX14_item_2_4 (by decide) (fun c3 => ?_) (fun c3 => ?_)
  · replace h := ifp h c3
    exact J19  _ _ _ hR hS (lv_sub hl [] rfl) h
  · replace h := ifn h c3
    refine lv_iload_n hx hb dX14_item_2_7 rfl (lv_at hl 2 rfl) ?_
    refine lv_i2l hx hb dX14_item_2_8 rfl ?_
    refine lv_lconst (v := 0) hx hb dX14_item_2_9 rfl ?_
    refine lv_ldc2 (v := 3) hx hb hown (hts _ q1601) dX14_item_2_10 ?_
    obtain ⟨r5, e4, h⟩ := obd h
    refine rc_S0 (rest := []) (st1 := [.int r5]) hF (w_X14_in hSk a2.toInt64 0 3 e4) (va_cwS 3 hts (lw_S q1602 q1603 q117 q1604) rfl rfl rfl he_X14_in ⟨Nat.le_of_ble_eq_true rfl, Nat.le_of_ble_eq_true rfl⟩) hW hR hS rfl hl.1 rfl (Nat.le_of_ble_eq_true rfl) rfl dX14_item_2_13 ⟨rfl, rfl⟩ ⟨Nat.zero_le _, Nat.zero_le _⟩ (fun H locs hR hS => ?_)
    refine lv_if_ne (tgt := 21) hx hb dX14_item_2_16 (by decide) (fun c6 => ?_) (fun c6 => ?_)
    · replace h := ifn h c6
      refine lv_aload_n hx hb dX14_item_2_21 rfl (lv_at hl 0 rfl) ?_
      refine r_getr hx hb hts cfX14 hown hK hR (sk_128 hSk) 13 (by decide) rfl (sr_128_13 hSk) (hts _ q1534) (fun _ h => h) dX14_item_2_22 ?_
      refine lv_iload_n hx hb dX14_item_2_25 rfl (lv_at hl 1 rfl) ?_
      obtain ⟨v8, e7, h⟩ := obd h
      refine r_ldi hx hb hK hR (sk_136 hSk) e7 dX14_item_2_26 ?_
      refine lv_if_ge (tgt := 33) hx hb dX14_item_2_27 (by decide) (fun c9 => ?_) (fun c9 => ?_)
      · replace h := ifp h c9
        refine lv_aload_n hx hb dX14_item_2_33 rfl (lv_at hl 0 rfl) ?_
        refine r_getr hx hb hts cfX14 hown hK hR (sk_128 hSk) 13 (by decide) rfl (sr_128_13 hSk) (hts _ q1534) (fun _ h => h) dX14_item_2_34 ?_
        refine lv_iload_n hx hb dX14_item_2_37 rfl (lv_at hl 1 rfl) ?_
        obtain ⟨v11, e10, h⟩ := obd h
        refine r_ldi hx hb hK hR (sk_136 hSk) e10 dX14_item_2_38 ?_
        refine lv_iload_n hx hb dX14_item_2_39 rfl (lv_at hl 2 rfl) ?_
        refine lv_icmp_eq (tgt := 46) hx hb dX14_item_2_40 (by decide) (fun c12 => ?_) (fun c12 => ?_)
        · replace h := ifp h c12
          refine lv_iload_n hx hb dX14_item_2_46 rfl (lv_at hl 3 rfl) ?_
          refine lv_i2l hx hb dX14_item_2_47 rfl ?_
          refine lv_lconst (v := 0) hx hb dX14_item_2_48 rfl ?_
          refine lv_aload_n hx hb dX14_item_2_49 rfl (lv_at hl 0 rfl) ?_
          refine r_getr hx hb hts cfX14 hown hK hR (sk_128 hSk) 14 (by decide) rfl (sr_128_14 hSk) (hts _ q1535) (fun _ h => h) dX14_item_2_50 ?_
          refine lv_iload_n hx hb dX14_item_2_53 rfl (lv_at hl 1 rfl) ?_
          obtain ⟨v14, e13, h⟩ := obd h
          refine r_ldi hx hb hK hR (sk_137 hSk) e13 dX14_item_2_54 ?_
          refine lv_iconst (v := 1) hx hb dX14_item_2_55 ki_1 ?_
          refine lv_isub hx hb dX14_item_2_56 ?_
          refine lv_i2l hx hb dX14_item_2_57 rfl ?_
          obtain ⟨r16, e15, h⟩ := obd h
          refine rc_S0 (rest := []) (st1 := [.int r16]) hF (w_X14_in hSk a3.toInt64 0 ((v14 - 1).toInt64) e15) (va_cwS 3 hts (lw_S q1602 q1603 q117 q1604) rfl rfl rfl he_X14_in ⟨Nat.le_of_ble_eq_true rfl, Nat.le_of_ble_eq_true rfl⟩) hW hR hS rfl hl.1 rfl (Nat.le_of_ble_eq_true rfl) rfl dX14_item_2_58 ⟨rfl, rfl⟩ ⟨Nat.zero_le _, Nat.zero_le _⟩ (fun H locs hR hS => ?_)
          have J80 : ∀ (x17 : Int32) (H : Heap) (locs : List Loc) (ls : Array Slot), Rep G sh g gl gr n H → va_S (own G) s.heap H locs → lv_has ls 4 [] → j_X14_item_2_80  x17 = some r → W p l e rm_X14_item_2 s m ([.ref (adr G 128), .int a1, .int a2, .int a3] : List Value).toArray below meth c H locs 0 0 (MQ below (QR G (some (.int r)) sh g gl gr n) ([.ref (adr G 128), .int a1, .int a2, .int a3] : List Value).toArray s rm_X14_item_2.cells rm_X14_item_2.slots (own G)) (F0 m 80 ls [.int x17]) := by
            intro x17 H locs ls hR hS hl h
            unfold j_X14_item_2_80 at h
            obtain rfl := s1i h
            exact r_iret0 hx hb hr hlk hR hS (Nat.zero_le _) (Nat.zero_le _) dX14_item_2_80
          refine lv_if_eq (tgt := 78) hx hb dX14_item_2_61 (by decide) (fun c18 => ?_) (fun c18 => ?_)
          · replace h := ifp h c18
            refine lv_bipush (v := (-12)) hx hb dX14_item_2_78 kb_m12 ?_
            exact J80 (-12) _ _ _ hR hS (lv_sub hl [] rfl) h
          · replace h := ifn h c18
            refine lv_aload_n hx hb dX14_item_2_64 rfl (lv_at hl 0 rfl) ?_
            refine r_getr hx hb hts cfX14 hown hK hR (sk_128 hSk) 15 (by decide) rfl (sr_128_15 hSk) (hts _ q1536) (fun _ h => h) dX14_item_2_65 ?_
            refine lv_bipush (v := 40) hx hb dX14_item_2_68 kb_40 ?_
            refine lv_iload_n hx hb dX14_item_2_70 rfl (lv_at hl 1 rfl) ?_
            refine lv_imul hx hb dX14_item_2_71 ?_
            refine lv_iload_n hx hb dX14_item_2_72 rfl (lv_at hl 3 rfl) ?_
            refine lv_iadd hx hb dX14_item_2_73 ?_
            obtain ⟨v20, e19, h⟩ := obd h
            refine r_ldi hx hb hK hR (sk_138 hSk) e19 dX14_item_2_74 ?_
            refine lv_goto (tgt := 80) hx hb dX14_item_2_75 (by decide) ?_
            exact J80 v20 _ _ _ hR hS (lv_sub hl [] rfl) h
        · replace h := ifn h c12
          refine lv_bipush (v := (-13)) hx hb dX14_item_2_43 kb_m13 ?_
          obtain rfl := s1i h
          exact r_iret0 hx hb hr hlk hR hS (Nat.zero_le _) (Nat.zero_le _) dX14_item_2_45
      · replace h := ifn h c9
        refine lv_bipush (v := (-11)) hx hb dX14_item_2_30 kb_m11 ?_
        obtain rfl := s1i h
        exact r_iret0 hx hb hr hlk hR hS (Nat.zero_le _) (Nat.zero_le _) dX14_item_2_32
    · replace h := ifp h c6
      exact J19  _ _ _ hR hS (lv_sub hl [] rfl) h
def rm_X14_shelf : Room := { frames := 3, cells := 0, slots := 0, locals := 58 }
theorem hd_X14_shelf : yX14_shelf.cls = "IntentVatsModel" ∧ yX14_shelf.cls ≠ "java/lang/invoke/MethodHandle" ∧ yX14_shelf.cls ≠ "java/lang/invoke/VarHandle" ∧ (parseMethodDescriptor yX14_shelf.desc).map (fun d => d.parameters.length) = some 3 := by decide +kernel
theorem he_X14_shelf : yX14_shelf.cls ≠ "java/lang/invoke/MethodHandle" ∧ yX14_shelf.cls ≠ "java/lang/invoke/VarHandle" ∧ (parseMethodDescriptor yX14_shelf.desc).map (fun d => d.parameters.length) = some 3 := hd_X14_shelf.2

set_option maxHeartbeats 4000000 in
set_option maxRecDepth 100000 in
theorem w_X14_shelf {l : Launch} {G : Gx} {sh : SM} {g : GM} {gl : LM} {gr : RM} {n : Nat} (hSk : Sk sh gr) (a1 : Int32) (a2 : Int32) (a3 : Int32)  {r : Int32} {go : GM} (h : f_X14_shelf g a1 a2 a3 = some (r, go)) : MetI l G yX14_shelf (ws_ yX14_shelf cX14_shelf 6 (Option.some Jvm.ClassFile.FieldType.int)) rm_X14_shelf [.ref (adr G 128), .int a1, .int a2, .int a3] sh g gl gr n (some (.int r)) sh go gl gr n := by
  refine MetI.of (by decide) (Nat.le_of_ble_eq_true rfl) ?_
  intro p e s m below meth c ls hx hb hr hml hown hts hlk hnm hW hK hR hS hl
  have hown : s.vm.findClass RX14 = some m.cls := hown
  have hF : CallFix p m c cX14_shelf 6 s ([.ref (adr G 128), .int a1, .int a2, .int a3] : List Value).toArray lw_all RX14 := ⟨hx, hb, hml, hown, hts⟩
  have hl : lv_has ls 6 [(0, .ref (adr G 128)), (1, .int a1), (2, .int a2), (3, .int a3)] := hl
  unfold f_X14_shelf at h
  refine lv_iload_n hx hb dX14_shelf_0 rfl (lv_at hl 2 rfl) ?_
  have J34 : ∀ (x1 : Int32) (H : Heap) (locs : List Loc) (ls : Array Slot), Rep G sh g gl gr n H → va_S (own G) s.heap H locs → lv_has ls 6 [(0, .ref (adr G 128)), (1, .int a1), (2, .int a2), (3, .int a3)] → j_X14_shelf_34 g a1 a2 a3 x1 = some (r, go) → W p l e rm_X14_shelf s m ([.ref (adr G 128), .int a1, .int a2, .int a3] : List Value).toArray below meth c H locs 0 0 (MQ below (QR G (some (.int r)) sh go gl gr n) ([.ref (adr G 128), .int a1, .int a2, .int a3] : List Value).toArray s rm_X14_shelf.cells rm_X14_shelf.slots (own G)) (F0 m 34 ls [.int x1]) := by
    intro x1 H locs ls hR hS hl h
    unfold j_X14_shelf_34 at h
    refine lv_istore (lv' := [(4, .int x1), (0, .ref (adr G 128)), (1, .int a1), (2, .int a2), (3, .int a3)]) hx hb dX14_shelf_34 hl (by decide) rfl (fun ls hl => ?_)
    refine lv_iload_n hx hb dX14_shelf_36 rfl (lv_at hl 2 rfl) ?_
    obtain ⟨r3, e2, h⟩ := obd h
    refine rc_S0 (rest := []) (st1 := [.int r3]) hF (w_X14_isFour hSk a1 e2) (va_cwS 1 hts (lw_S q1865 q1866 q117 q1867) rfl rfl rfl he_X14_isFour ⟨Nat.le_of_ble_eq_true rfl, Nat.le_of_ble_eq_true rfl⟩) hW hR hS rfl hl.1 rfl (Nat.le_of_ble_eq_true rfl) rfl dX14_shelf_37 ⟨rfl, rfl⟩ ⟨Nat.zero_le _, Nat.zero_le _⟩ (fun H locs hR hS => ?_)
    have J48 : ∀  (H : Heap) (locs : List Loc) (ls : Array Slot), Rep G sh g gl gr n H → va_S (own G) s.heap H locs → lv_has ls 6 [] → j_X14_shelf_48 g  = some (r, go) → W p l e rm_X14_shelf s m ([.ref (adr G 128), .int a1, .int a2, .int a3] : List Value).toArray below meth c H locs 0 0 (MQ below (QR G (some (.int r)) sh go gl gr n) ([.ref (adr G 128), .int a1, .int a2, .int a3] : List Value).toArray s rm_X14_shelf.cells rm_X14_shelf.slots (own G)) (F0 m 48 ls []) := by
      intro  H locs ls hR hS hl h
      unfold j_X14_shelf_48 at h
      refine lv_iconst (v := (-1)) hx hb dX14_shelf_48 ki_m1 ?_
      obtain ⟨rfl, rfl⟩ := s2i h
      exact r_iret0 hx hb hr hlk hR hS (Nat.zero_le _) (Nat.zero_le _) dX14_shelf_49
    refine lv_if_eq (tgt := 48) hx hb dX14_shelf_40 (by decide) (fun c4 => ?_) (fun c4 => ?_)
    · replace h := ifp h c4
      exact J48  _ _ _ hR hS (lv_sub hl [] rfl) h
    · replace h := ifn h c4
      refine lv_iload hx hb dX14_shelf_43 (lv_at hl 0 rfl) ?_
      refine lv_if_ne (tgt := 50) hx hb dX14_shelf_45 (by decide) (fun c5 => ?_) (fun c5 => ?_)
      · replace h := ifn h c5
        refine lv_iload_n hx hb dX14_shelf_50 rfl (lv_at hl 3 rfl) ?_
        refine lv_iconst (v := 1) hx hb dX14_shelf_51 ki_1 ?_
        have J60 : ∀ (x6 : Int32) (H : Heap) (locs : List Loc) (ls : Array Slot), Rep G sh g gl gr n H → va_S (own G) s.heap H locs → lv_has ls 6 [(0, .ref (adr G 128)), (1, .int a1), (2, .int a2), (3, .int a3)] → j_X14_shelf_60 g a1 a2 a3 x6 = some (r, go) → W p l e rm_X14_shelf s m ([.ref (adr G 128), .int a1, .int a2, .int a3] : List Value).toArray below meth c H locs 0 0 (MQ below (QR G (some (.int r)) sh go gl gr n) ([.ref (adr G 128), .int a1, .int a2, .int a3] : List Value).toArray s rm_X14_shelf.cells rm_X14_shelf.slots (own G)) (F0 m 60 ls [.int x6]) := by
          intro x6 H locs ls hR hS hl h
          unfold j_X14_shelf_60 at h
          refine lv_istore (lv' := [(5, .int x6), (0, .ref (adr G 128)), (1, .int a1), (2, .int a2), (3, .int a3)]) hx hb dX14_shelf_60 hl (by decide) rfl (fun ls hl => ?_)
          refine lv_aload_n hx hb dX14_shelf_62 rfl (lv_at hl 1 rfl) ?_
          refine r_getr hx hb hts cfX14 hown hK hR (sk_128 hSk) 16 (by decide) rfl (sr_128_16 hSk) (hts _ q1537) (fun _ h => h) dX14_shelf_63 ?_
          refine lv_iload_n hx hb dX14_shelf_66 rfl (lv_at hl 2 rfl) ?_
          refine lv_iload hx hb dX14_shelf_67 (lv_at hl 0 rfl) ?_
          have J86 : ∀ (x7 : Int32) (H : Heap) (locs : List Loc) (ls : Array Slot), Rep G sh g gl gr n H → va_S (own G) s.heap H locs → lv_has ls 6 [(0, .ref (adr G 128)), (1, .int a1), (3, .int a3), (5, .int x6)] → j_X14_shelf_86 g a1 a3 x6 x7 = some (r, go) → W p l e rm_X14_shelf s m ([.ref (adr G 128), .int a1, .int a2, .int a3] : List Value).toArray below meth c H locs 0 0 (MQ below (QR G (some (.int r)) sh go gl gr n) ([.ref (adr G 128), .int a1, .int a2, .int a3] : List Value).toArray s rm_X14_shelf.cells rm_X14_shelf.slots (own G)) (F0 m 86 ls [.int x7, .int a1, .ref (adr G 139)]) := by
            intro x7 H locs ls hR hS hl h
            unfold j_X14_shelf_86 at h
            obtain ⟨g9, e8, h⟩ := obd h
            refine r_sti hx hb hK hR hS (sk_139 hSk) e8 dX14_shelf_86 (fun H locs hR hS => ?_)
            refine lv_aload_n hx hb dX14_shelf_87 rfl (lv_at hl 0 rfl) ?_
            refine r_getr hx hb hts cfX14 hown hK hR (sk_128 hSk) 17 (by decide) rfl (sr_128_17 hSk) (hts _ q1538) (fun _ h => h) dX14_shelf_88 ?_
            refine lv_iload_n hx hb dX14_shelf_91 rfl (lv_at hl 1 rfl) ?_
            refine lv_iload hx hb dX14_shelf_92 (lv_at hl 3 rfl) ?_
            have J107 : ∀ (x10 : Int32) (H : Heap) (locs : List Loc) (ls : Array Slot), Rep G sh g9 gl gr n H → va_S (own G) s.heap H locs → lv_has ls 6 [(0, .ref (adr G 128)), (1, .int a1), (3, .int a3), (5, .int x6)] → j_X14_shelf_107 a1 a3 x6 g9 x10 = some (r, go) → W p l e rm_X14_shelf s m ([.ref (adr G 128), .int a1, .int a2, .int a3] : List Value).toArray below meth c H locs 0 0 (MQ below (QR G (some (.int r)) sh go gl gr n) ([.ref (adr G 128), .int a1, .int a2, .int a3] : List Value).toArray s rm_X14_shelf.cells rm_X14_shelf.slots (own G)) (F0 m 107 ls [.int x10, .int a1, .ref (adr G 140)]) := by
              intro x10 H locs ls hR hS hl h
              unfold j_X14_shelf_107 at h
              obtain ⟨g12, e11, h⟩ := obd h
              refine r_sti hx hb hK hR hS (sk_140 hSk) e11 dX14_shelf_107 (fun H locs hR hS => ?_)
              refine lv_aload_n hx hb dX14_shelf_108 rfl (lv_at hl 0 rfl) ?_
              refine r_getr hx hb hts cfX14 hown hK hR (sk_128 hSk) 18 (by decide) rfl (sr_128_18 hSk) (hts _ q1539) (fun _ h => h) dX14_shelf_109 ?_
              refine lv_iload_n hx hb dX14_shelf_112 rfl (lv_at hl 1 rfl) ?_
              refine lv_iload hx hb dX14_shelf_113 (lv_at hl 3 rfl) ?_
              have J128 : ∀ (x13 : Int32) (H : Heap) (locs : List Loc) (ls : Array Slot), Rep G sh g12 gl gr n H → va_S (own G) s.heap H locs → lv_has ls 6 [] → j_X14_shelf_128 a1 g12 x13 = some (r, go) → W p l e rm_X14_shelf s m ([.ref (adr G 128), .int a1, .int a2, .int a3] : List Value).toArray below meth c H locs 0 0 (MQ below (QR G (some (.int r)) sh go gl gr n) ([.ref (adr G 128), .int a1, .int a2, .int a3] : List Value).toArray s rm_X14_shelf.cells rm_X14_shelf.slots (own G)) (F0 m 128 ls [.int x13, .int a1, .ref (adr G 141)]) := by
                intro x13 H locs ls hR hS hl h
                unfold j_X14_shelf_128 at h
                obtain ⟨g15, e14, h⟩ := obd h
                refine r_sti hx hb hK hR hS (sk_141 hSk) e14 dX14_shelf_128 (fun H locs hR hS => ?_)
                refine lv_iconst (v := 1) hx hb dX14_shelf_129 ki_1 ?_
                obtain ⟨rfl, rfl⟩ := s2i h
                exact r_iret0 hx hb hr hlk hR hS (Nat.zero_le _) (Nat.zero_le _) dX14_shelf_130
              refine lv_if_eq (tgt := 127) hx hb dX14_shelf_115 (by decide) (fun c16 => ?_) (fun c16 => ?_)
              · replace h := ifp h c16
                refine lv_iconst (v := 0) hx hb dX14_shelf_127 ki_0 ?_
                exact J128 0 _ _ _ hR hS (lv_sub hl [] rfl) h
              · replace h := ifn h c16
                refine lv_aload_n hx hb dX14_shelf_118 rfl (lv_at hl 0 rfl) ?_
                refine r_getr hx hb hts cfX14 hown hK hR (sk_128 hSk) 14 (by decide) rfl (sr_128_14 hSk) (hts _ q1535) (fun _ h => h) dX14_shelf_119 ?_
                refine lv_iload_n hx hb dX14_shelf_122 rfl (lv_at hl 2 rfl) ?_
                obtain ⟨v18, e17, h⟩ := obd h
                refine r_ldi hx hb hK hR (sk_137 hSk) e17 dX14_shelf_123 ?_
                refine lv_goto (tgt := 128) hx hb dX14_shelf_124 (by decide) ?_
                exact J128 v18 _ _ _ hR hS (lv_sub hl [] rfl) h
            refine lv_if_eq (tgt := 106) hx hb dX14_shelf_94 (by decide) (fun c19 => ?_) (fun c19 => ?_)
            · replace h := ifp h c19
              refine lv_iload_n hx hb dX14_shelf_106 rfl (lv_at hl 2 rfl) ?_
              exact J107 a3 _ _ _ hR hS (lv_sub hl [0, 1, 2, 3] rfl) h
            · replace h := ifn h c19
              refine lv_aload_n hx hb dX14_shelf_97 rfl (lv_at hl 0 rfl) ?_
              refine r_getr hx hb hts cfX14 hown hK hR (sk_128 hSk) 13 (by decide) rfl (sr_128_13 hSk) (hts _ q1534) (fun _ h => h) dX14_shelf_98 ?_
              refine lv_iload_n hx hb dX14_shelf_101 rfl (lv_at hl 2 rfl) ?_
              obtain ⟨v21, e20, h⟩ := obd h
              refine r_ldi hx hb hK hR (sk_136 hSk) e20 dX14_shelf_102 ?_
              refine lv_goto (tgt := 107) hx hb dX14_shelf_103 (by decide) ?_
              exact J107 v21 _ _ _ hR hS (lv_sub hl [0, 1, 2, 3] rfl) h
          have J85 : ∀  (H : Heap) (locs : List Loc) (ls : Array Slot), Rep G sh g gl gr n H → va_S (own G) s.heap H locs → lv_has ls 6 [(0, .ref (adr G 128)), (1, .int a1), (2, .int a2), (3, .int a3), (5, .int x6)] → j_X14_shelf_85 g a1 a2 a3 x6  = some (r, go) → W p l e rm_X14_shelf s m ([.ref (adr G 128), .int a1, .int a2, .int a3] : List Value).toArray below meth c H locs 0 0 (MQ below (QR G (some (.int r)) sh go gl gr n) ([.ref (adr G 128), .int a1, .int a2, .int a3] : List Value).toArray s rm_X14_shelf.cells rm_X14_shelf.slots (own G)) (F0 m 85 ls [.int a1, .ref (adr G 139)]) := by
            intro  H locs ls hR hS hl h
            unfold j_X14_shelf_85 at h
            refine lv_iload_n hx hb dX14_shelf_85 rfl (lv_at hl 2 rfl) ?_
            exact J86 a2 _ _ _ hR hS (lv_sub hl [0, 1, 3, 4] rfl) h
          refine lv_if_eq (tgt := 85) hx hb dX14_shelf_69 (by decide) (fun c22 => ?_) (fun c22 => ?_)
          · replace h := ifp h c22
            exact J85  _ _ _ hR hS (lv_sub hl [1, 2, 3, 4, 0] rfl) h
          · replace h := ifn h c22
            refine lv_aload_n hx hb dX14_shelf_72 rfl (lv_at hl 1 rfl) ?_
            refine r_getr hx hb hts cfX14 hown hK hR (sk_128 hSk) 13 (by decide) rfl (sr_128_13 hSk) (hts _ q1534) (fun _ h => h) dX14_shelf_73 ?_
            refine lv_iload_n hx hb dX14_shelf_76 rfl (lv_at hl 4 rfl) ?_
            obtain ⟨v24, e23, h⟩ := obd h
            refine r_ldi hx hb hK hR (sk_136 hSk) e23 dX14_shelf_77 ?_
            refine lv_if_ge (tgt := 85) hx hb dX14_shelf_78 (by decide) (fun c25 => ?_) (fun c25 => ?_)
            · replace h := ifp h c25
              exact J85  _ _ _ hR hS (lv_sub hl [1, 2, 3, 4, 0] rfl) h
            · replace h := ifn h c25
              refine lv_iconst (v := 2) hx hb dX14_shelf_81 ki_2 ?_
              refine lv_goto (tgt := 86) hx hb dX14_shelf_82 (by decide) ?_
              exact J86 2 _ _ _ hR hS (lv_sub hl [1, 2, 4, 0] rfl) h
        refine lv_icmp_ne (tgt := 59) hx hb dX14_shelf_52 (by decide) (fun c26 => ?_) (fun c26 => ?_)
        · replace h := ifn h c26
          refine lv_iconst (v := 0) hx hb dX14_shelf_59 ki_0 ?_
          exact J60 0 _ _ _ hR hS (lv_sub hl [1, 2, 3, 4] rfl) h
        · replace h := ifp h c26
          refine lv_iconst (v := 1) hx hb dX14_shelf_55 ki_1 ?_
          refine lv_goto (tgt := 60) hx hb dX14_shelf_56 (by decide) ?_
          exact J60 1 _ _ _ hR hS (lv_sub hl [1, 2, 3, 4] rfl) h
      · replace h := ifp h c5
        exact J48  _ _ _ hR hS (lv_sub hl [] rfl) h
  refine lv_if_ne (tgt := 12) hx hb dX14_shelf_1 (by decide) (fun c27 => ?_) (fun c27 => ?_)
  · replace h := ifn h c27
    refine lv_iload_n hx hb dX14_shelf_12 rfl (lv_at hl 2 rfl) ?_
    refine lv_iconst (v := 1) hx hb dX14_shelf_13 ki_1 ?_
    refine lv_icmp_ne (tgt := 24) hx hb dX14_shelf_14 (by decide) (fun c28 => ?_) (fun c28 => ?_)
    · replace h := ifn h c28
      refine lv_iload_n hx hb dX14_shelf_24 rfl (lv_at hl 2 rfl) ?_
      refine lv_iconst (v := 2) hx hb dX14_shelf_25 ki_2 ?_
      refine lv_icmp_ne (tgt := 33) hx hb dX14_shelf_26 (by decide) (fun c29 => ?_) (fun c29 => ?_)
      · replace h := ifn h c29
        refine lv_iconst (v := 0) hx hb dX14_shelf_33 ki_0 ?_
        exact J34 0 _ _ _ hR hS (lv_sub hl [0, 1, 2, 3] rfl) h
      · replace h := ifp h c29
        refine lv_iconst (v := 1) hx hb dX14_shelf_29 ki_1 ?_
        refine lv_goto (tgt := 34) hx hb dX14_shelf_30 (by decide) ?_
        exact J34 1 _ _ _ hR hS (lv_sub hl [0, 1, 2, 3] rfl) h
    · replace h := ifp h c28
      refine lv_iload_n hx hb dX14_shelf_17 rfl (lv_at hl 3 rfl) ?_
      obtain ⟨r31, e30, h⟩ := obd h
      refine rc_S0 (rest := []) (st1 := [.int r31]) hF (w_X14_isFour hSk a3 e30) (va_cwS 1 hts (lw_S q1865 q1866 q117 q1867) rfl rfl rfl he_X14_isFour ⟨Nat.le_of_ble_eq_true rfl, Nat.le_of_ble_eq_true rfl⟩) hW hR hS rfl hl.1 rfl (Nat.le_of_ble_eq_true rfl) rfl dX14_shelf_18 ⟨rfl, rfl⟩ ⟨Nat.zero_le _, Nat.zero_le _⟩ (fun H locs hR hS => ?_)
      refine lv_goto (tgt := 34) hx hb dX14_shelf_21 (by decide) ?_
      exact J34 r31 _ _ _ hR hS (lv_sub hl [0, 1, 2, 3] rfl) h
  · replace h := ifp h c27
    refine lv_aload_n hx hb dX14_shelf_4 rfl (lv_at hl 0 rfl) ?_
    refine lv_iload_n hx hb dX14_shelf_5 rfl (lv_at hl 3 rfl) ?_
    obtain ⟨r33, e32, h⟩ := obd h
    refine rc_V0 (rest := []) (st1 := [.int r33]) hF (w_X14_isCloth hSk a3 e32) (cwV 1 hts (lw_V q1657 q1659 qs47 q117 q1660) rfl rfl rfl hd_X14_isCloth ⟨Nat.le_of_ble_eq_true rfl, Nat.le_of_ble_eq_true rfl⟩) cfX14 (sk_128 hSk) hK hW hR hS rfl hl.1 rfl (Nat.le_of_ble_eq_true rfl) rfl dX14_shelf_6 ⟨rfl, rfl⟩ ⟨Nat.zero_le _, Nat.zero_le _⟩ (fun H locs hR hS => ?_)
    refine lv_goto (tgt := 34) hx hb dX14_shelf_9 (by decide) ?_
    exact J34 r33 _ _ _ hR hS (lv_sub hl [0, 1, 2, 3] rfl) h
def rm_X14_isHeld : Room := { frames := 3, cells := 0, slots := 0, locals := 58 }
theorem hd_X14_isHeld : yX14_isHeld.cls = "IntentVatsModel" ∧ yX14_isHeld.cls ≠ "java/lang/invoke/MethodHandle" ∧ yX14_isHeld.cls ≠ "java/lang/invoke/VarHandle" ∧ (parseMethodDescriptor yX14_isHeld.desc).map (fun d => d.parameters.length) = some 1 := by decide +kernel
theorem he_X14_isHeld : yX14_isHeld.cls ≠ "java/lang/invoke/MethodHandle" ∧ yX14_isHeld.cls ≠ "java/lang/invoke/VarHandle" ∧ (parseMethodDescriptor yX14_isHeld.desc).map (fun d => d.parameters.length) = some 1 := hd_X14_isHeld.2

set_option maxHeartbeats 4000000 in
set_option maxRecDepth 100000 in
theorem w_X14_isHeld {l : Launch} {G : Gx} {sh : SM} {g : GM} {gl : LM} {gr : RM} {n : Nat} (hSk : Sk sh gr) (a1 : Int32)  {r : Int32} (h : f_X14_isHeld g a1 = some r) : MetI l G yX14_isHeld (ws_ yX14_isHeld cX14_isHeld 2 (Option.some Jvm.ClassFile.FieldType.boolean)) rm_X14_isHeld [.ref (adr G 128), .int a1] sh g gl gr n (some (.int r)) sh g gl gr n := by
  refine MetI.of (by decide) (Nat.le_of_ble_eq_true rfl) ?_
  intro p e s m below meth c ls hx hb hr hml hown hts hlk hnm hW hK hR hS hl
  have hown : s.vm.findClass RX14 = some m.cls := hown
  have hF : CallFix p m c cX14_isHeld 2 s ([.ref (adr G 128), .int a1] : List Value).toArray lw_all RX14 := ⟨hx, hb, hml, hown, hts⟩
  have hl : lv_has ls 2 [(0, .ref (adr G 128)), (1, .int a1)] := hl
  unfold f_X14_isHeld at h
  refine lv_aload_n hx hb dX14_isHeld_0 rfl (lv_at hl 0 rfl) ?_
  refine r_getr hx hb hts cfX14 hown hK hR (sk_128 hSk) 16 (by decide) rfl (sr_128_16 hSk) (hts _ q1537) (fun _ h => h) dX14_isHeld_1 ?_
  refine lv_iload_n hx hb dX14_isHeld_4 rfl (lv_at hl 1 rfl) ?_
  obtain ⟨v2, e1, h⟩ := obd h
  refine r_ldi hx hb hK hR (sk_139 hSk) e1 dX14_isHeld_5 ?_
  have J27 : ∀ (x3 : Int32) (H : Heap) (locs : List Loc) (ls : Array Slot), Rep G sh g gl gr n H → va_S (own G) s.heap H locs → lv_has ls 2 [] → j_X14_isHeld_27  x3 = some r → W p l e rm_X14_isHeld s m ([.ref (adr G 128), .int a1] : List Value).toArray below meth c H locs 0 0 (MQ below (QR G (some (.int r)) sh g gl gr n) ([.ref (adr G 128), .int a1] : List Value).toArray s rm_X14_isHeld.cells rm_X14_isHeld.slots (own G)) (F0 m 27 ls [.int x3]) := by
    intro x3 H locs ls hR hS hl h
    unfold j_X14_isHeld_27 at h
    obtain ⟨c4, h⟩ := ogrd h
    obtain rfl := s1i h
    exact r_zret0 hx hb hr hlk hR hS (Nat.zero_le _) (Nat.zero_le _) (nb01 c4) dX14_isHeld_27
  have J26 : ∀  (H : Heap) (locs : List Loc) (ls : Array Slot), Rep G sh g gl gr n H → va_S (own G) s.heap H locs → lv_has ls 2 [] → j_X14_isHeld_26   = some r → W p l e rm_X14_isHeld s m ([.ref (adr G 128), .int a1] : List Value).toArray below meth c H locs 0 0 (MQ below (QR G (some (.int r)) sh g gl gr n) ([.ref (adr G 128), .int a1] : List Value).toArray s rm_X14_isHeld.cells rm_X14_isHeld.slots (own G)) (F0 m 26 ls []) := by
    intro  H locs ls hR hS hl h
    unfold j_X14_isHeld_26 at h
    refine lv_iconst (v := 0) hx hb dX14_isHeld_26 ki_0 ?_
    exact J27 0 _ _ _ hR hS (lv_sub hl [] rfl) h
  refine lv_if_ne (tgt := 26) hx hb dX14_isHeld_6 (by decide) (fun c5 => ?_) (fun c5 => ?_)
  · replace h := ifn h c5
    exact J26  _ _ _ hR hS (lv_sub hl [] rfl) h
  · replace h := ifp h c5
    refine lv_aload_n hx hb dX14_isHeld_9 rfl (lv_at hl 0 rfl) ?_
    refine lv_aload_n hx hb dX14_isHeld_10 rfl (lv_at hl 0 rfl) ?_
    refine r_getr hx hb hts cfX14 hown hK hR (sk_128 hSk) 17 (by decide) rfl (sr_128_17 hSk) (hts _ q1538) (fun _ h => h) dX14_isHeld_11 ?_
    refine lv_iload_n hx hb dX14_isHeld_14 rfl (lv_at hl 1 rfl) ?_
    obtain ⟨v7, e6, h⟩ := obd h
    refine r_ldi hx hb hK hR (sk_140 hSk) e6 dX14_isHeld_15 ?_
    obtain ⟨r9, e8, h⟩ := obd h
    refine rc_V0 (rest := []) (st1 := [.int r9]) hF (w_X14_isCloth hSk v7 e8) (cwV 1 hts (lw_V q1657 q1659 qs47 q117 q1660) rfl rfl rfl hd_X14_isCloth ⟨Nat.le_of_ble_eq_true rfl, Nat.le_of_ble_eq_true rfl⟩) cfX14 (sk_128 hSk) hK hW hR hS rfl hl.1 rfl (Nat.le_of_ble_eq_true rfl) rfl dX14_isHeld_16 ⟨rfl, rfl⟩ ⟨Nat.zero_le _, Nat.zero_le _⟩ (fun H locs hR hS => ?_)
    refine lv_if_eq (tgt := 26) hx hb dX14_isHeld_19 (by decide) (fun c10 => ?_) (fun c10 => ?_)
    · replace h := ifp h c10
      exact J26  _ _ _ hR hS (lv_sub hl [] rfl) h
    · replace h := ifn h c10
      refine lv_iconst (v := 1) hx hb dX14_isHeld_22 ki_1 ?_
      refine lv_goto (tgt := 27) hx hb dX14_isHeld_23 (by decide) ?_
      exact J27 1 _ _ _ hR hS (lv_sub hl [] rfl) h
def rm_X14_isUnder : Room := { frames := 1, cells := 0, slots := 0, locals := 12 }
theorem he_X14_isUnder : yX14_isUnder.cls ≠ "java/lang/invoke/MethodHandle" ∧ yX14_isUnder.cls ≠ "java/lang/invoke/VarHandle" ∧ (parseMethodDescriptor yX14_isUnder.desc).map (fun d => d.parameters.length) = some 2 := by decide +kernel

set_option maxHeartbeats 4000000 in
set_option maxRecDepth 100000 in
theorem w_X14_isUnder {l : Launch} {G : Gx} {sh : SM} {g : GM} {gl : LM} {gr : RM} {n : Nat} (hSk : Sk sh gr) (a0 : Int32) (a1 : Int32)  {r : Int32} (h : f_X14_isUnder  a0 a1 = some r) : MetI l G yX14_isUnder (ws_ yX14_isUnder cX14_isUnder 2 (Option.some Jvm.ClassFile.FieldType.boolean)) rm_X14_isUnder [.int a0, .int a1] sh g gl gr n (some (.int r)) sh g gl gr n := by
  refine MetI.of (by decide) (Nat.le_of_ble_eq_true rfl) ?_
  intro p e s m below meth c ls hx hb hr hml hown hts hlk hnm hW hK hR hS hl
  have hown : s.vm.findClass RX14 = some m.cls := hown
  have hF : CallFix p m c cX14_isUnder 2 s ([.int a0, .int a1] : List Value).toArray lw_all RX14 := ⟨hx, hb, hml, hown, hts⟩
  have hl : lv_has ls 2 [(0, .int a0), (1, .int a1)] := hl
  unfold f_X14_isUnder at h
  refine lv_iload_n hx hb dX14_isUnder_0 rfl (lv_at hl 1 rfl) ?_
  have J34 : ∀ (x1 : Int32) (H : Heap) (locs : List Loc) (ls : Array Slot), Rep G sh g gl gr n H → va_S (own G) s.heap H locs → lv_has ls 2 [] → j_X14_isUnder_34  x1 = some r → W p l e rm_X14_isUnder s m ([.int a0, .int a1] : List Value).toArray below meth c H locs 0 0 (MQ below (QR G (some (.int r)) sh g gl gr n) ([.int a0, .int a1] : List Value).toArray s rm_X14_isUnder.cells rm_X14_isUnder.slots (own G)) (F0 m 34 ls [.int x1]) := by
    intro x1 H locs ls hR hS hl h
    unfold j_X14_isUnder_34 at h
    obtain ⟨c2, h⟩ := ogrd h
    obtain rfl := s1i h
    exact r_zret0 hx hb hr hlk hR hS (Nat.zero_le _) (Nat.zero_le _) (nb01 c2) dX14_isUnder_34
  have J29 : ∀  (H : Heap) (locs : List Loc) (ls : Array Slot), Rep G sh g gl gr n H → va_S (own G) s.heap H locs → lv_has ls 2 [] → j_X14_isUnder_29   = some r → W p l e rm_X14_isUnder s m ([.int a0, .int a1] : List Value).toArray below meth c H locs 0 0 (MQ below (QR G (some (.int r)) sh g gl gr n) ([.int a0, .int a1] : List Value).toArray s rm_X14_isUnder.cells rm_X14_isUnder.slots (own G)) (F0 m 29 ls []) := by
    intro  H locs ls hR hS hl h
    unfold j_X14_isUnder_29 at h
    refine lv_iconst (v := 1) hx hb dX14_isUnder_29 ki_1 ?_
    refine lv_goto (tgt := 34) hx hb dX14_isUnder_30 (by decide) ?_
    exact J34 1 _ _ _ hR hS (lv_sub hl [] rfl) h
  refine lv_if_eq (tgt := 29) hx hb dX14_isUnder_1 (by decide) (fun c3 => ?_) (fun c3 => ?_)
  · replace h := ifp h c3
    exact J29  _ _ _ hR hS (lv_sub hl [] rfl) h
  · replace h := ifn h c3
    refine lv_iload_n hx hb dX14_isUnder_4 rfl (lv_at hl 0 rfl) ?_
    refine lv_iload_n hx hb dX14_isUnder_5 rfl (lv_at hl 1 rfl) ?_
    refine lv_icmp_eq (tgt := 29) hx hb dX14_isUnder_6 (by decide) (fun c4 => ?_) (fun c4 => ?_)
    · replace h := ifp h c4
      exact J29  _ _ _ hR hS (lv_sub hl [] rfl) h
    · replace h := ifn h c4
      refine lv_iload_n hx hb dX14_isUnder_9 rfl (lv_at hl 0 rfl) ?_
      refine lv_iconst (v := 3) hx hb dX14_isUnder_10 ki_3 ?_
      have J19 : ∀  (H : Heap) (locs : List Loc) (ls : Array Slot), Rep G sh g gl gr n H → va_S (own G) s.heap H locs → lv_has ls 2 [(0, .int a0), (1, .int a1)] → j_X14_isUnder_19 a0 a1  = some r → W p l e rm_X14_isUnder s m ([.int a0, .int a1] : List Value).toArray below meth c H locs 0 0 (MQ below (QR G (some (.int r)) sh g gl gr n) ([.int a0, .int a1] : List Value).toArray s rm_X14_isUnder.cells rm_X14_isUnder.slots (own G)) (F0 m 19 ls []) := by
        intro  H locs ls hR hS hl h
        unfold j_X14_isUnder_19 at h
        refine lv_iload_n hx hb dX14_isUnder_19 rfl (lv_at hl 0 rfl) ?_
        refine lv_iconst (v := 4) hx hb dX14_isUnder_20 ki_4 ?_
        have J33 : ∀  (H : Heap) (locs : List Loc) (ls : Array Slot), Rep G sh g gl gr n H → va_S (own G) s.heap H locs → lv_has ls 2 [] → j_X14_isUnder_33   = some r → W p l e rm_X14_isUnder s m ([.int a0, .int a1] : List Value).toArray below meth c H locs 0 0 (MQ below (QR G (some (.int r)) sh g gl gr n) ([.int a0, .int a1] : List Value).toArray s rm_X14_isUnder.cells rm_X14_isUnder.slots (own G)) (F0 m 33 ls []) := by
          intro  H locs ls hR hS hl h
          unfold j_X14_isUnder_33 at h
          refine lv_iconst (v := 0) hx hb dX14_isUnder_33 ki_0 ?_
          exact J34 0 _ _ _ hR hS (lv_sub hl [] rfl) h
        refine lv_icmp_ne (tgt := 33) hx hb dX14_isUnder_21 (by decide) (fun c5 => ?_) (fun c5 => ?_)
        · replace h := ifn h c5
          exact J33  _ _ _ hR hS (lv_sub hl [] rfl) h
        · replace h := ifp h c5
          refine lv_iload_n hx hb dX14_isUnder_24 rfl (lv_at hl 1 rfl) ?_
          refine lv_iconst (v := 2) hx hb dX14_isUnder_25 ki_2 ?_
          refine lv_icmp_ne (tgt := 33) hx hb dX14_isUnder_26 (by decide) (fun c6 => ?_) (fun c6 => ?_)
          · replace h := ifn h c6
            exact J33  _ _ _ hR hS (lv_sub hl [] rfl) h
          · replace h := ifp h c6
            exact J29  _ _ _ hR hS (lv_sub hl [] rfl) h
      refine lv_icmp_ne (tgt := 19) hx hb dX14_isUnder_11 (by decide) (fun c7 => ?_) (fun c7 => ?_)
      · replace h := ifn h c7
        exact J19  _ _ _ hR hS (lv_sub hl [0, 1] rfl) h
      · replace h := ifp h c7
        refine lv_iload_n hx hb dX14_isUnder_14 rfl (lv_at hl 1 rfl) ?_
        refine lv_iconst (v := 1) hx hb dX14_isUnder_15 ki_1 ?_
        refine lv_icmp_eq (tgt := 29) hx hb dX14_isUnder_16 (by decide) (fun c8 => ?_) (fun c8 => ?_)
        · replace h := ifp h c8
          exact J29  _ _ _ hR hS (lv_sub hl [] rfl) h
        · replace h := ifn h c8
          exact J19  _ _ _ hR hS (lv_sub hl [0, 1] rfl) h
def rm_X14_taken : Room := { frames := 4, cells := 0, slots := 0, locals := 79 }
theorem hd_X14_taken : yX14_taken.cls = "IntentVatsModel" ∧ yX14_taken.cls ≠ "java/lang/invoke/MethodHandle" ∧ yX14_taken.cls ≠ "java/lang/invoke/VarHandle" ∧ (parseMethodDescriptor yX14_taken.desc).map (fun d => d.parameters.length) = some 2 := by decide +kernel
theorem he_X14_taken : yX14_taken.cls ≠ "java/lang/invoke/MethodHandle" ∧ yX14_taken.cls ≠ "java/lang/invoke/VarHandle" ∧ (parseMethodDescriptor yX14_taken.desc).map (fun d => d.parameters.length) = some 2 := hd_X14_taken.2

set_option maxHeartbeats 4000000 in
set_option maxRecDepth 100000 in
theorem w_X14_taken {l : Launch} {G : Gx} {sh : SM} {g : GM} {gl : LM} {gr : RM} {n : Nat} (hSk : Sk sh gr) (a1 : Int32) (a2 : Int32)  {r : Int32} (h : f_X14_taken g a1 a2 = some r) : MetI l G yX14_taken (ws_ yX14_taken cX14_taken 3 (Option.some Jvm.ClassFile.FieldType.int)) rm_X14_taken [.ref (adr G 128), .int a1, .int a2] sh g gl gr n (some (.int r)) sh g gl gr n := by
  refine MetI.of (by decide) (Nat.le_of_ble_eq_true rfl) ?_
  intro p e s m below meth c ls hx hb hr hml hown hts hlk hnm hW hK hR hS hl
  have hown : s.vm.findClass RX14 = some m.cls := hown
  have hF : CallFix p m c cX14_taken 3 s ([.ref (adr G 128), .int a1, .int a2] : List Value).toArray lw_all RX14 := ⟨hx, hb, hml, hown, hts⟩
  have hl : lv_has ls 3 [(0, .ref (adr G 128)), (1, .int a1), (2, .int a2)] := hl
  unfold f_X14_taken at h
  refine lv_iload_n hx hb dX14_taken_0 rfl (lv_at hl 1 rfl) ?_
  obtain ⟨r2, e1, h⟩ := obd h
  refine rc_S0 (rest := []) (st1 := [.int r2]) hF (w_X14_isFour hSk a1 e1) (va_cwS 1 hts (lw_S q1865 q1866 q117 q1867) rfl rfl rfl he_X14_isFour ⟨Nat.le_of_ble_eq_true rfl, Nat.le_of_ble_eq_true rfl⟩) hW hR hS rfl hl.1 rfl (Nat.le_of_ble_eq_true rfl) rfl dX14_taken_1 ⟨rfl, rfl⟩ ⟨Nat.zero_le _, Nat.zero_le _⟩ (fun H locs hR hS => ?_)
  have J28 : ∀  (H : Heap) (locs : List Loc) (ls : Array Slot), Rep G sh g gl gr n H → va_S (own G) s.heap H locs → lv_has ls 3 [] → j_X14_taken_28   = some r → W p l e rm_X14_taken s m ([.ref (adr G 128), .int a1, .int a2] : List Value).toArray below meth c H locs 0 0 (MQ below (QR G (some (.int r)) sh g gl gr n) ([.ref (adr G 128), .int a1, .int a2] : List Value).toArray s rm_X14_taken.cells rm_X14_taken.slots (own G)) (F0 m 28 ls []) := by
    intro  H locs ls hR hS hl h
    unfold j_X14_taken_28 at h
    refine lv_iconst (v := (-1)) hx hb dX14_taken_28 ki_m1 ?_
    obtain rfl := s1i h
    exact r_iret0 hx hb hr hlk hR hS (Nat.zero_le _) (Nat.zero_le _) dX14_taken_29
  refine lv_if_eq (tgt := 28) hx hb dX14_taken_4 (by decide) (fun c3 => ?_) (fun c3 => ?_)
  · replace h := ifp h c3
    exact J28  _ _ _ hR hS (lv_sub hl [] rfl) h
  · replace h := ifn h c3
    refine lv_iload_n hx hb dX14_taken_7 rfl (lv_at hl 2 rfl) ?_
    obtain ⟨r5, e4, h⟩ := obd h
    refine rc_S0 (rest := []) (st1 := [.int r5]) hF (w_X14_isKind hSk a2 e4) (va_cwS 1 hts (lw_S q1642 q1643 q117 q1644) rfl rfl rfl he_X14_isKind ⟨Nat.le_of_ble_eq_true rfl, Nat.le_of_ble_eq_true rfl⟩) hW hR hS rfl hl.1 rfl (Nat.le_of_ble_eq_true rfl) rfl dX14_taken_8 ⟨rfl, rfl⟩ ⟨Nat.zero_le _, Nat.zero_le _⟩ (fun H locs hR hS => ?_)
    have J30 : ∀  (H : Heap) (locs : List Loc) (ls : Array Slot), Rep G sh g gl gr n H → va_S (own G) s.heap H locs → lv_has ls 3 [(0, .ref (adr G 128)), (1, .int a1), (2, .int a2)] → j_X14_taken_30 g a1 a2  = some r → W p l e rm_X14_taken s m ([.ref (adr G 128), .int a1, .int a2] : List Value).toArray below meth c H locs 0 0 (MQ below (QR G (some (.int r)) sh g gl gr n) ([.ref (adr G 128), .int a1, .int a2] : List Value).toArray s rm_X14_taken.cells rm_X14_taken.slots (own G)) (F0 m 30 ls []) := by
      intro  H locs ls hR hS hl h
      unfold j_X14_taken_30 at h
      refine lv_aload_n hx hb dX14_taken_30 rfl (lv_at hl 0 rfl) ?_
      refine r_getr hx hb hts cfX14 hown hK hR (sk_128 hSk) 16 (by decide) rfl (sr_128_16 hSk) (hts _ q1537) (fun _ h => h) dX14_taken_31 ?_
      refine lv_iload_n hx hb dX14_taken_34 rfl (lv_at hl 1 rfl) ?_
      obtain ⟨v7, e6, h⟩ := obd h
      refine r_ldi hx hb hK hR (sk_139 hSk) e6 dX14_taken_35 ?_
      refine lv_iconst (v := 1) hx hb dX14_taken_36 ki_1 ?_
      refine lv_icmp_ne (tgt := 65) hx hb dX14_taken_37 (by decide) (fun c8 => ?_) (fun c8 => ?_)
      · replace h := ifn h c8
        refine lv_aload_n hx hb dX14_taken_65 rfl (lv_at hl 0 rfl) ?_
        refine lv_iload_n hx hb dX14_taken_66 rfl (lv_at hl 1 rfl) ?_
        obtain ⟨r10, e9, h⟩ := obd h
        refine rc_V0 (rest := []) (st1 := [.int r10]) hF (w_X14_isHeld hSk a1 e9) (cwV 1 hts (lw_V q2020 q2022 qs87 q117 q2023) rfl rfl rfl hd_X14_isHeld ⟨Nat.le_of_ble_eq_true rfl, Nat.le_of_ble_eq_true rfl⟩) cfX14 (sk_128 hSk) hK hW hR hS rfl hl.1 rfl (Nat.le_of_ble_eq_true rfl) rfl dX14_taken_67 ⟨rfl, rfl⟩ ⟨Nat.zero_le _, Nat.zero_le _⟩ (fun H locs hR hS => ?_)
        refine lv_if_ne (tgt := 76) hx hb dX14_taken_70 (by decide) (fun c11 => ?_) (fun c11 => ?_)
        · replace h := ifn h c11
          refine lv_iload_n hx hb dX14_taken_76 rfl (lv_at hl 2 rfl) ?_
          refine lv_bipush (v := 10) hx hb dX14_taken_77 kb_10 ?_
          have J111 : ∀ (x12 : Int32) (H : Heap) (locs : List Loc) (ls : Array Slot), Rep G sh g gl gr n H → va_S (own G) s.heap H locs → lv_has ls 3 [] → j_X14_taken_111  x12 = some r → W p l e rm_X14_taken s m ([.ref (adr G 128), .int a1, .int a2] : List Value).toArray below meth c H locs 0 0 (MQ below (QR G (some (.int r)) sh g gl gr n) ([.ref (adr G 128), .int a1, .int a2] : List Value).toArray s rm_X14_taken.cells rm_X14_taken.slots (own G)) (F0 m 111 ls [.int x12]) := by
            intro x12 H locs ls hR hS hl h
            unfold j_X14_taken_111 at h
            obtain rfl := s1i h
            exact r_iret0 hx hb hr hlk hR hS (Nat.zero_le _) (Nat.zero_le _) dX14_taken_111
          have J109 : ∀  (H : Heap) (locs : List Loc) (ls : Array Slot), Rep G sh g gl gr n H → va_S (own G) s.heap H locs → lv_has ls 3 [] → j_X14_taken_109   = some r → W p l e rm_X14_taken s m ([.ref (adr G 128), .int a1, .int a2] : List Value).toArray below meth c H locs 0 0 (MQ below (QR G (some (.int r)) sh g gl gr n) ([.ref (adr G 128), .int a1, .int a2] : List Value).toArray s rm_X14_taken.cells rm_X14_taken.slots (own G)) (F0 m 109 ls []) := by
            intro  H locs ls hR hS hl h
            unfold j_X14_taken_109 at h
            refine lv_bipush (v := (-13)) hx hb dX14_taken_109 kb_m13 ?_
            exact J111 (-13) _ _ _ hR hS (lv_sub hl [] rfl) h
          refine lv_icmp_ge (tgt := 109) hx hb dX14_taken_79 (by decide) (fun c13 => ?_) (fun c13 => ?_)
          · replace h := ifp h c13
            exact J109  _ _ _ hR hS (lv_sub hl [] rfl) h
          · replace h := ifn h c13
            refine lv_aload_n hx hb dX14_taken_82 rfl (lv_at hl 0 rfl) ?_
            refine lv_aload_n hx hb dX14_taken_83 rfl (lv_at hl 0 rfl) ?_
            refine r_getr hx hb hts cfX14 hown hK hR (sk_128 hSk) 17 (by decide) rfl (sr_128_17 hSk) (hts _ q1538) (fun _ h => h) dX14_taken_84 ?_
            refine lv_iload_n hx hb dX14_taken_87 rfl (lv_at hl 1 rfl) ?_
            obtain ⟨v15, e14, h⟩ := obd h
            refine r_ldi hx hb hK hR (sk_140 hSk) e14 dX14_taken_88 ?_
            refine lv_iconst (v := 0) hx hb dX14_taken_89 ki_0 ?_
            obtain ⟨r17, e16, h⟩ := obd h
            refine rc_V0 (rest := []) (st1 := [.int r17]) hF (w_X14_its hSk v15 0 e16) (cwV 2 hts (lw_V q1662 q1664 qs48 q117 q1665) rfl rfl rfl hd_X14_its ⟨Nat.le_of_ble_eq_true rfl, Nat.le_of_ble_eq_true rfl⟩) cfX14 (sk_128 hSk) hK hW hR hS rfl hl.1 rfl (Nat.le_of_ble_eq_true rfl) rfl dX14_taken_90 ⟨rfl, rfl⟩ ⟨Nat.zero_le _, Nat.zero_le _⟩ (fun H locs hR hS => ?_)
            refine lv_iload_n hx hb dX14_taken_93 rfl (lv_at hl 2 rfl) ?_
            obtain ⟨r19, e18, h⟩ := obd h
            refine rc_S0 (rest := []) (st1 := [.int r19]) hF (w_X14_isUnder hSk r17 a2 e18) (va_cwS 2 hts (lw_S q2024 q2025 q117 q2026) rfl rfl rfl he_X14_isUnder ⟨Nat.le_of_ble_eq_true rfl, Nat.le_of_ble_eq_true rfl⟩) hW hR hS rfl hl.1 rfl (Nat.le_of_ble_eq_true rfl) rfl dX14_taken_94 ⟨rfl, rfl⟩ ⟨Nat.zero_le _, Nat.zero_le _⟩ (fun H locs hR hS => ?_)
            refine lv_if_eq (tgt := 109) hx hb dX14_taken_97 (by decide) (fun c20 => ?_) (fun c20 => ?_)
            · replace h := ifp h c20
              exact J109  _ _ _ hR hS (lv_sub hl [] rfl) h
            · replace h := ifn h c20
              refine lv_aload_n hx hb dX14_taken_100 rfl (lv_at hl 0 rfl) ?_
              refine r_getr hx hb hts cfX14 hown hK hR (sk_128 hSk) 17 (by decide) rfl (sr_128_17 hSk) (hts _ q1538) (fun _ h => h) dX14_taken_101 ?_
              refine lv_iload_n hx hb dX14_taken_104 rfl (lv_at hl 1 rfl) ?_
              obtain ⟨v22, e21, h⟩ := obd h
              refine r_ldi hx hb hK hR (sk_140 hSk) e21 dX14_taken_105 ?_
              refine lv_goto (tgt := 111) hx hb dX14_taken_106 (by decide) ?_
              exact J111 v22 _ _ _ hR hS (lv_sub hl [] rfl) h
        · replace h := ifp h c11
          refine lv_bipush (v := (-11)) hx hb dX14_taken_73 kb_m11 ?_
          obtain rfl := s1i h
          exact r_iret0 hx hb hr hlk hR hS (Nat.zero_le _) (Nat.zero_le _) dX14_taken_75
      · replace h := ifp h c8
        refine lv_iload_n hx hb dX14_taken_40 rfl (lv_at hl 2 rfl) ?_
        refine lv_bipush (v := 10) hx hb dX14_taken_41 kb_10 ?_
        refine lv_isub hx hb dX14_taken_43 ?_
        refine lv_aload_n hx hb dX14_taken_44 rfl (lv_at hl 0 rfl) ?_
        refine r_getr hx hb hts cfX14 hown hK hR (sk_128 hSk) 17 (by decide) rfl (sr_128_17 hSk) (hts _ q1538) (fun _ h => h) dX14_taken_45 ?_
        refine lv_iload_n hx hb dX14_taken_48 rfl (lv_at hl 1 rfl) ?_
        obtain ⟨v24, e23, h⟩ := obd h
        refine r_ldi hx hb hK hR (sk_140 hSk) e23 dX14_taken_49 ?_
        have J64 : ∀ (x25 : Int32) (H : Heap) (locs : List Loc) (ls : Array Slot), Rep G sh g gl gr n H → va_S (own G) s.heap H locs → lv_has ls 3 [] → j_X14_taken_64  x25 = some r → W p l e rm_X14_taken s m ([.ref (adr G 128), .int a1, .int a2] : List Value).toArray below meth c H locs 0 0 (MQ below (QR G (some (.int r)) sh g gl gr n) ([.ref (adr G 128), .int a1, .int a2] : List Value).toArray s rm_X14_taken.cells rm_X14_taken.slots (own G)) (F0 m 64 ls [.int x25]) := by
          intro x25 H locs ls hR hS hl h
          unfold j_X14_taken_64 at h
          obtain rfl := s1i h
          exact r_iret0 hx hb hr hlk hR hS (Nat.zero_le _) (Nat.zero_le _) dX14_taken_64
        refine lv_icmp_ne (tgt := 62) hx hb dX14_taken_50 (by decide) (fun c26 => ?_) (fun c26 => ?_)
        · replace h := ifn h c26
          refine lv_bipush (v := (-13)) hx hb dX14_taken_62 kb_m13 ?_
          exact J64 (-13) _ _ _ hR hS (lv_sub hl [] rfl) h
        · replace h := ifp h c26
          refine lv_aload_n hx hb dX14_taken_53 rfl (lv_at hl 0 rfl) ?_
          refine r_getr hx hb hts cfX14 hown hK hR (sk_128 hSk) 18 (by decide) rfl (sr_128_18 hSk) (hts _ q1539) (fun _ h => h) dX14_taken_54 ?_
          refine lv_iload_n hx hb dX14_taken_57 rfl (lv_at hl 1 rfl) ?_
          obtain ⟨v28, e27, h⟩ := obd h
          refine r_ldi hx hb hK hR (sk_141 hSk) e27 dX14_taken_58 ?_
          refine lv_goto (tgt := 64) hx hb dX14_taken_59 (by decide) ?_
          exact J64 v28 _ _ _ hR hS (lv_sub hl [] rfl) h
    refine lv_if_ne (tgt := 30) hx hb dX14_taken_11 (by decide) (fun c29 => ?_) (fun c29 => ?_)
    · replace h := ifn h c29
      exact J30  _ _ _ hR hS (lv_sub hl [0, 1, 2] rfl) h
    · replace h := ifp h c29
      refine lv_iload_n hx hb dX14_taken_14 rfl (lv_at hl 2 rfl) ?_
      refine lv_i2l hx hb dX14_taken_15 rfl ?_
      refine lv_ldc2 (v := 10) hx hb hown (hts _ q1971) dX14_taken_16 ?_
      refine lv_ldc2 (v := 13) hx hb hown (hts _ q2019) dX14_taken_19 ?_
      obtain ⟨r31, e30, h⟩ := obd h
      refine rc_S0 (rest := []) (st1 := [.int r31]) hF (w_X14_in hSk a2.toInt64 10 13 e30) (va_cwS 3 hts (lw_S q1602 q1603 q117 q1604) rfl rfl rfl he_X14_in ⟨Nat.le_of_ble_eq_true rfl, Nat.le_of_ble_eq_true rfl⟩) hW hR hS rfl hl.1 rfl (Nat.le_of_ble_eq_true rfl) rfl dX14_taken_22 ⟨rfl, rfl⟩ ⟨Nat.zero_le _, Nat.zero_le _⟩ (fun H locs hR hS => ?_)
      refine lv_if_ne (tgt := 30) hx hb dX14_taken_25 (by decide) (fun c32 => ?_) (fun c32 => ?_)
      · replace h := ifn h c32
        exact J30  _ _ _ hR hS (lv_sub hl [0, 1, 2] rfl) h
      · replace h := ifp h c32
        exact J28  _ _ _ hR hS (lv_sub hl [] rfl) h
