/-! walks: X14_isThrough, X14_through, X14_isSoon, X14_vatFor, X14_kindFor, X14_strengthFor, X14_ones, X14_hangs, X14_hangFor, X14_isFour, X14_isSo -/
def rm_X14_isThrough : Room := { frames := 4, cells := 0, slots := 0, locals := 88 }
theorem hd_X14_isThrough : yX14_isThrough.cls = "IntentVatsModel" ∧ yX14_isThrough.cls ≠ "java/lang/invoke/MethodHandle" ∧ yX14_isThrough.cls ≠ "java/lang/invoke/VarHandle" ∧ (parseMethodDescriptor yX14_isThrough.desc).map (fun d => d.parameters.length) = some 4 := by decide +kernel
theorem he_X14_isThrough : yX14_isThrough.cls ≠ "java/lang/invoke/MethodHandle" ∧ yX14_isThrough.cls ≠ "java/lang/invoke/VarHandle" ∧ (parseMethodDescriptor yX14_isThrough.desc).map (fun d => d.parameters.length) = some 4 := hd_X14_isThrough.2

set_option maxHeartbeats 4000000 in
set_option maxRecDepth 100000 in
theorem w_X14_isThrough {l : Launch} {G : Gx} {sh : SM} {g : GM} {gl : LM} {gr : RM} {n : Nat} (hSk : Sk sh gr) (a1 : Int32) (a2 : Int32) (a3 : Int32) (a4 : Int32)  {r : Int32} {go : GM} (h : f_X14_isThrough g a1 a2 a3 a4 = some (r, go)) : MetI l G yX14_isThrough (ws_ yX14_isThrough cX14_isThrough 6 (Option.some Jvm.ClassFile.FieldType.boolean)) rm_X14_isThrough [.ref (adr G 128), .int a1, .int a2, .int a3, .int a4] sh g gl gr n (some (.int r)) sh go gl gr n := by
  refine MetI.of (by decide) (Nat.le_of_ble_eq_true rfl) ?_
  intro p e s m below meth c ls hx hb hr hml hown hts hlk hnm hW hK hR hS hl
  have hown : s.vm.findClass RX14 = some m.cls := hown
  have hF : CallFix p m c cX14_isThrough 6 s ([.ref (adr G 128), .int a1, .int a2, .int a3, .int a4] : List Value).toArray lw_all RX14 := ⟨hx, hb, hml, hown, hts⟩
  have hl : lv_has ls 6 [(0, .ref (adr G 128)), (1, .int a1), (2, .int a2), (3, .int a3), (4, .int a4)] := hl
  unfold f_X14_isThrough at h
  refine lv_iload_n hx hb dX14_isThrough_0 rfl (lv_at hl 3 rfl) ?_
  refine lv_iconst (v := 1) hx hb dX14_isThrough_1 ki_1 ?_
  refine lv_isub hx hb dX14_isThrough_2 ?_
  refine lv_istore (lv' := [(5, .int (a3 - 1)), (0, .ref (adr G 128)), (1, .int a1), (2, .int a2), (3, .int a3), (4, .int a4)]) hx hb dX14_isThrough_3 hl (by decide) rfl (fun ls hl => ?_)
  have J5 : ∀ (k5 : Nat) (x1 : Int32) (g2 : GM) (H : Heap) (locs : List Loc) (ls : Array Slot), Rep G sh g2 gl gr n H → va_S (own G) s.heap H locs → lv_has ls 6 [(0, .ref (adr G 128)), (1, .int a1), (2, .int a2), (4, .int a4), (5, .int x1)] → l_X14_isThrough_5 a1 a2 a4 k5 x1 g2 = some (r, go) → W p l e rm_X14_isThrough s m ([.ref (adr G 128), .int a1, .int a2, .int a3, .int a4] : List Value).toArray below meth c H locs 0 0 (MQ below (QR G (some (.int r)) sh go gl gr n) ([.ref (adr G 128), .int a1, .int a2, .int a3, .int a4] : List Value).toArray s rm_X14_isThrough.cells rm_X14_isThrough.slots (own G)) (F0 m 5 ls []) := by
    intro k5
    induction k5 with
    | zero => intro _ _ _ _ _ _ _ _; exact nofun
    | succ k5 ih5 =>
      intro x1 g2 H locs ls hR hS hl h
      unfold l_X14_isThrough_5 b_X14_isThrough_5 at h
      refine lv_iload hx hb dX14_isThrough_5 (lv_at hl 4 rfl) ?_
      refine lv_if_lt (tgt := 31) hx hb dX14_isThrough_7 (by decide) (fun c3 => ?_) (fun c3 => ?_)
      · replace h := ifp h c3
        refine lv_aload_n hx hb dX14_isThrough_31 rfl (lv_at hl 0 rfl) ?_
        refine lv_iload_n hx hb dX14_isThrough_32 rfl (lv_at hl 1 rfl) ?_
        refine lv_iconst (v := 1) hx hb dX14_isThrough_33 ki_1 ?_
        obtain ⟨r5, e4, h⟩ := obd h
        refine rc_V0 (rest := []) (st1 := [.int r5]) hF (w_X14_its hSk a1 1 e4) (cwV 2 hts (lw_V q1662 q1664 qs48 q117 q1665) rfl rfl rfl hd_X14_its ⟨Nat.le_of_ble_eq_true rfl, Nat.le_of_ble_eq_true rfl⟩) cfX14 (sk_128 hSk) hK hW hR hS rfl hl.1 rfl (Nat.le_of_ble_eq_true rfl) rfl dX14_isThrough_34 ⟨rfl, rfl⟩ ⟨Nat.zero_le _, Nat.zero_le _⟩ (fun H locs hR hS => ?_)
        refine lv_iload_n hx hb dX14_isThrough_37 rfl (lv_at hl 2 rfl) ?_
        have J46 : ∀ (x6 : Int32) (H : Heap) (locs : List Loc) (ls : Array Slot), Rep G sh g2 gl gr n H → va_S (own G) s.heap H locs → lv_has ls 6 [(0, .ref (adr G 128))] → j_X14_isThrough_46 g2 x6 = some (r, go) → W p l e rm_X14_isThrough s m ([.ref (adr G 128), .int a1, .int a2, .int a3, .int a4] : List Value).toArray below meth c H locs 0 0 (MQ below (QR G (some (.int r)) sh go gl gr n) ([.ref (adr G 128), .int a1, .int a2, .int a3, .int a4] : List Value).toArray s rm_X14_isThrough.cells rm_X14_isThrough.slots (own G)) (F0 m 46 ls [.int x6]) := by
          intro x6 H locs ls hR hS hl h
          unfold j_X14_isThrough_46 at h
          refine lv_istore (lv' := [(5, .int x6), (0, .ref (adr G 128))]) hx hb dX14_isThrough_46 hl (by decide) rfl (fun ls hl => ?_)
          refine lv_aload_n hx hb dX14_isThrough_48 rfl (lv_at hl 1 rfl) ?_
          obtain ⟨g8, e7, h⟩ := obd h
          refine rc_V0 (rest := []) (st1 := []) hF (w_X14_laysBack hSk e7) (cwV 0 hts (lw_V q1766 q1768 qs61 q117 q1769) rfl rfl rfl hd_X14_laysBack ⟨Nat.le_of_ble_eq_true rfl, Nat.le_of_ble_eq_true rfl⟩) cfX14 (sk_128 hSk) hK hW hR hS rfl hl.1 rfl (Nat.le_of_ble_eq_true rfl) rfl dX14_isThrough_49 ⟨rfl, rfl⟩ ⟨Nat.zero_le _, Nat.zero_le _⟩ (fun H locs hR hS => ?_)
          refine lv_iload hx hb dX14_isThrough_52 (lv_at hl 0 rfl) ?_
          obtain ⟨c9, h⟩ := ogrd h
          obtain ⟨rfl, rfl⟩ := s2i h
          exact r_zret0 hx hb hr hlk hR hS (Nat.zero_le _) (Nat.zero_le _) (nb01 c9) dX14_isThrough_54
        refine lv_icmp_ne (tgt := 45) hx hb dX14_isThrough_38 (by decide) (fun c10 => ?_) (fun c10 => ?_)
        · replace h := ifn h c10
          refine lv_iconst (v := 0) hx hb dX14_isThrough_45 ki_0 ?_
          exact J46 0 _ _ _ hR hS (lv_sub hl [0] rfl) h
        · replace h := ifp h c10
          refine lv_iconst (v := 1) hx hb dX14_isThrough_41 ki_1 ?_
          refine lv_goto (tgt := 46) hx hb dX14_isThrough_42 (by decide) ?_
          exact J46 1 _ _ _ hR hS (lv_sub hl [0] rfl) h
      · replace h := ifn h c3
        refine lv_aload_n hx hb dX14_isThrough_10 rfl (lv_at hl 0 rfl) ?_
        refine lv_iload_n hx hb dX14_isThrough_11 rfl (lv_at hl 1 rfl) ?_
        refine lv_iload hx hb dX14_isThrough_12 (lv_at hl 3 rfl) ?_
        refine lv_iconst (v := 3) hx hb dX14_isThrough_14 ki_3 ?_
        refine lv_iload hx hb dX14_isThrough_15 (lv_at hl 4 rfl) ?_
        refine lv_imul hx hb dX14_isThrough_17 ?_
        refine lv_ishr hx hb dX14_isThrough_18 ?_
        refine lv_bipush (v := 7) hx hb dX14_isThrough_19 kb_7 ?_
        refine lv_iand hx hb dX14_isThrough_21 ?_
        obtain ⟨g12, e11, h⟩ := obd h
        refine rc_V0 (rest := []) (st1 := []) hF (w_X14_dips hSk a1 ((a4 >>> ((3 * x1) &&& 31)) &&& 7) e11) (cwV 2 hts (lw_V q1707 q1709 qs53 q117 q1710) rfl rfl rfl hd_X14_dips ⟨Nat.le_of_ble_eq_true rfl, Nat.le_of_ble_eq_true rfl⟩) cfX14 (sk_128 hSk) hK hW hR hS rfl hl.1 rfl (Nat.le_of_ble_eq_true rfl) rfl dX14_isThrough_22 ⟨rfl, rfl⟩ ⟨Nat.zero_le _, Nat.zero_le _⟩ (fun H locs hR hS => ?_)
        refine lv_iinc (v := x1 + (-1)) (lv' := [(5, .int (x1 + (-1))), (0, .ref (adr G 128)), (1, .int a1), (2, .int a2), (4, .int a4)]) hx hb dX14_isThrough_25 hl (k := 4) rfl rfl (by decide) rfl (fun ls hl => ?_)
        refine lv_goto (tgt := 5) hx hb dX14_isThrough_28 (by decide) ?_
        exact ih5 (x1 + (-1)) g12 _ _ _ hR hS (lv_sub hl [1, 2, 3, 4, 0] rfl) h
  exact J5 fuel (a3 - 1) g _ _ _ hR hS (lv_sub hl [1, 2, 3, 5, 0] rfl) h
def rm_X14_through : Room := { frames := 5, cells := 0, slots := 0, locals := 113 }
theorem hd_X14_through : yX14_through.cls = "IntentVatsModel" ∧ yX14_through.cls ≠ "java/lang/invoke/MethodHandle" ∧ yX14_through.cls ≠ "java/lang/invoke/VarHandle" ∧ (parseMethodDescriptor yX14_through.desc).map (fun d => d.parameters.length) = some 2 := by decide +kernel
theorem he_X14_through : yX14_through.cls ≠ "java/lang/invoke/MethodHandle" ∧ yX14_through.cls ≠ "java/lang/invoke/VarHandle" ∧ (parseMethodDescriptor yX14_through.desc).map (fun d => d.parameters.length) = some 2 := hd_X14_through.2

set_option maxHeartbeats 4000000 in
set_option maxRecDepth 100000 in
theorem w_X14_through {l : Launch} {G : Gx} {sh : SM} {g : GM} {gl : LM} {gr : RM} {n : Nat} (hSk : Sk sh gr) (a1 : Int32) (a2 : Int32)  {r : Int32} {go : GM} (h : f_X14_through g a1 a2 = some (r, go)) : MetI l G yX14_through (ws_ yX14_through cX14_through 5 (Option.some Jvm.ClassFile.FieldType.int)) rm_X14_through [.ref (adr G 128), .int a1, .int a2] sh g gl gr n (some (.int r)) sh go gl gr n := by
  refine MetI.of (by decide) (Nat.le_of_ble_eq_true rfl) ?_
  intro p e s m below meth c ls hx hb hr hml hown hts hlk hnm hW hK hR hS hl
  have hown : s.vm.findClass RX14 = some m.cls := hown
  have hF : CallFix p m c cX14_through 5 s ([.ref (adr G 128), .int a1, .int a2] : List Value).toArray lw_all RX14 := ⟨hx, hb, hml, hown, hts⟩
  have hl : lv_has ls 5 [(0, .ref (adr G 128)), (1, .int a1), (2, .int a2)] := hl
  unfold f_X14_through at h
  refine lv_aload_n hx hb dX14_through_0 rfl (lv_at hl 0 rfl) ?_
  refine lv_iload_n hx hb dX14_through_1 rfl (lv_at hl 1 rfl) ?_
  obtain ⟨r2, e1, h⟩ := obd h
  refine rc_V0 (rest := []) (st1 := [.int r2]) hF (w_X14_isCloth hSk a1 e1) (cwV 1 hts (lw_V q1657 q1659 qs47 q117 q1660) rfl rfl rfl hd_X14_isCloth ⟨Nat.le_of_ble_eq_true rfl, Nat.le_of_ble_eq_true rfl⟩) cfX14 (sk_128 hSk) hK hW hR hS rfl hl.1 rfl (Nat.le_of_ble_eq_true rfl) rfl dX14_through_2 ⟨rfl, rfl⟩ ⟨Nat.zero_le _, Nat.zero_le _⟩ (fun H locs hR hS => ?_)
  have J15 : ∀  (H : Heap) (locs : List Loc) (ls : Array Slot), Rep G sh g gl gr n H → va_S (own G) s.heap H locs → lv_has ls 5 [] → j_X14_through_15 g  = some (r, go) → W p l e rm_X14_through s m ([.ref (adr G 128), .int a1, .int a2] : List Value).toArray below meth c H locs 0 0 (MQ below (QR G (some (.int r)) sh go gl gr n) ([.ref (adr G 128), .int a1, .int a2] : List Value).toArray s rm_X14_through.cells rm_X14_through.slots (own G)) (F0 m 15 ls []) := by
    intro  H locs ls hR hS hl h
    unfold j_X14_through_15 at h
    refine lv_iconst (v := (-1)) hx hb dX14_through_15 ki_m1 ?_
    obtain ⟨rfl, rfl⟩ := s2i h
    exact r_iret0 hx hb hr hlk hR hS (Nat.zero_le _) (Nat.zero_le _) dX14_through_16
  refine lv_if_eq (tgt := 15) hx hb dX14_through_5 (by decide) (fun c3 => ?_) (fun c3 => ?_)
  · replace h := ifp h c3
    exact J15  _ _ _ hR hS (lv_sub hl [] rfl) h
  · replace h := ifn h c3
    refine lv_iload_n hx hb dX14_through_8 rfl (lv_at hl 2 rfl) ?_
    obtain ⟨r5, e4, h⟩ := obd h
    refine rc_S0 (rest := []) (st1 := [.int r5]) hF (w_X14_isPurpose hSk a2 e4) (va_cwS 1 hts (lw_S q1695 q1696 q117 q1697) rfl rfl rfl he_X14_isPurpose ⟨Nat.le_of_ble_eq_true rfl, Nat.le_of_ble_eq_true rfl⟩) hW hR hS rfl hl.1 rfl (Nat.le_of_ble_eq_true rfl) rfl dX14_through_9 ⟨rfl, rfl⟩ ⟨Nat.zero_le _, Nat.zero_le _⟩ (fun H locs hR hS => ?_)
    refine lv_if_ne (tgt := 17) hx hb dX14_through_12 (by decide) (fun c6 => ?_) (fun c6 => ?_)
    · replace h := ifn h c6
      refine lv_aload_n hx hb dX14_through_17 rfl (lv_at hl 0 rfl) ?_
      obtain ⟨g8, e7, h⟩ := obd h
      refine rc_V0 (rest := []) (st1 := []) hF (w_X14_lends hSk e7) (cwV 0 hts (lw_V q1759 q1761 qs60 q117 q1762) rfl rfl rfl hd_X14_lends ⟨Nat.le_of_ble_eq_true rfl, Nat.le_of_ble_eq_true rfl⟩) cfX14 (sk_128 hSk) hK hW hR hS rfl hl.1 rfl (Nat.le_of_ble_eq_true rfl) rfl dX14_through_18 ⟨rfl, rfl⟩ ⟨Nat.zero_le _, Nat.zero_le _⟩ (fun H locs hR hS => ?_)
      refine lv_iconst (v := 0) hx hb dX14_through_21 ki_0 ?_
      refine lv_istore_n (lv' := [(3, .int 0), (0, .ref (adr G 128)), (1, .int a1), (2, .int a2)]) hx hb dX14_through_22 rfl hl (by decide) rfl (fun ls hl => ?_)
      have J23 : ∀ (k23 : Nat) (x9 : Int32) (g10 : GM) (H : Heap) (locs : List Loc) (ls : Array Slot), Rep G sh g10 gl gr n H → va_S (own G) s.heap H locs → lv_has ls 5 [(0, .ref (adr G 128)), (1, .int a1), (2, .int a2), (3, .int x9)] → l_X14_through_23 a1 a2 k23 x9 g10 = some (r, go) → W p l e rm_X14_through s m ([.ref (adr G 128), .int a1, .int a2] : List Value).toArray below meth c H locs 0 0 (MQ below (QR G (some (.int r)) sh go gl gr n) ([.ref (adr G 128), .int a1, .int a2] : List Value).toArray s rm_X14_through.cells rm_X14_through.slots (own G)) (F0 m 23 ls []) := by
        intro k23
        induction k23 with
        | zero => intro _ _ _ _ _ _ _ _; exact nofun
        | succ k23 ih23 =>
          intro x9 g10 H locs ls hR hS hl h
          unfold l_X14_through_23 b_X14_through_23 at h
          refine lv_iload_n hx hb dX14_through_23 rfl (lv_at hl 3 rfl) ?_
          refine lv_iconst (v := 3) hx hb dX14_through_24 ki_3 ?_
          refine lv_icmp_gt (tgt := 74) hx hb dX14_through_25 (by decide) (fun c11 => ?_) (fun c11 => ?_)
          · replace h := ifp h c11
            refine lv_bipush (v := (-3)) hx hb dX14_through_74 kb_m3 ?_
            obtain ⟨rfl, rfl⟩ := s2i h
            exact r_iret0 hx hb hr hlk hR hS (Nat.zero_le _) (Nat.zero_le _) dX14_through_76
          · replace h := ifn h c11
            refine lv_iconst (v := 0) hx hb dX14_through_28 ki_0 ?_
            refine lv_istore (lv' := [(4, .int 0), (0, .ref (adr G 128)), (1, .int a1), (2, .int a2), (3, .int x9)]) hx hb dX14_through_29 hl (by decide) rfl (fun ls hl => ?_)
            have J31 : ∀ (k31 : Nat) (x12 : Int32) (g13 : GM) (H : Heap) (locs : List Loc) (ls : Array Slot), Rep G sh g13 gl gr n H → va_S (own G) s.heap H locs → lv_has ls 5 [(0, .ref (adr G 128)), (1, .int a1), (2, .int a2), (3, .int x9), (4, .int x12)] → l_X14_through_31 a1 a2 x9 (l_X14_through_23 a1 a2 k23) k31 x12 g13 = some (r, go) → W p l e rm_X14_through s m ([.ref (adr G 128), .int a1, .int a2] : List Value).toArray below meth c H locs 0 0 (MQ below (QR G (some (.int r)) sh go gl gr n) ([.ref (adr G 128), .int a1, .int a2] : List Value).toArray s rm_X14_through.cells rm_X14_through.slots (own G)) (F0 m 31 ls []) := by
              intro k31
              induction k31 with
              | zero => intro _ _ _ _ _ _ _ _; exact nofun
              | succ k31 ih31 =>
                intro x12 g13 H locs ls hR hS hl h
                unfold l_X14_through_31 b_X14_through_31 at h
                refine lv_iload hx hb dX14_through_31 (lv_at hl 4 rfl) ?_
                refine lv_iconst (v := 1) hx hb dX14_through_33 ki_1 ?_
                refine lv_iconst (v := 3) hx hb dX14_through_34 ki_3 ?_
                refine lv_iload_n hx hb dX14_through_35 rfl (lv_at hl 3 rfl) ?_
                refine lv_imul hx hb dX14_through_36 ?_
                refine lv_ishl hx hb dX14_through_37 ?_
                refine lv_icmp_ge (tgt := 68) hx hb dX14_through_38 (by decide) (fun c14 => ?_) (fun c14 => ?_)
                · replace h := ifp h c14
                  refine lv_iinc (v := x9 + 1) (lv' := [(3, .int (x9 + 1)), (0, .ref (adr G 128)), (1, .int a1), (2, .int a2), (4, .int x12)]) hx hb dX14_through_68 hl (k := 3) rfl rfl (by decide) rfl (fun ls hl => ?_)
                  refine lv_goto (tgt := 23) hx hb dX14_through_71 (by decide) ?_
                  exact ih23 (x9 + 1) g13 _ _ _ hR hS (lv_sub hl [1, 2, 3, 0] rfl) h
                · replace h := ifn h c14
                  refine lv_aload_n hx hb dX14_through_41 rfl (lv_at hl 0 rfl) ?_
                  refine lv_iload_n hx hb dX14_through_42 rfl (lv_at hl 1 rfl) ?_
                  refine lv_iload_n hx hb dX14_through_43 rfl (lv_at hl 2 rfl) ?_
                  refine lv_iload_n hx hb dX14_through_44 rfl (lv_at hl 3 rfl) ?_
                  refine lv_iload hx hb dX14_through_45 (lv_at hl 4 rfl) ?_
                  obtain ⟨r16, g17, e15, h⟩ := obd2 h
                  refine rc_V0 (rest := []) (st1 := [.int r16]) hF (w_X14_isThrough hSk a1 a2 x9 x12 e15) (cwV 4 hts (lw_V q1829 q1831 qs69 q117 q1832) rfl rfl rfl hd_X14_isThrough ⟨Nat.le_of_ble_eq_true rfl, Nat.le_of_ble_eq_true rfl⟩) cfX14 (sk_128 hSk) hK hW hR hS rfl hl.1 rfl (Nat.le_of_ble_eq_true rfl) rfl dX14_through_47 ⟨rfl, rfl⟩ ⟨Nat.zero_le _, Nat.zero_le _⟩ (fun H locs hR hS => ?_)
                  refine lv_if_eq (tgt := 62) hx hb dX14_through_50 (by decide) (fun c18 => ?_) (fun c18 => ?_)
                  · replace h := ifp h c18
                    refine lv_iinc (v := x12 + 1) (lv' := [(4, .int (x12 + 1)), (0, .ref (adr G 128)), (1, .int a1), (2, .int a2), (3, .int x9)]) hx hb dX14_through_62 hl (k := 4) rfl rfl (by decide) rfl (fun ls hl => ?_)
                    refine lv_goto (tgt := 31) hx hb dX14_through_65 (by decide) ?_
                    exact ih31 (x12 + 1) g17 _ _ _ hR hS (lv_sub hl [1, 2, 3, 4, 0] rfl) h
                  · replace h := ifn h c18
                    refine lv_iconst (v := 1) hx hb dX14_through_53 ki_1 ?_
                    refine lv_iconst (v := 3) hx hb dX14_through_54 ki_3 ?_
                    refine lv_iload_n hx hb dX14_through_55 rfl (lv_at hl 3 rfl) ?_
                    refine lv_imul hx hb dX14_through_56 ?_
                    refine lv_ishl hx hb dX14_through_57 ?_
                    refine lv_iload hx hb dX14_through_58 (lv_at hl 4 rfl) ?_
                    refine lv_iadd hx hb dX14_through_60 ?_
                    obtain ⟨rfl, rfl⟩ := s2i h
                    exact r_iret0 hx hb hr hlk hR hS (Nat.zero_le _) (Nat.zero_le _) dX14_through_61
            exact J31 fuel 0 g10 _ _ _ hR hS (lv_sub hl [1, 2, 3, 4, 0] rfl) h
      exact J23 fuel 0 g8 _ _ _ hR hS (lv_sub hl [1, 2, 3, 0] rfl) h
    · replace h := ifp h c6
      exact J15  _ _ _ hR hS (lv_sub hl [] rfl) h
def rm_X14_isSoon : Room := { frames := 2, cells := 0, slots := 0, locals := 37 }
theorem he_X14_isSoon : yX14_isSoon.cls ≠ "java/lang/invoke/MethodHandle" ∧ yX14_isSoon.cls ≠ "java/lang/invoke/VarHandle" ∧ (parseMethodDescriptor yX14_isSoon.desc).map (fun d => d.parameters.length) = some 1 := by decide +kernel

set_option maxHeartbeats 4000000 in
set_option maxRecDepth 100000 in
theorem w_X14_isSoon {l : Launch} {G : Gx} {sh : SM} {g : GM} {gl : LM} {gr : RM} {n : Nat} (hSk : Sk sh gr) (a0 : Int32)  {r : Int32} (h : f_X14_isSoon  a0 = some r) : MetI l G yX14_isSoon (ws_ yX14_isSoon cX14_isSoon 1 (Option.some Jvm.ClassFile.FieldType.boolean)) rm_X14_isSoon [.int a0] sh g gl gr n (some (.int r)) sh g gl gr n := by
  refine MetI.of (by decide) (Nat.le_of_ble_eq_true rfl) ?_
  intro p e s m below meth c ls hx hb hr hml hown hts hlk hnm hW hK hR hS hl
  have hown : s.vm.findClass RX14 = some m.cls := hown
  have hF : CallFix p m c cX14_isSoon 1 s ([.int a0] : List Value).toArray lw_all RX14 := ⟨hx, hb, hml, hown, hts⟩
  have hl : lv_has ls 1 [(0, .int a0)] := hl
  unfold f_X14_isSoon at h
  refine lv_iload_n hx hb dX14_isSoon_0 rfl (lv_at hl 0 rfl) ?_
  refine lv_i2l hx hb dX14_isSoon_1 rfl ?_
  refine lv_lconst (v := 1) hx hb dX14_isSoon_2 rfl ?_
  refine lv_ldc2 (v := 40) hx hb hown (hts _ q1840) dX14_isSoon_3 ?_
  obtain ⟨r2, e1, h⟩ := obd h
  refine rc_S0 (rest := []) (st1 := [.int r2]) hF (w_X14_in hSk a0.toInt64 1 40 e1) (va_cwS 3 hts (lw_S q1602 q1603 q117 q1604) rfl rfl rfl he_X14_in ⟨Nat.le_of_ble_eq_true rfl, Nat.le_of_ble_eq_true rfl⟩) hW hR hS rfl hl.1 rfl (Nat.le_of_ble_eq_true rfl) rfl dX14_isSoon_6 ⟨rfl, rfl⟩ ⟨Nat.zero_le _, Nat.zero_le _⟩ (fun H locs hR hS => ?_)
  obtain ⟨c3, h⟩ := ogrd h
  obtain rfl := s1i h
  exact r_zret0 hx hb hr hlk hR hS (Nat.zero_le _) (Nat.zero_le _) (nb01 c3) dX14_isSoon_9
def rm_X14_vatFor : Room := { frames := 6, cells := 0, slots := 0, locals := 132 }
theorem hd_X14_vatFor : yX14_vatFor.cls = "IntentVatsModel" ∧ yX14_vatFor.cls ≠ "java/lang/invoke/MethodHandle" ∧ yX14_vatFor.cls ≠ "java/lang/invoke/VarHandle" ∧ (parseMethodDescriptor yX14_vatFor.desc).map (fun d => d.parameters.length) = some 2 := by decide +kernel
theorem he_X14_vatFor : yX14_vatFor.cls ≠ "java/lang/invoke/MethodHandle" ∧ yX14_vatFor.cls ≠ "java/lang/invoke/VarHandle" ∧ (parseMethodDescriptor yX14_vatFor.desc).map (fun d => d.parameters.length) = some 2 := hd_X14_vatFor.2

set_option maxHeartbeats 4000000 in
set_option maxRecDepth 100000 in
theorem w_X14_vatFor {l : Launch} {G : Gx} {sh : SM} {g : GM} {gl : LM} {gr : RM} {n : Nat} (hSk : Sk sh gr) (a1 : Int32) (a2 : Int32)  {r : Int32} {go : GM} (h : f_X14_vatFor g a1 a2 = some (r, go)) : MetI l G yX14_vatFor (ws_ yX14_vatFor cX14_vatFor 7 (Option.some Jvm.ClassFile.FieldType.int)) rm_X14_vatFor [.ref (adr G 128), .int a1, .int a2] sh g gl gr n (some (.int r)) sh go gl gr n := by
  refine MetI.of (by decide) (Nat.le_of_ble_eq_true rfl) ?_
  intro p e s m below meth c ls hx hb hr hml hown hts hlk hnm hW hK hR hS hl
  have hown : s.vm.findClass RX14 = some m.cls := hown
  have hF : CallFix p m c cX14_vatFor 7 s ([.ref (adr G 128), .int a1, .int a2] : List Value).toArray lw_all RX14 := ⟨hx, hb, hml, hown, hts⟩
  have hl : lv_has ls 7 [(0, .ref (adr G 128)), (1, .int a1), (2, .int a2)] := hl
  unfold f_X14_vatFor at h
  refine lv_iload_n hx hb dX14_vatFor_0 rfl (lv_at hl 1 rfl) ?_
  obtain ⟨r2, e1, h⟩ := obd h
  refine rc_S0 (rest := []) (st1 := [.int r2]) hF (w_X14_isRest hSk a1 e1) (va_cwS 1 hts (lw_S q1630 q1631 q117 q1632) rfl rfl rfl he_X14_isRest ⟨Nat.le_of_ble_eq_true rfl, Nat.le_of_ble_eq_true rfl⟩) hW hR hS rfl hl.1 rfl (Nat.le_of_ble_eq_true rfl) rfl dX14_vatFor_1 ⟨rfl, rfl⟩ ⟨Nat.zero_le _, Nat.zero_le _⟩ (fun H locs hR hS => ?_)
  have J14 : ∀  (H : Heap) (locs : List Loc) (ls : Array Slot), Rep G sh g gl gr n H → va_S (own G) s.heap H locs → lv_has ls 7 [] → j_X14_vatFor_14 g  = some (r, go) → W p l e rm_X14_vatFor s m ([.ref (adr G 128), .int a1, .int a2] : List Value).toArray below meth c H locs 0 0 (MQ below (QR G (some (.int r)) sh go gl gr n) ([.ref (adr G 128), .int a1, .int a2] : List Value).toArray s rm_X14_vatFor.cells rm_X14_vatFor.slots (own G)) (F0 m 14 ls []) := by
    intro  H locs ls hR hS hl h
    unfold j_X14_vatFor_14 at h
    refine lv_iconst (v := (-1)) hx hb dX14_vatFor_14 ki_m1 ?_
    obtain ⟨rfl, rfl⟩ := s2i h
    exact r_iret0 hx hb hr hlk hR hS (Nat.zero_le _) (Nat.zero_le _) dX14_vatFor_15
  refine lv_if_eq (tgt := 14) hx hb dX14_vatFor_4 (by decide) (fun c3 => ?_) (fun c3 => ?_)
  · replace h := ifp h c3
    exact J14  _ _ _ hR hS (lv_sub hl [] rfl) h
  · replace h := ifn h c3
    refine lv_iload_n hx hb dX14_vatFor_7 rfl (lv_at hl 2 rfl) ?_
    obtain ⟨r5, e4, h⟩ := obd h
    refine rc_S0 (rest := []) (st1 := [.int r5]) hF (w_X14_isSoon hSk a2 e4) (va_cwS 1 hts (lw_S q1837 q1838 q117 q1839) rfl rfl rfl he_X14_isSoon ⟨Nat.le_of_ble_eq_true rfl, Nat.le_of_ble_eq_true rfl⟩) hW hR hS rfl hl.1 rfl (Nat.le_of_ble_eq_true rfl) rfl dX14_vatFor_8 ⟨rfl, rfl⟩ ⟨Nat.zero_le _, Nat.zero_le _⟩ (fun H locs hR hS => ?_)
    refine lv_if_ne (tgt := 16) hx hb dX14_vatFor_11 (by decide) (fun c6 => ?_) (fun c6 => ?_)
    · replace h := ifn h c6
      refine lv_iconst (v := (-1)) hx hb dX14_vatFor_16 ki_m1 ?_
      refine lv_istore_n (lv' := [(3, .int (-1)), (0, .ref (adr G 128)), (1, .int a1), (2, .int a2)]) hx hb dX14_vatFor_17 rfl hl (by decide) rfl (fun ls hl => ?_)
      refine lv_iconst (v := (-1)) hx hb dX14_vatFor_18 ki_m1 ?_
      refine lv_istore (lv' := [(4, .int (-1)), (3, .int (-1)), (0, .ref (adr G 128)), (1, .int a1), (2, .int a2)]) hx hb dX14_vatFor_19 hl (by decide) rfl (fun ls hl => ?_)
      refine lv_iconst (v := 0) hx hb dX14_vatFor_21 ki_0 ?_
      refine lv_istore (lv' := [(5, .int 0), (4, .int (-1)), (3, .int (-1)), (0, .ref (adr G 128)), (1, .int a1), (2, .int a2)]) hx hb dX14_vatFor_22 hl (by decide) rfl (fun ls hl => ?_)
      have J24 : ∀ (k24 : Nat) (x7 : Int32) (x8 : Int32) (x9 : Int32) (g10 : GM) (H : Heap) (locs : List Loc) (ls : Array Slot), Rep G sh g10 gl gr n H → va_S (own G) s.heap H locs → lv_has ls 7 [(0, .ref (adr G 128)), (1, .int a1), (2, .int a2), (3, .int x7), (4, .int x8), (5, .int x9)] → l_X14_vatFor_24 a1 a2 k24 x7 x8 x9 g10 = some (r, go) → W p l e rm_X14_vatFor s m ([.ref (adr G 128), .int a1, .int a2] : List Value).toArray below meth c H locs 0 0 (MQ below (QR G (some (.int r)) sh go gl gr n) ([.ref (adr G 128), .int a1, .int a2] : List Value).toArray s rm_X14_vatFor.cells rm_X14_vatFor.slots (own G)) (F0 m 24 ls []) := by
        intro k24
        induction k24 with
        | zero => intro _ _ _ _ _ _ _ _ _ _; exact nofun
        | succ k24 ih24 =>
          intro x7 x8 x9 g10 H locs ls hR hS hl h
          unfold l_X14_vatFor_24 b_X14_vatFor_24 at h
          refine lv_iload hx hb dX14_vatFor_24 (lv_at hl 5 rfl) ?_
          refine lv_bipush (v := 8) hx hb dX14_vatFor_26 kb_8 ?_
          refine lv_icmp_ge (tgt := 90) hx hb dX14_vatFor_28 (by decide) (fun c11 => ?_) (fun c11 => ?_)
          · replace h := ifp h c11
            refine lv_iload_n hx hb dX14_vatFor_90 rfl (lv_at hl 3 rfl) ?_
            obtain ⟨rfl, rfl⟩ := s2i h
            exact r_iret0 hx hb hr hlk hR hS (Nat.zero_le _) (Nat.zero_le _) dX14_vatFor_91
          · replace h := ifn h c11
            refine lv_aload_n hx hb dX14_vatFor_31 rfl (lv_at hl 0 rfl) ?_
            obtain ⟨g13, e12, h⟩ := obd h
            refine rc_V0 (rest := []) (st1 := []) hF (w_X14_lends hSk e12) (cwV 0 hts (lw_V q1759 q1761 qs60 q117 q1762) rfl rfl rfl hd_X14_lends ⟨Nat.le_of_ble_eq_true rfl, Nat.le_of_ble_eq_true rfl⟩) cfX14 (sk_128 hSk) hK hW hR hS rfl hl.1 rfl (Nat.le_of_ble_eq_true rfl) rfl dX14_vatFor_32 ⟨rfl, rfl⟩ ⟨Nat.zero_le _, Nat.zero_le _⟩ (fun H locs hR hS => ?_)
            refine lv_aload_n hx hb dX14_vatFor_35 rfl (lv_at hl 0 rfl) ?_
            refine r_getr hx hb hts cfX14 hown hK hR (sk_128 hSk) 2 (by decide) rfl (sr_128_2 hSk) (hts _ q1523) (fun _ h => h) dX14_vatFor_36 ?_
            refine lv_bipush (v := 23) hx hb dX14_vatFor_39 kb_23 ?_
            refine lv_iload_n hx hb dX14_vatFor_41 rfl (lv_at hl 1 rfl) ?_
            refine lv_iadd hx hb dX14_vatFor_42 ?_
            refine lv_iload hx hb dX14_vatFor_43 (lv_at hl 5 rfl) ?_
            obtain ⟨g15, e14, h⟩ := obd h
            refine r_sti hx hb hK hR hS (sk_131 hSk) e14 dX14_vatFor_45 (fun H locs hR hS => ?_)
            refine lv_aload_n hx hb dX14_vatFor_46 rfl (lv_at hl 0 rfl) ?_
            refine lv_iload_n hx hb dX14_vatFor_47 rfl (lv_at hl 2 rfl) ?_
            obtain ⟨g17, e16, h⟩ := obd h
            refine rc_V0 (rest := []) (st1 := []) hF (w_X14_goes hSk a2 e16) (cwV 1 hts (lw_V q1725 q1727 qs55 q117 q1728) rfl rfl rfl hd_X14_goes ⟨Nat.le_of_ble_eq_true rfl, Nat.le_of_ble_eq_true rfl⟩) cfX14 (sk_128 hSk) hK hW hR hS rfl hl.1 rfl (Nat.le_of_ble_eq_true rfl) rfl dX14_vatFor_48 ⟨rfl, rfl⟩ ⟨Nat.zero_le _, Nat.zero_le _⟩ (fun H locs hR hS => ?_)
            refine lv_aload_n hx hb dX14_vatFor_51 rfl (lv_at hl 0 rfl) ?_
            obtain ⟨r19, e18, h⟩ := obd h
            refine rc_V0 (rest := []) (st1 := [.int r19]) hF (w_X14_depths hSk e18) (cwV 0 hts (lw_V q1733 q1735 qs57 q117 q1736) rfl rfl rfl hd_X14_depths ⟨Nat.le_of_ble_eq_true rfl, Nat.le_of_ble_eq_true rfl⟩) cfX14 (sk_128 hSk) hK hW hR hS rfl hl.1 rfl (Nat.le_of_ble_eq_true rfl) rfl dX14_vatFor_52 ⟨rfl, rfl⟩ ⟨Nat.zero_le _, Nat.zero_le _⟩ (fun H locs hR hS => ?_)
            refine lv_istore (lv' := [(6, .int r19), (0, .ref (adr G 128)), (1, .int a1), (2, .int a2), (3, .int x7), (4, .int x8), (5, .int x9)]) hx hb dX14_vatFor_55 hl (by decide) rfl (fun ls hl => ?_)
            refine lv_aload_n hx hb dX14_vatFor_57 rfl (lv_at hl 1 rfl) ?_
            obtain ⟨g21, e20, h⟩ := obd h
            refine rc_V0 (rest := []) (st1 := []) hF (w_X14_laysBack hSk e20) (cwV 0 hts (lw_V q1766 q1768 qs61 q117 q1769) rfl rfl rfl hd_X14_laysBack ⟨Nat.le_of_ble_eq_true rfl, Nat.le_of_ble_eq_true rfl⟩) cfX14 (sk_128 hSk) hK hW hR hS rfl hl.1 rfl (Nat.le_of_ble_eq_true rfl) rfl dX14_vatFor_58 ⟨rfl, rfl⟩ ⟨Nat.zero_le _, Nat.zero_le _⟩ (fun H locs hR hS => ?_)
            refine lv_iload hx hb dX14_vatFor_61 (lv_at hl 0 rfl) ?_
            refine lv_iload hx hb dX14_vatFor_63 (lv_at hl 5 rfl) ?_
            have J74 : ∀ (x22 : Int32) (H : Heap) (locs : List Loc) (ls : Array Slot), Rep G sh g21 gl gr n H → va_S (own G) s.heap H locs → lv_has ls 7 [(0, .ref (adr G 128)), (1, .int a1), (2, .int a2), (4, .int x8), (5, .int x9), (6, .int r19)] → j_X14_vatFor_74 x8 x9 (l_X14_vatFor_24 a1 a2 k24) r19 g21 x22 = some (r, go) → W p l e rm_X14_vatFor s m ([.ref (adr G 128), .int a1, .int a2] : List Value).toArray below meth c H locs 0 0 (MQ below (QR G (some (.int r)) sh go gl gr n) ([.ref (adr G 128), .int a1, .int a2] : List Value).toArray s rm_X14_vatFor.cells rm_X14_vatFor.slots (own G)) (F0 m 74 ls [.int x22]) := by
              intro x22 H locs ls hR hS hl h
              unfold j_X14_vatFor_74 at h
              refine lv_istore_n (lv' := [(3, .int x22), (0, .ref (adr G 128)), (1, .int a1), (2, .int a2), (4, .int x8), (5, .int x9), (6, .int r19)]) hx hb dX14_vatFor_74 rfl hl (by decide) rfl (fun ls hl => ?_)
              refine lv_iload hx hb dX14_vatFor_75 (lv_at hl 4 rfl) ?_
              refine lv_iload hx hb dX14_vatFor_77 (lv_at hl 6 rfl) ?_
              refine va_mmax hx hb (hml.trans hl.1.symm) hown (hts _ q1716) (hts _ q837) (hts _ q123) (hts _ q838) (Nat.le_of_ble_eq_true rfl) (Nat.le_of_ble_eq_true rfl) (Nat.zero_le _) (Nat.zero_le _) dX14_vatFor_79 ?_
              refine lv_istore (lv' := [(4, .int (imax x8 r19)), (3, .int x22), (0, .ref (adr G 128)), (1, .int a1), (2, .int a2), (5, .int x9), (6, .int r19)]) hx hb dX14_vatFor_82 hl (by decide) rfl (fun ls hl => ?_)
              refine lv_iinc (v := x9 + 1) (lv' := [(5, .int (x9 + 1)), (4, .int (imax x8 r19)), (3, .int x22), (0, .ref (adr G 128)), (1, .int a1), (2, .int a2), (6, .int r19)]) hx hb dX14_vatFor_84 hl (k := 5) rfl rfl (by decide) rfl (fun ls hl => ?_)
              refine lv_goto (tgt := 24) hx hb dX14_vatFor_87 (by decide) ?_
              exact ih24 x22 (imax x8 r19) (x9 + 1) g21 _ _ _ hR hS (lv_sub hl [3, 4, 5, 2, 1, 0] rfl) h
            refine lv_icmp_le (tgt := 73) hx hb dX14_vatFor_65 (by decide) (fun c23 => ?_) (fun c23 => ?_)
            · replace h := ifp h c23
              refine lv_iload_n hx hb dX14_vatFor_73 rfl (lv_at hl 4 rfl) ?_
              exact J74 x7 _ _ _ hR hS (lv_sub hl [1, 2, 3, 5, 6, 0] rfl) h
            · replace h := ifn h c23
              refine lv_iload hx hb dX14_vatFor_68 (lv_at hl 6 rfl) ?_
              refine lv_goto (tgt := 74) hx hb dX14_vatFor_70 (by decide) ?_
              exact J74 x9 _ _ _ hR hS (lv_sub hl [1, 2, 3, 5, 6, 0] rfl) h
      exact J24 fuel (-1) (-1) 0 g _ _ _ hR hS (lv_sub hl [3, 4, 5, 2, 1, 0] rfl) h
    · replace h := ifp h c6
      exact J14  _ _ _ hR hS (lv_sub hl [] rfl) h
def rm_X14_kindFor : Room := { frames := 7, cells := 0, slots := 0, locals := 156 }
theorem hd_X14_kindFor : yX14_kindFor.cls = "IntentVatsModel" ∧ yX14_kindFor.cls ≠ "java/lang/invoke/MethodHandle" ∧ yX14_kindFor.cls ≠ "java/lang/invoke/VarHandle" ∧ (parseMethodDescriptor yX14_kindFor.desc).map (fun d => d.parameters.length) = some 2 := by decide +kernel
theorem he_X14_kindFor : yX14_kindFor.cls ≠ "java/lang/invoke/MethodHandle" ∧ yX14_kindFor.cls ≠ "java/lang/invoke/VarHandle" ∧ (parseMethodDescriptor yX14_kindFor.desc).map (fun d => d.parameters.length) = some 2 := hd_X14_kindFor.2

set_option maxHeartbeats 4000000 in
set_option maxRecDepth 100000 in
theorem w_X14_kindFor {l : Launch} {G : Gx} {sh : SM} {g : GM} {gl : LM} {gr : RM} {n : Nat} (hSk : Sk sh gr) (a1 : Int32) (a2 : Int32)  {r : Int32} {go : GM} (h : f_X14_kindFor g a1 a2 = some (r, go)) : MetI l G yX14_kindFor (ws_ yX14_kindFor cX14_kindFor 7 (Option.some Jvm.ClassFile.FieldType.int)) rm_X14_kindFor [.ref (adr G 128), .int a1, .int a2] sh g gl gr n (some (.int r)) sh go gl gr n := by
  refine MetI.of (by decide) (Nat.le_of_ble_eq_true rfl) ?_
  intro p e s m below meth c ls hx hb hr hml hown hts hlk hnm hW hK hR hS hl
  have hown : s.vm.findClass RX14 = some m.cls := hown
  have hF : CallFix p m c cX14_kindFor 7 s ([.ref (adr G 128), .int a1, .int a2] : List Value).toArray lw_all RX14 := ⟨hx, hb, hml, hown, hts⟩
  have hl : lv_has ls 7 [(0, .ref (adr G 128)), (1, .int a1), (2, .int a2)] := hl
  unfold f_X14_kindFor at h
  refine lv_aload_n hx hb dX14_kindFor_0 rfl (lv_at hl 0 rfl) ?_
  refine lv_iload_n hx hb dX14_kindFor_1 rfl (lv_at hl 1 rfl) ?_
  obtain ⟨r2, e1, h⟩ := obd h
  refine rc_V0 (rest := []) (st1 := [.int r2]) hF (w_X14_isCloth hSk a1 e1) (cwV 1 hts (lw_V q1657 q1659 qs47 q117 q1660) rfl rfl rfl hd_X14_isCloth ⟨Nat.le_of_ble_eq_true rfl, Nat.le_of_ble_eq_true rfl⟩) cfX14 (sk_128 hSk) hK hW hR hS rfl hl.1 rfl (Nat.le_of_ble_eq_true rfl) rfl dX14_kindFor_2 ⟨rfl, rfl⟩ ⟨Nat.zero_le _, Nat.zero_le _⟩ (fun H locs hR hS => ?_)
  have J15 : ∀  (H : Heap) (locs : List Loc) (ls : Array Slot), Rep G sh g gl gr n H → va_S (own G) s.heap H locs → lv_has ls 7 [] → j_X14_kindFor_15 g  = some (r, go) → W p l e rm_X14_kindFor s m ([.ref (adr G 128), .int a1, .int a2] : List Value).toArray below meth c H locs 0 0 (MQ below (QR G (some (.int r)) sh go gl gr n) ([.ref (adr G 128), .int a1, .int a2] : List Value).toArray s rm_X14_kindFor.cells rm_X14_kindFor.slots (own G)) (F0 m 15 ls []) := by
    intro  H locs ls hR hS hl h
    unfold j_X14_kindFor_15 at h
    refine lv_iconst (v := (-1)) hx hb dX14_kindFor_15 ki_m1 ?_
    obtain ⟨rfl, rfl⟩ := s2i h
    exact r_iret0 hx hb hr hlk hR hS (Nat.zero_le _) (Nat.zero_le _) dX14_kindFor_16
  refine lv_if_eq (tgt := 15) hx hb dX14_kindFor_5 (by decide) (fun c3 => ?_) (fun c3 => ?_)
  · replace h := ifp h c3
    exact J15  _ _ _ hR hS (lv_sub hl [] rfl) h
  · replace h := ifn h c3
    refine lv_iload_n hx hb dX14_kindFor_8 rfl (lv_at hl 2 rfl) ?_
    obtain ⟨r5, e4, h⟩ := obd h
    refine rc_S0 (rest := []) (st1 := [.int r5]) hF (w_X14_isSoon hSk a2 e4) (va_cwS 1 hts (lw_S q1837 q1838 q117 q1839) rfl rfl rfl he_X14_isSoon ⟨Nat.le_of_ble_eq_true rfl, Nat.le_of_ble_eq_true rfl⟩) hW hR hS rfl hl.1 rfl (Nat.le_of_ble_eq_true rfl) rfl dX14_kindFor_9 ⟨rfl, rfl⟩ ⟨Nat.zero_le _, Nat.zero_le _⟩ (fun H locs hR hS => ?_)
    refine lv_if_ne (tgt := 17) hx hb dX14_kindFor_12 (by decide) (fun c6 => ?_) (fun c6 => ?_)
    · replace h := ifn h c6
      refine lv_iconst (v := (-1)) hx hb dX14_kindFor_17 ki_m1 ?_
      refine lv_istore_n (lv' := [(3, .int (-1)), (0, .ref (adr G 128)), (1, .int a1), (2, .int a2)]) hx hb dX14_kindFor_18 rfl hl (by decide) rfl (fun ls hl => ?_)
      refine lv_iconst (v := (-1)) hx hb dX14_kindFor_19 ki_m1 ?_
      refine lv_istore (lv' := [(4, .int (-1)), (3, .int (-1)), (0, .ref (adr G 128)), (1, .int a1), (2, .int a2)]) hx hb dX14_kindFor_20 hl (by decide) rfl (fun ls hl => ?_)
      refine lv_iconst (v := 0) hx hb dX14_kindFor_22 ki_0 ?_
      refine lv_istore (lv' := [(5, .int 0), (4, .int (-1)), (3, .int (-1)), (0, .ref (adr G 128)), (1, .int a1), (2, .int a2)]) hx hb dX14_kindFor_23 hl (by decide) rfl (fun ls hl => ?_)
      have J25 : ∀ (k25 : Nat) (x7 : Int32) (x8 : Int32) (x9 : Int32) (g10 : GM) (H : Heap) (locs : List Loc) (ls : Array Slot), Rep G sh g10 gl gr n H → va_S (own G) s.heap H locs → lv_has ls 7 [(0, .ref (adr G 128)), (1, .int a1), (2, .int a2), (3, .int x7), (4, .int x8), (5, .int x9)] → l_X14_kindFor_25 a1 a2 k25 x7 x8 x9 g10 = some (r, go) → W p l e rm_X14_kindFor s m ([.ref (adr G 128), .int a1, .int a2] : List Value).toArray below meth c H locs 0 0 (MQ below (QR G (some (.int r)) sh go gl gr n) ([.ref (adr G 128), .int a1, .int a2] : List Value).toArray s rm_X14_kindFor.cells rm_X14_kindFor.slots (own G)) (F0 m 25 ls []) := by
        intro k25
        induction k25 with
        | zero => intro _ _ _ _ _ _ _ _ _ _; exact nofun
        | succ k25 ih25 =>
          intro x7 x8 x9 g10 H locs ls hR hS hl h
          unfold l_X14_kindFor_25 b_X14_kindFor_25 at h
          refine lv_iload hx hb dX14_kindFor_25 (lv_at hl 5 rfl) ?_
          refine lv_iconst (v := 5) hx hb dX14_kindFor_27 ki_5 ?_
          refine lv_icmp_gt (tgt := 81) hx hb dX14_kindFor_28 (by decide) (fun c11 => ?_) (fun c11 => ?_)
          · replace h := ifp h c11
            refine lv_iload_n hx hb dX14_kindFor_81 rfl (lv_at hl 3 rfl) ?_
            obtain ⟨rfl, rfl⟩ := s2i h
            exact r_iret0 hx hb hr hlk hR hS (Nat.zero_le _) (Nat.zero_le _) dX14_kindFor_82
          · replace h := ifn h c11
            refine lv_aload_n hx hb dX14_kindFor_31 rfl (lv_at hl 0 rfl) ?_
            obtain ⟨g13, e12, h⟩ := obd h
            refine rc_V0 (rest := []) (st1 := []) hF (w_X14_lends hSk e12) (cwV 0 hts (lw_V q1759 q1761 qs60 q117 q1762) rfl rfl rfl hd_X14_lends ⟨Nat.le_of_ble_eq_true rfl, Nat.le_of_ble_eq_true rfl⟩) cfX14 (sk_128 hSk) hK hW hR hS rfl hl.1 rfl (Nat.le_of_ble_eq_true rfl) rfl dX14_kindFor_32 ⟨rfl, rfl⟩ ⟨Nat.zero_le _, Nat.zero_le _⟩ (fun H locs hR hS => ?_)
            refine lv_aload_n hx hb dX14_kindFor_35 rfl (lv_at hl 0 rfl) ?_
            refine lv_iload_n hx hb dX14_kindFor_36 rfl (lv_at hl 1 rfl) ?_
            refine lv_iconst (v := 0) hx hb dX14_kindFor_37 ki_0 ?_
            refine lv_iload hx hb dX14_kindFor_38 (lv_at hl 5 rfl) ?_
            obtain ⟨g15, e14, h⟩ := obd h
            refine rc_V0 (rest := []) (st1 := []) hF (w_X14_sets hSk a1 0 x9 e14) (cwV 3 hts (lw_V q1649 q1651 qs46 q117 q1652) rfl rfl rfl hd_X14_sets ⟨Nat.le_of_ble_eq_true rfl, Nat.le_of_ble_eq_true rfl⟩) cfX14 (sk_128 hSk) hK hW hR hS rfl hl.1 rfl (Nat.le_of_ble_eq_true rfl) rfl dX14_kindFor_40 ⟨rfl, rfl⟩ ⟨Nat.zero_le _, Nat.zero_le _⟩ (fun H locs hR hS => ?_)
            refine lv_aload_n hx hb dX14_kindFor_43 rfl (lv_at hl 0 rfl) ?_
            refine lv_iload_n hx hb dX14_kindFor_44 rfl (lv_at hl 1 rfl) ?_
            refine lv_iconst (v := 2) hx hb dX14_kindFor_45 ki_2 ?_
            refine lv_iload_n hx hb dX14_kindFor_46 rfl (lv_at hl 2 rfl) ?_
            obtain ⟨r17, g18, e16, h⟩ := obd2 h
            refine rc_V0 (rest := []) (st1 := [.int r17]) hF (w_X14_behind hSk a1 2 a2 e16) (cwV 3 hts (lw_V q1797 q1799 qs66 q117 q1800) rfl rfl rfl hd_X14_behind ⟨Nat.le_of_ble_eq_true rfl, Nat.le_of_ble_eq_true rfl⟩) cfX14 (sk_128 hSk) hK hW hR hS rfl hl.1 rfl (Nat.le_of_ble_eq_true rfl) rfl dX14_kindFor_47 ⟨rfl, rfl⟩ ⟨Nat.zero_le _, Nat.zero_le _⟩ (fun H locs hR hS => ?_)
            refine lv_istore (lv' := [(6, .int r17), (0, .ref (adr G 128)), (1, .int a1), (2, .int a2), (3, .int x7), (4, .int x8), (5, .int x9)]) hx hb dX14_kindFor_50 hl (by decide) rfl (fun ls hl => ?_)
            refine lv_iload hx hb dX14_kindFor_52 (lv_at hl 0 rfl) ?_
            refine lv_iload hx hb dX14_kindFor_54 (lv_at hl 5 rfl) ?_
            have J65 : ∀ (x19 : Int32) (H : Heap) (locs : List Loc) (ls : Array Slot), Rep G sh g18 gl gr n H → va_S (own G) s.heap H locs → lv_has ls 7 [(0, .ref (adr G 128)), (1, .int a1), (2, .int a2), (4, .int x8), (5, .int x9), (6, .int r17)] → j_X14_kindFor_65 x8 x9 (l_X14_kindFor_25 a1 a2 k25) r17 g18 x19 = some (r, go) → W p l e rm_X14_kindFor s m ([.ref (adr G 128), .int a1, .int a2] : List Value).toArray below meth c H locs 0 0 (MQ below (QR G (some (.int r)) sh go gl gr n) ([.ref (adr G 128), .int a1, .int a2] : List Value).toArray s rm_X14_kindFor.cells rm_X14_kindFor.slots (own G)) (F0 m 65 ls [.int x19]) := by
              intro x19 H locs ls hR hS hl h
              unfold j_X14_kindFor_65 at h
              refine lv_istore_n (lv' := [(3, .int x19), (0, .ref (adr G 128)), (1, .int a1), (2, .int a2), (4, .int x8), (5, .int x9), (6, .int r17)]) hx hb dX14_kindFor_65 rfl hl (by decide) rfl (fun ls hl => ?_)
              refine lv_iload hx hb dX14_kindFor_66 (lv_at hl 4 rfl) ?_
              refine lv_iload hx hb dX14_kindFor_68 (lv_at hl 6 rfl) ?_
              refine va_mmax hx hb (hml.trans hl.1.symm) hown (hts _ q1716) (hts _ q837) (hts _ q123) (hts _ q838) (Nat.le_of_ble_eq_true rfl) (Nat.le_of_ble_eq_true rfl) (Nat.zero_le _) (Nat.zero_le _) dX14_kindFor_70 ?_
              refine lv_istore (lv' := [(4, .int (imax x8 r17)), (3, .int x19), (0, .ref (adr G 128)), (1, .int a1), (2, .int a2), (5, .int x9), (6, .int r17)]) hx hb dX14_kindFor_73 hl (by decide) rfl (fun ls hl => ?_)
              refine lv_iinc (v := x9 + 1) (lv' := [(5, .int (x9 + 1)), (4, .int (imax x8 r17)), (3, .int x19), (0, .ref (adr G 128)), (1, .int a1), (2, .int a2), (6, .int r17)]) hx hb dX14_kindFor_75 hl (k := 5) rfl rfl (by decide) rfl (fun ls hl => ?_)
              refine lv_goto (tgt := 25) hx hb dX14_kindFor_78 (by decide) ?_
              exact ih25 x19 (imax x8 r17) (x9 + 1) g18 _ _ _ hR hS (lv_sub hl [3, 4, 5, 2, 1, 0] rfl) h
            refine lv_icmp_le (tgt := 64) hx hb dX14_kindFor_56 (by decide) (fun c20 => ?_) (fun c20 => ?_)
            · replace h := ifp h c20
              refine lv_iload_n hx hb dX14_kindFor_64 rfl (lv_at hl 4 rfl) ?_
              exact J65 x7 _ _ _ hR hS (lv_sub hl [1, 2, 3, 5, 6, 0] rfl) h
            · replace h := ifn h c20
              refine lv_iload hx hb dX14_kindFor_59 (lv_at hl 6 rfl) ?_
              refine lv_goto (tgt := 65) hx hb dX14_kindFor_61 (by decide) ?_
              exact J65 x9 _ _ _ hR hS (lv_sub hl [1, 2, 3, 5, 6, 0] rfl) h
      exact J25 fuel (-1) (-1) 0 g _ _ _ hR hS (lv_sub hl [3, 4, 5, 2, 1, 0] rfl) h
    · replace h := ifp h c6
      exact J15  _ _ _ hR hS (lv_sub hl [] rfl) h
def rm_X14_strengthFor : Room := { frames := 7, cells := 0, slots := 0, locals := 156 }
theorem hd_X14_strengthFor : yX14_strengthFor.cls = "IntentVatsModel" ∧ yX14_strengthFor.cls ≠ "java/lang/invoke/MethodHandle" ∧ yX14_strengthFor.cls ≠ "java/lang/invoke/VarHandle" ∧ (parseMethodDescriptor yX14_strengthFor.desc).map (fun d => d.parameters.length) = some 4 := by decide +kernel
theorem he_X14_strengthFor : yX14_strengthFor.cls ≠ "java/lang/invoke/MethodHandle" ∧ yX14_strengthFor.cls ≠ "java/lang/invoke/VarHandle" ∧ (parseMethodDescriptor yX14_strengthFor.desc).map (fun d => d.parameters.length) = some 4 := hd_X14_strengthFor.2

set_option maxHeartbeats 4000000 in
set_option maxRecDepth 100000 in
theorem w_X14_strengthFor {l : Launch} {G : Gx} {sh : SM} {g : GM} {gl : LM} {gr : RM} {n : Nat} (hSk : Sk sh gr) (a1 : Int32) (a2 : Int32) (a3 : Int32) (a4 : Int32)  {r : Int32} {go : GM} (h : f_X14_strengthFor g a1 a2 a3 a4 = some (r, go)) : MetI l G yX14_strengthFor (ws_ yX14_strengthFor cX14_strengthFor 7 (Option.some Jvm.ClassFile.FieldType.int)) rm_X14_strengthFor [.ref (adr G 128), .int a1, .int a2, .int a3, .int a4] sh g gl gr n (some (.int r)) sh go gl gr n := by
  refine MetI.of (by decide) (Nat.le_of_ble_eq_true rfl) ?_
  intro p e s m below meth c ls hx hb hr hml hown hts hlk hnm hW hK hR hS hl
  have hown : s.vm.findClass RX14 = some m.cls := hown
  have hF : CallFix p m c cX14_strengthFor 7 s ([.ref (adr G 128), .int a1, .int a2, .int a3, .int a4] : List Value).toArray lw_all RX14 := ⟨hx, hb, hml, hown, hts⟩
  have hl : lv_has ls 7 [(0, .ref (adr G 128)), (1, .int a1), (2, .int a2), (3, .int a3), (4, .int a4)] := hl
  unfold f_X14_strengthFor at h
  refine lv_iload_n hx hb dX14_strengthFor_0 rfl (lv_at hl 1 rfl) ?_
  obtain ⟨r2, e1, h⟩ := obd h
  refine rc_S0 (rest := []) (st1 := [.int r2]) hF (w_X14_isVat hSk a1 e1) (va_cwS 1 hts (lw_S q1617 q1618 q117 q1619) rfl rfl rfl he_X14_isVat ⟨Nat.le_of_ble_eq_true rfl, Nat.le_of_ble_eq_true rfl⟩) hW hR hS rfl hl.1 rfl (Nat.le_of_ble_eq_true rfl) rfl dX14_strengthFor_1 ⟨rfl, rfl⟩ ⟨Nat.zero_le _, Nat.zero_le _⟩ (fun H locs hR hS => ?_)
  have J30 : ∀  (H : Heap) (locs : List Loc) (ls : Array Slot), Rep G sh g gl gr n H → va_S (own G) s.heap H locs → lv_has ls 7 [] → j_X14_strengthFor_30 g  = some (r, go) → W p l e rm_X14_strengthFor s m ([.ref (adr G 128), .int a1, .int a2, .int a3, .int a4] : List Value).toArray below meth c H locs 0 0 (MQ below (QR G (some (.int r)) sh go gl gr n) ([.ref (adr G 128), .int a1, .int a2, .int a3, .int a4] : List Value).toArray s rm_X14_strengthFor.cells rm_X14_strengthFor.slots (own G)) (F0 m 30 ls []) := by
    intro  H locs ls hR hS hl h
    unfold j_X14_strengthFor_30 at h
    refine lv_iconst (v := (-1)) hx hb dX14_strengthFor_30 ki_m1 ?_
    obtain ⟨rfl, rfl⟩ := s2i h
    exact r_iret0 hx hb hr hlk hR hS (Nat.zero_le _) (Nat.zero_le _) dX14_strengthFor_31
  refine lv_if_eq (tgt := 30) hx hb dX14_strengthFor_4 (by decide) (fun c3 => ?_) (fun c3 => ?_)
  · replace h := ifp h c3
    exact J30  _ _ _ hR hS (lv_sub hl [] rfl) h
  · replace h := ifn h c3
    refine lv_aload_n hx hb dX14_strengthFor_7 rfl (lv_at hl 0 rfl) ?_
    refine lv_iload_n hx hb dX14_strengthFor_8 rfl (lv_at hl 2 rfl) ?_
    obtain ⟨r5, e4, h⟩ := obd h
    refine rc_V0 (rest := []) (st1 := [.int r5]) hF (w_X14_isCloth hSk a2 e4) (cwV 1 hts (lw_V q1657 q1659 qs47 q117 q1660) rfl rfl rfl hd_X14_isCloth ⟨Nat.le_of_ble_eq_true rfl, Nat.le_of_ble_eq_true rfl⟩) cfX14 (sk_128 hSk) hK hW hR hS rfl hl.1 rfl (Nat.le_of_ble_eq_true rfl) rfl dX14_strengthFor_9 ⟨rfl, rfl⟩ ⟨Nat.zero_le _, Nat.zero_le _⟩ (fun H locs hR hS => ?_)
    refine lv_if_eq (tgt := 30) hx hb dX14_strengthFor_12 (by decide) (fun c6 => ?_) (fun c6 => ?_)
    · replace h := ifp h c6
      exact J30  _ _ _ hR hS (lv_sub hl [] rfl) h
    · replace h := ifn h c6
      refine lv_iload_n hx hb dX14_strengthFor_15 rfl (lv_at hl 3 rfl) ?_
      obtain ⟨r8, e7, h⟩ := obd h
      refine rc_S0 (rest := []) (st1 := [.int r8]) hF (w_X14_isPurpose hSk a3 e7) (va_cwS 1 hts (lw_S q1695 q1696 q117 q1697) rfl rfl rfl he_X14_isPurpose ⟨Nat.le_of_ble_eq_true rfl, Nat.le_of_ble_eq_true rfl⟩) hW hR hS rfl hl.1 rfl (Nat.le_of_ble_eq_true rfl) rfl dX14_strengthFor_16 ⟨rfl, rfl⟩ ⟨Nat.zero_le _, Nat.zero_le _⟩ (fun H locs hR hS => ?_)
      refine lv_if_eq (tgt := 30) hx hb dX14_strengthFor_19 (by decide) (fun c9 => ?_) (fun c9 => ?_)
      · replace h := ifp h c9
        exact J30  _ _ _ hR hS (lv_sub hl [] rfl) h
      · replace h := ifn h c9
        refine lv_iload hx hb dX14_strengthFor_22 (lv_at hl 4 rfl) ?_
        obtain ⟨r11, e10, h⟩ := obd h
        refine rc_S0 (rest := []) (st1 := [.int r11]) hF (w_X14_isSoon hSk a4 e10) (va_cwS 1 hts (lw_S q1837 q1838 q117 q1839) rfl rfl rfl he_X14_isSoon ⟨Nat.le_of_ble_eq_true rfl, Nat.le_of_ble_eq_true rfl⟩) hW hR hS rfl hl.1 rfl (Nat.le_of_ble_eq_true rfl) rfl dX14_strengthFor_24 ⟨rfl, rfl⟩ ⟨Nat.zero_le _, Nat.zero_le _⟩ (fun H locs hR hS => ?_)
        refine lv_if_ne (tgt := 32) hx hb dX14_strengthFor_27 (by decide) (fun c12 => ?_) (fun c12 => ?_)
        · replace h := ifn h c12
          refine lv_bipush (v := (-3)) hx hb dX14_strengthFor_32 kb_m3 ?_
          refine lv_istore (lv' := [(5, .int (-3)), (0, .ref (adr G 128)), (1, .int a1), (2, .int a2), (3, .int a3), (4, .int a4)]) hx hb dX14_strengthFor_34 hl (by decide) rfl (fun ls hl => ?_)
          refine lv_bipush (v := 9) hx hb dX14_strengthFor_36 kb_9 ?_
          refine lv_istore (lv' := [(6, .int 9), (5, .int (-3)), (0, .ref (adr G 128)), (1, .int a1), (2, .int a2), (3, .int a3), (4, .int a4)]) hx hb dX14_strengthFor_38 hl (by decide) rfl (fun ls hl => ?_)
          have J40 : ∀ (k40 : Nat) (x13 : Int32) (x14 : Int32) (g15 : GM) (H : Heap) (locs : List Loc) (ls : Array Slot), Rep G sh g15 gl gr n H → va_S (own G) s.heap H locs → lv_has ls 7 [(0, .ref (adr G 128)), (1, .int a1), (2, .int a2), (3, .int a3), (4, .int a4), (5, .int x13), (6, .int x14)] → l_X14_strengthFor_40 a1 a2 a3 a4 k40 x13 x14 g15 = some (r, go) → W p l e rm_X14_strengthFor s m ([.ref (adr G 128), .int a1, .int a2, .int a3, .int a4] : List Value).toArray below meth c H locs 0 0 (MQ below (QR G (some (.int r)) sh go gl gr n) ([.ref (adr G 128), .int a1, .int a2, .int a3, .int a4] : List Value).toArray s rm_X14_strengthFor.cells rm_X14_strengthFor.slots (own G)) (F0 m 40 ls []) := by
            intro k40
            induction k40 with
            | zero => intro _ _ _ _ _ _ _ _ _; exact nofun
            | succ k40 ih40 =>
              intro x13 x14 g15 H locs ls hR hS hl h
              unfold l_X14_strengthFor_40 b_X14_strengthFor_40 at h
              refine lv_iload hx hb dX14_strengthFor_40 (lv_at hl 6 rfl) ?_
              refine lv_if_lt (tgt := 87) hx hb dX14_strengthFor_42 (by decide) (fun c16 => ?_) (fun c16 => ?_)
              · replace h := ifp h c16
                refine lv_iload hx hb dX14_strengthFor_87 (lv_at hl 5 rfl) ?_
                obtain ⟨rfl, rfl⟩ := s2i h
                exact r_iret0 hx hb hr hlk hR hS (Nat.zero_le _) (Nat.zero_le _) dX14_strengthFor_89
              · replace h := ifn h c16
                refine lv_aload_n hx hb dX14_strengthFor_45 rfl (lv_at hl 0 rfl) ?_
                obtain ⟨g18, e17, h⟩ := obd h
                refine rc_V0 (rest := []) (st1 := []) hF (w_X14_lends hSk e17) (cwV 0 hts (lw_V q1759 q1761 qs60 q117 q1762) rfl rfl rfl hd_X14_lends ⟨Nat.le_of_ble_eq_true rfl, Nat.le_of_ble_eq_true rfl⟩) cfX14 (sk_128 hSk) hK hW hR hS rfl hl.1 rfl (Nat.le_of_ble_eq_true rfl) rfl dX14_strengthFor_46 ⟨rfl, rfl⟩ ⟨Nat.zero_le _, Nat.zero_le _⟩ (fun H locs hR hS => ?_)
                refine lv_aload_n hx hb dX14_strengthFor_49 rfl (lv_at hl 0 rfl) ?_
                refine r_getr hx hb hts cfX14 hown hK hR (sk_128 hSk) 2 (by decide) rfl (sr_128_2 hSk) (hts _ q1523) (fun _ h => h) dX14_strengthFor_50 ?_
                refine lv_bipush (v := 15) hx hb dX14_strengthFor_53 kb_15 ?_
                refine lv_iload_n hx hb dX14_strengthFor_55 rfl (lv_at hl 1 rfl) ?_
                refine lv_iadd hx hb dX14_strengthFor_56 ?_
                refine lv_iload hx hb dX14_strengthFor_57 (lv_at hl 6 rfl) ?_
                obtain ⟨g20, e19, h⟩ := obd h
                refine r_sti hx hb hK hR hS (sk_131 hSk) e19 dX14_strengthFor_59 (fun H locs hR hS => ?_)
                refine lv_aload_n hx hb dX14_strengthFor_60 rfl (lv_at hl 0 rfl) ?_
                refine lv_iload_n hx hb dX14_strengthFor_61 rfl (lv_at hl 2 rfl) ?_
                refine lv_iconst (v := 1) hx hb dX14_strengthFor_62 ki_1 ?_
                refine lv_iload hx hb dX14_strengthFor_63 (lv_at hl 4 rfl) ?_
                obtain ⟨r22, g23, e21, h⟩ := obd2 h
                refine rc_V0 (rest := []) (st1 := [.int r22]) hF (w_X14_behind hSk a2 1 a4 e21) (cwV 3 hts (lw_V q1797 q1799 qs66 q117 q1800) rfl rfl rfl hd_X14_behind ⟨Nat.le_of_ble_eq_true rfl, Nat.le_of_ble_eq_true rfl⟩) cfX14 (sk_128 hSk) hK hW hR hS rfl hl.1 rfl (Nat.le_of_ble_eq_true rfl) rfl dX14_strengthFor_65 ⟨rfl, rfl⟩ ⟨Nat.zero_le _, Nat.zero_le _⟩ (fun H locs hR hS => ?_)
                refine lv_iload_n hx hb dX14_strengthFor_68 rfl (lv_at hl 3 rfl) ?_
                have J79 : ∀ (x24 : Int32) (H : Heap) (locs : List Loc) (ls : Array Slot), Rep G sh g23 gl gr n H → va_S (own G) s.heap H locs → lv_has ls 7 [(0, .ref (adr G 128)), (1, .int a1), (2, .int a2), (3, .int a3), (4, .int a4), (6, .int x14)] → j_X14_strengthFor_79 x14 (l_X14_strengthFor_40 a1 a2 a3 a4 k40) g23 x24 = some (r, go) → W p l e rm_X14_strengthFor s m ([.ref (adr G 128), .int a1, .int a2, .int a3, .int a4] : List Value).toArray below meth c H locs 0 0 (MQ below (QR G (some (.int r)) sh go gl gr n) ([.ref (adr G 128), .int a1, .int a2, .int a3, .int a4] : List Value).toArray s rm_X14_strengthFor.cells rm_X14_strengthFor.slots (own G)) (F0 m 79 ls [.int x24]) := by
                  intro x24 H locs ls hR hS hl h
                  unfold j_X14_strengthFor_79 at h
                  refine lv_istore (lv' := [(5, .int x24), (0, .ref (adr G 128)), (1, .int a1), (2, .int a2), (3, .int a3), (4, .int a4), (6, .int x14)]) hx hb dX14_strengthFor_79 hl (by decide) rfl (fun ls hl => ?_)
                  refine lv_iinc (v := x14 + (-1)) (lv' := [(6, .int (x14 + (-1))), (5, .int x24), (0, .ref (adr G 128)), (1, .int a1), (2, .int a2), (3, .int a3), (4, .int a4)]) hx hb dX14_strengthFor_81 hl (k := 6) rfl rfl (by decide) rfl (fun ls hl => ?_)
                  refine lv_goto (tgt := 40) hx hb dX14_strengthFor_84 (by decide) ?_
                  exact ih40 x24 (x14 + (-1)) g23 _ _ _ hR hS (lv_sub hl [2, 3, 4, 5, 6, 1, 0] rfl) h
                refine lv_icmp_ne (tgt := 77) hx hb dX14_strengthFor_69 (by decide) (fun c25 => ?_) (fun c25 => ?_)
                · replace h := ifn h c25
                  refine lv_iload hx hb dX14_strengthFor_77 (lv_at hl 5 rfl) ?_
                  exact J79 x13 _ _ _ hR hS (lv_sub hl [0, 1, 2, 3, 4, 6] rfl) h
                · replace h := ifp h c25
                  refine lv_iload hx hb dX14_strengthFor_72 (lv_at hl 6 rfl) ?_
                  refine lv_goto (tgt := 79) hx hb dX14_strengthFor_74 (by decide) ?_
                  exact J79 x14 _ _ _ hR hS (lv_sub hl [0, 1, 2, 3, 4, 6] rfl) h
          exact J40 fuel (-3) 9 g _ _ _ hR hS (lv_sub hl [2, 3, 4, 5, 6, 1, 0] rfl) h
        · replace h := ifp h c12
          exact J30  _ _ _ hR hS (lv_sub hl [] rfl) h
def rm_X14_ones : Room := { frames := 1, cells := 0, slots := 0, locals := 12 }
theorem he_X14_ones : yX14_ones.cls ≠ "java/lang/invoke/MethodHandle" ∧ yX14_ones.cls ≠ "java/lang/invoke/VarHandle" ∧ (parseMethodDescriptor yX14_ones.desc).map (fun d => d.parameters.length) = some 1 := by decide +kernel

set_option maxHeartbeats 4000000 in
set_option maxRecDepth 100000 in
theorem w_X14_ones {l : Launch} {G : Gx} {sh : SM} {g : GM} {gl : LM} {gr : RM} {n : Nat} (hSk : Sk sh gr) (a0 : Int32)  {r : Int32} (h : f_X14_ones  a0 = some r) : MetI l G yX14_ones (ws_ yX14_ones cX14_ones 3 (Option.some Jvm.ClassFile.FieldType.int)) rm_X14_ones [.int a0] sh g gl gr n (some (.int r)) sh g gl gr n := by
  refine MetI.of (by decide) (Nat.le_of_ble_eq_true rfl) ?_
  intro p e s m below meth c ls hx hb hr hml hown hts hlk hnm hW hK hR hS hl
  have hown : s.vm.findClass RX14 = some m.cls := hown
  have hF : CallFix p m c cX14_ones 3 s ([.int a0] : List Value).toArray lw_all RX14 := ⟨hx, hb, hml, hown, hts⟩
  have hl : lv_has ls 3 [(0, .int a0)] := hl
  unfold f_X14_ones at h
  refine lv_iconst (v := 0) hx hb dX14_ones_0 ki_0 ?_
  refine lv_istore_n (lv' := [(1, .int 0), (0, .int a0)]) hx hb dX14_ones_1 rfl hl (by decide) rfl (fun ls hl => ?_)
  refine lv_iconst (v := 0) hx hb dX14_ones_2 ki_0 ?_
  refine lv_istore_n (lv' := [(2, .int 0), (1, .int 0), (0, .int a0)]) hx hb dX14_ones_3 rfl hl (by decide) rfl (fun ls hl => ?_)
  have J4 : ∀ (k4 : Nat) (x1 : Int32) (x2 : Int32) (H : Heap) (locs : List Loc) (ls : Array Slot), Rep G sh g gl gr n H → va_S (own G) s.heap H locs → lv_has ls 3 [(0, .int a0), (1, .int x1), (2, .int x2)] → l_X14_ones_4 a0 k4 x1 x2 = some r → W p l e rm_X14_ones s m ([.int a0] : List Value).toArray below meth c H locs 0 0 (MQ below (QR G (some (.int r)) sh g gl gr n) ([.int a0] : List Value).toArray s rm_X14_ones.cells rm_X14_ones.slots (own G)) (F0 m 4 ls []) := by
    intro k4
    induction k4 with
    | zero => intro _ _ _ _ _ _ _ _; exact nofun
    | succ k4 ih4 =>
      intro x1 x2 H locs ls hR hS hl h
      unfold l_X14_ones_4 b_X14_ones_4 at h
      refine lv_iload_n hx hb dX14_ones_4 rfl (lv_at hl 2 rfl) ?_
      refine lv_bipush (v := 8) hx hb dX14_ones_5 kb_8 ?_
      refine lv_icmp_ge (tgt := 24) hx hb dX14_ones_7 (by decide) (fun c3 => ?_) (fun c3 => ?_)
      · replace h := ifp h c3
        refine lv_iload_n hx hb dX14_ones_24 rfl (lv_at hl 1 rfl) ?_
        obtain rfl := s1i h
        exact r_iret0 hx hb hr hlk hR hS (Nat.zero_le _) (Nat.zero_le _) dX14_ones_25
      · replace h := ifn h c3
        refine lv_iload_n hx hb dX14_ones_10 rfl (lv_at hl 1 rfl) ?_
        refine lv_iload_n hx hb dX14_ones_11 rfl (lv_at hl 0 rfl) ?_
        refine lv_iload_n hx hb dX14_ones_12 rfl (lv_at hl 2 rfl) ?_
        refine lv_ishr hx hb dX14_ones_13 ?_
        refine lv_iconst (v := 1) hx hb dX14_ones_14 ki_1 ?_
        refine lv_iand hx hb dX14_ones_15 ?_
        refine lv_iadd hx hb dX14_ones_16 ?_
        refine lv_istore_n (lv' := [(1, .int (x1 + ((a0 >>> (x2 &&& 31)) &&& 1))), (0, .int a0), (2, .int x2)]) hx hb dX14_ones_17 rfl hl (by decide) rfl (fun ls hl => ?_)
        refine lv_iinc (v := x2 + 1) (lv' := [(2, .int (x2 + 1)), (1, .int (x1 + ((a0 >>> (x2 &&& 31)) &&& 1))), (0, .int a0)]) hx hb dX14_ones_18 hl (k := 2) rfl rfl (by decide) rfl (fun ls hl => ?_)
        refine lv_goto (tgt := 4) hx hb dX14_ones_21 (by decide) ?_
        exact ih4 (x1 + ((a0 >>> (x2 &&& 31)) &&& 1)) (x2 + 1) _ _ _ hR hS (lv_sub hl [2, 1, 0] rfl) h
  exact J4 fuel 0 0 _ _ _ hR hS (lv_sub hl [2, 1, 0] rfl) h
def rm_X14_hangs : Room := { frames := 2, cells := 0, slots := 0, locals := 35 }
theorem hd_X14_hangs : yX14_hangs.cls = "IntentVatsModel" ∧ yX14_hangs.cls ≠ "java/lang/invoke/MethodHandle" ∧ yX14_hangs.cls ≠ "java/lang/invoke/VarHandle" ∧ (parseMethodDescriptor yX14_hangs.desc).map (fun d => d.parameters.length) = some 1 := by decide +kernel
theorem he_X14_hangs : yX14_hangs.cls ≠ "java/lang/invoke/MethodHandle" ∧ yX14_hangs.cls ≠ "java/lang/invoke/VarHandle" ∧ (parseMethodDescriptor yX14_hangs.desc).map (fun d => d.parameters.length) = some 1 := hd_X14_hangs.2

set_option maxHeartbeats 4000000 in
set_option maxRecDepth 100000 in
theorem w_X14_hangs {l : Launch} {G : Gx} {sh : SM} {g : GM} {gl : LM} {gr : RM} {n : Nat} (hSk : Sk sh gr) (a1 : Int32)  {go : GM} (h : f_X14_hangs g a1 = some go) : MetI l G yX14_hangs (ws_ yX14_hangs cX14_hangs 3 (Option.none : Option Jvm.ClassFile.FieldType)) rm_X14_hangs [.ref (adr G 128), .int a1] sh g gl gr n none sh go gl gr n := by
  refine MetI.of (by decide) (Nat.le_of_ble_eq_true rfl) ?_
  intro p e s m below meth c ls hx hb hr hml hown hts hlk hnm hW hK hR hS hl
  have hown : s.vm.findClass RX14 = some m.cls := hown
  have hF : CallFix p m c cX14_hangs 3 s ([.ref (adr G 128), .int a1] : List Value).toArray lw_all RX14 := ⟨hx, hb, hml, hown, hts⟩
  have hl : lv_has ls 3 [(0, .ref (adr G 128)), (1, .int a1)] := hl
  unfold f_X14_hangs at h
  refine lv_iconst (v := 0) hx hb dX14_hangs_0 ki_0 ?_
  refine lv_istore_n (lv' := [(2, .int 0), (0, .ref (adr G 128)), (1, .int a1)]) hx hb dX14_hangs_1 rfl hl (by decide) rfl (fun ls hl => ?_)
  have J2 : ∀ (k2 : Nat) (x1 : Int32) (g2 : GM) (H : Heap) (locs : List Loc) (ls : Array Slot), Rep G sh g2 gl gr n H → va_S (own G) s.heap H locs → lv_has ls 3 [(0, .ref (adr G 128)), (1, .int a1), (2, .int x1)] → l_X14_hangs_2 a1 k2 x1 g2 = some go → W p l e rm_X14_hangs s m ([.ref (adr G 128), .int a1] : List Value).toArray below meth c H locs 0 0 (MQ below (QR G none sh go gl gr n) ([.ref (adr G 128), .int a1] : List Value).toArray s rm_X14_hangs.cells rm_X14_hangs.slots (own G)) (F0 m 2 ls []) := by
    intro k2
    induction k2 with
    | zero => intro _ _ _ _ _ _ _ _; exact nofun
    | succ k2 ih2 =>
      intro x1 g2 H locs ls hR hS hl h
      unfold l_X14_hangs_2 b_X14_hangs_2 at h
      refine lv_iload_n hx hb dX14_hangs_2 rfl (lv_at hl 2 rfl) ?_
      refine lv_aload_n hx hb dX14_hangs_3 rfl (lv_at hl 0 rfl) ?_
      refine r_getr hx hb hts cfX14 hown hK hR (sk_128 hSk) 2 (by decide) rfl (sr_128_2 hSk) (hts _ q1523) (fun _ h => h) dX14_hangs_4 ?_
      refine lv_bipush (v := 6) hx hb dX14_hangs_7 kb_6 ?_
      obtain ⟨v4, e3, h⟩ := obd h
      refine r_ldi hx hb hK hR (sk_131 hSk) e3 dX14_hangs_9 ?_
      refine lv_icmp_ge (tgt := 30) hx hb dX14_hangs_10 (by decide) (fun c5 => ?_) (fun c5 => ?_)
      · replace h := ifp h c5
        obtain rfl := s1i h
        exact r_vret0 hx hb hr hlk hR hS (Nat.zero_le _) (Nat.zero_le _) dX14_hangs_30
      · replace h := ifn h c5
        refine lv_aload_n hx hb dX14_hangs_13 rfl (lv_at hl 0 rfl) ?_
        refine lv_iload_n hx hb dX14_hangs_14 rfl (lv_at hl 2 rfl) ?_
        refine lv_iconst (v := 3) hx hb dX14_hangs_15 ki_3 ?_
        refine lv_iload_n hx hb dX14_hangs_16 rfl (lv_at hl 1 rfl) ?_
        refine lv_iload_n hx hb dX14_hangs_17 rfl (lv_at hl 2 rfl) ?_
        refine lv_ishr hx hb dX14_hangs_18 ?_
        refine lv_iconst (v := 1) hx hb dX14_hangs_19 ki_1 ?_
        refine lv_iand hx hb dX14_hangs_20 ?_
        obtain ⟨g7, e6, h⟩ := obd h
        refine rc_V0 (rest := []) (st1 := []) hF (w_X14_sets hSk x1 3 ((a1 >>> (x1 &&& 31)) &&& 1) e6) (cwV 3 hts (lw_V q1649 q1651 qs46 q117 q1652) rfl rfl rfl hd_X14_sets ⟨Nat.le_of_ble_eq_true rfl, Nat.le_of_ble_eq_true rfl⟩) cfX14 (sk_128 hSk) hK hW hR hS rfl hl.1 rfl (Nat.le_of_ble_eq_true rfl) rfl dX14_hangs_21 ⟨rfl, rfl⟩ ⟨Nat.zero_le _, Nat.zero_le _⟩ (fun H locs hR hS => ?_)
        refine lv_iinc (v := x1 + 1) (lv' := [(2, .int (x1 + 1)), (0, .ref (adr G 128)), (1, .int a1)]) hx hb dX14_hangs_24 hl (k := 2) rfl rfl (by decide) rfl (fun ls hl => ?_)
        refine lv_goto (tgt := 2) hx hb dX14_hangs_27 (by decide) ?_
        exact ih2 (x1 + 1) g7 _ _ _ hR hS (lv_sub hl [1, 2, 0] rfl) h
  exact J2 fuel 0 g _ _ _ hR hS (lv_sub hl [1, 2, 0] rfl) h
def rm_X14_hangFor : Room := { frames := 7, cells := 0, slots := 0, locals := 155 }
theorem hd_X14_hangFor : yX14_hangFor.cls = "IntentVatsModel" ∧ yX14_hangFor.cls ≠ "java/lang/invoke/MethodHandle" ∧ yX14_hangFor.cls ≠ "java/lang/invoke/VarHandle" ∧ (parseMethodDescriptor yX14_hangFor.desc).map (fun d => d.parameters.length) = some 2 := by decide +kernel
theorem he_X14_hangFor : yX14_hangFor.cls ≠ "java/lang/invoke/MethodHandle" ∧ yX14_hangFor.cls ≠ "java/lang/invoke/VarHandle" ∧ (parseMethodDescriptor yX14_hangFor.desc).map (fun d => d.parameters.length) = some 2 := hd_X14_hangFor.2

set_option maxHeartbeats 4000000 in
set_option maxRecDepth 100000 in
theorem w_X14_hangFor {l : Launch} {G : Gx} {sh : SM} {g : GM} {gl : LM} {gr : RM} {n : Nat} (hSk : Sk sh gr) (a1 : Int32) (a2 : Int32)  {r : Int32} {go : GM} (h : f_X14_hangFor g a1 a2 = some (r, go)) : MetI l G yX14_hangFor (ws_ yX14_hangFor cX14_hangFor 5 (Option.some Jvm.ClassFile.FieldType.int)) rm_X14_hangFor [.ref (adr G 128), .int a1, .int a2] sh g gl gr n (some (.int r)) sh go gl gr n := by
  refine MetI.of (by decide) (Nat.le_of_ble_eq_true rfl) ?_
  intro p e s m below meth c ls hx hb hr hml hown hts hlk hnm hW hK hR hS hl
  have hown : s.vm.findClass RX14 = some m.cls := hown
  have hF : CallFix p m c cX14_hangFor 5 s ([.ref (adr G 128), .int a1, .int a2] : List Value).toArray lw_all RX14 := ⟨hx, hb, hml, hown, hts⟩
  have hl : lv_has ls 5 [(0, .ref (adr G 128)), (1, .int a1), (2, .int a2)] := hl
  unfold f_X14_hangFor at h
  refine lv_iload_n hx hb dX14_hangFor_0 rfl (lv_at hl 1 rfl) ?_
  refine lv_i2l hx hb dX14_hangFor_1 rfl ?_
  refine lv_lconst (v := 1) hx hb dX14_hangFor_2 rfl ?_
  refine lv_ldc2 (v := 30) hx hb hown (hts _ q1758) dX14_hangFor_3 ?_
  obtain ⟨r2, e1, h⟩ := obd h
  refine rc_S0 (rest := []) (st1 := [.int r2]) hF (w_X14_in hSk a1.toInt64 1 30 e1) (va_cwS 3 hts (lw_S q1602 q1603 q117 q1604) rfl rfl rfl he_X14_in ⟨Nat.le_of_ble_eq_true rfl, Nat.le_of_ble_eq_true rfl⟩) hW hR hS rfl hl.1 rfl (Nat.le_of_ble_eq_true rfl) rfl dX14_hangFor_6 ⟨rfl, rfl⟩ ⟨Nat.zero_le _, Nat.zero_le _⟩ (fun H locs hR hS => ?_)
  have J24 : ∀  (H : Heap) (locs : List Loc) (ls : Array Slot), Rep G sh g gl gr n H → va_S (own G) s.heap H locs → lv_has ls 5 [] → j_X14_hangFor_24 g  = some (r, go) → W p l e rm_X14_hangFor s m ([.ref (adr G 128), .int a1, .int a2] : List Value).toArray below meth c H locs 0 0 (MQ below (QR G (some (.int r)) sh go gl gr n) ([.ref (adr G 128), .int a1, .int a2] : List Value).toArray s rm_X14_hangFor.cells rm_X14_hangFor.slots (own G)) (F0 m 24 ls []) := by
    intro  H locs ls hR hS hl h
    unfold j_X14_hangFor_24 at h
    refine lv_iconst (v := (-1)) hx hb dX14_hangFor_24 ki_m1 ?_
    obtain ⟨rfl, rfl⟩ := s2i h
    exact r_iret0 hx hb hr hlk hR hS (Nat.zero_le _) (Nat.zero_le _) dX14_hangFor_25
  refine lv_if_eq (tgt := 24) hx hb dX14_hangFor_9 (by decide) (fun c3 => ?_) (fun c3 => ?_)
  · replace h := ifp h c3
    exact J24  _ _ _ hR hS (lv_sub hl [] rfl) h
  · replace h := ifn h c3
    refine lv_iload_n hx hb dX14_hangFor_12 rfl (lv_at hl 2 rfl) ?_
    refine lv_i2l hx hb dX14_hangFor_13 rfl ?_
    refine lv_lconst (v := 0) hx hb dX14_hangFor_14 rfl ?_
    refine lv_ldc2 (v := 8) hx hb hown (hts _ q1853) dX14_hangFor_15 ?_
    obtain ⟨r5, e4, h⟩ := obd h
    refine rc_S0 (rest := []) (st1 := [.int r5]) hF (w_X14_in hSk a2.toInt64 0 8 e4) (va_cwS 3 hts (lw_S q1602 q1603 q117 q1604) rfl rfl rfl he_X14_in ⟨Nat.le_of_ble_eq_true rfl, Nat.le_of_ble_eq_true rfl⟩) hW hR hS rfl hl.1 rfl (Nat.le_of_ble_eq_true rfl) rfl dX14_hangFor_18 ⟨rfl, rfl⟩ ⟨Nat.zero_le _, Nat.zero_le _⟩ (fun H locs hR hS => ?_)
    refine lv_if_ne (tgt := 26) hx hb dX14_hangFor_21 (by decide) (fun c6 => ?_) (fun c6 => ?_)
    · replace h := ifn h c6
      refine lv_bipush (v := (-3)) hx hb dX14_hangFor_26 kb_m3 ?_
      refine lv_istore_n (lv' := [(3, .int (-3)), (0, .ref (adr G 128)), (1, .int a1), (2, .int a2)]) hx hb dX14_hangFor_28 rfl hl (by decide) rfl (fun ls hl => ?_)
      refine lv_iconst (v := 0) hx hb dX14_hangFor_29 ki_0 ?_
      refine lv_istore (lv' := [(4, .int 0), (3, .int (-3)), (0, .ref (adr G 128)), (1, .int a1), (2, .int a2)]) hx hb dX14_hangFor_30 hl (by decide) rfl (fun ls hl => ?_)
      have J32 : ∀ (k32 : Nat) (x7 : Int32) (x8 : Int32) (g9 : GM) (H : Heap) (locs : List Loc) (ls : Array Slot), Rep G sh g9 gl gr n H → va_S (own G) s.heap H locs → lv_has ls 5 [(0, .ref (adr G 128)), (1, .int a1), (2, .int a2), (3, .int x7), (4, .int x8)] → l_X14_hangFor_32 a1 a2 k32 x7 x8 g9 = some (r, go) → W p l e rm_X14_hangFor s m ([.ref (adr G 128), .int a1, .int a2] : List Value).toArray below meth c H locs 0 0 (MQ below (QR G (some (.int r)) sh go gl gr n) ([.ref (adr G 128), .int a1, .int a2] : List Value).toArray s rm_X14_hangFor.cells rm_X14_hangFor.slots (own G)) (F0 m 32 ls []) := by
        intro k32
        induction k32 with
        | zero => intro _ _ _ _ _ _ _ _ _; exact nofun
        | succ k32 ih32 =>
          intro x7 x8 g9 H locs ls hR hS hl h
          unfold l_X14_hangFor_32 b_X14_hangFor_32 at h
          refine lv_iload hx hb dX14_hangFor_32 (lv_at hl 4 rfl) ?_
          refine lv_iconst (v := 1) hx hb dX14_hangFor_34 ki_1 ?_
          refine lv_aload_n hx hb dX14_hangFor_35 rfl (lv_at hl 0 rfl) ?_
          refine r_getr hx hb hts cfX14 hown hK hR (sk_128 hSk) 2 (by decide) rfl (sr_128_2 hSk) (hts _ q1523) (fun _ h => h) dX14_hangFor_36 ?_
          refine lv_bipush (v := 6) hx hb dX14_hangFor_39 kb_6 ?_
          obtain ⟨v11, e10, h⟩ := obd h
          refine r_ldi hx hb hK hR (sk_131 hSk) e10 dX14_hangFor_41 ?_
          refine lv_ishl hx hb dX14_hangFor_42 ?_
          refine lv_icmp_ge (tgt := 94) hx hb dX14_hangFor_43 (by decide) (fun c12 => ?_) (fun c12 => ?_)
          · replace h := ifp h c12
            refine lv_iload_n hx hb dX14_hangFor_94 rfl (lv_at hl 3 rfl) ?_
            obtain ⟨rfl, rfl⟩ := s2i h
            exact r_iret0 hx hb hr hlk hR hS (Nat.zero_le _) (Nat.zero_le _) dX14_hangFor_95
          · replace h := ifn h c12
            refine lv_iload_n hx hb dX14_hangFor_46 rfl (lv_at hl 3 rfl) ?_
            have J88 : ∀ (x13 : Int32) (g14 : GM) (H : Heap) (locs : List Loc) (ls : Array Slot), Rep G sh g14 gl gr n H → va_S (own G) s.heap H locs → lv_has ls 5 [(0, .ref (adr G 128)), (1, .int a1), (2, .int a2), (3, .int x13), (4, .int x8)] → j_X14_hangFor_88 x8 (l_X14_hangFor_32 a1 a2 k32) x13 g14 = some (r, go) → W p l e rm_X14_hangFor s m ([.ref (adr G 128), .int a1, .int a2] : List Value).toArray below meth c H locs 0 0 (MQ below (QR G (some (.int r)) sh go gl gr n) ([.ref (adr G 128), .int a1, .int a2] : List Value).toArray s rm_X14_hangFor.cells rm_X14_hangFor.slots (own G)) (F0 m 88 ls []) := by
              intro x13 g14 H locs ls hR hS hl h
              unfold j_X14_hangFor_88 at h
              refine lv_iinc (v := x8 + 1) (lv' := [(4, .int (x8 + 1)), (0, .ref (adr G 128)), (1, .int a1), (2, .int a2), (3, .int x13)]) hx hb dX14_hangFor_88 hl (k := 4) rfl rfl (by decide) rfl (fun ls hl => ?_)
              refine lv_goto (tgt := 32) hx hb dX14_hangFor_91 (by decide) ?_
              exact ih32 x13 (x8 + 1) g14 _ _ _ hR hS (lv_sub hl [1, 2, 3, 4, 0] rfl) h
            have J62 : ∀  (H : Heap) (locs : List Loc) (ls : Array Slot), Rep G sh g9 gl gr n H → va_S (own G) s.heap H locs → lv_has ls 5 [(0, .ref (adr G 128)), (1, .int a1), (2, .int a2), (3, .int x7), (4, .int x8)] → j_X14_hangFor_62 a1 a2 x7 x8 g9 (l_X14_hangFor_32 a1 a2 k32)  = some (r, go) → W p l e rm_X14_hangFor s m ([.ref (adr G 128), .int a1, .int a2] : List Value).toArray below meth c H locs 0 0 (MQ below (QR G (some (.int r)) sh go gl gr n) ([.ref (adr G 128), .int a1, .int a2] : List Value).toArray s rm_X14_hangFor.cells rm_X14_hangFor.slots (own G)) (F0 m 62 ls []) := by
              intro  H locs ls hR hS hl h
              unfold j_X14_hangFor_62 at h
              refine lv_aload_n hx hb dX14_hangFor_62 rfl (lv_at hl 0 rfl) ?_
              obtain ⟨g16, e15, h⟩ := obd h
              refine rc_V0 (rest := []) (st1 := []) hF (w_X14_lends hSk e15) (cwV 0 hts (lw_V q1759 q1761 qs60 q117 q1762) rfl rfl rfl hd_X14_lends ⟨Nat.le_of_ble_eq_true rfl, Nat.le_of_ble_eq_true rfl⟩) cfX14 (sk_128 hSk) hK hW hR hS rfl hl.1 rfl (Nat.le_of_ble_eq_true rfl) rfl dX14_hangFor_63 ⟨rfl, rfl⟩ ⟨Nat.zero_le _, Nat.zero_le _⟩ (fun H locs hR hS => ?_)
              refine lv_aload_n hx hb dX14_hangFor_66 rfl (lv_at hl 0 rfl) ?_
              refine lv_iload hx hb dX14_hangFor_67 (lv_at hl 4 rfl) ?_
              obtain ⟨g18, e17, h⟩ := obd h
              refine rc_V0 (rest := []) (st1 := []) hF (w_X14_hangs hSk x8 e17) (cwV 1 hts (lw_V q1857 q1859 qs70 q117 q1860) rfl rfl rfl hd_X14_hangs ⟨Nat.le_of_ble_eq_true rfl, Nat.le_of_ble_eq_true rfl⟩) cfX14 (sk_128 hSk) hK hW hR hS rfl hl.1 rfl (Nat.le_of_ble_eq_true rfl) rfl dX14_hangFor_69 ⟨rfl, rfl⟩ ⟨Nat.zero_le _, Nat.zero_le _⟩ (fun H locs hR hS => ?_)
              refine lv_aload_n hx hb dX14_hangFor_72 rfl (lv_at hl 0 rfl) ?_
              refine lv_iload_n hx hb dX14_hangFor_73 rfl (lv_at hl 1 rfl) ?_
              obtain ⟨r20, g21, e19, h⟩ := obd2 h
              refine rc_V0 (rest := []) (st1 := [.int r20]) hF (w_X14_spoiltIn hSk a1 e19) (cwV 1 hts (lw_V q1821 q1823 qs68 q117 q1824) rfl rfl rfl hd_X14_spoiltIn ⟨Nat.le_of_ble_eq_true rfl, Nat.le_of_ble_eq_true rfl⟩) cfX14 (sk_128 hSk) hK hW hR hS rfl hl.1 rfl (Nat.le_of_ble_eq_true rfl) rfl dX14_hangFor_74 ⟨rfl, rfl⟩ ⟨Nat.zero_le _, Nat.zero_le _⟩ (fun H locs hR hS => ?_)
              refine lv_iload_n hx hb dX14_hangFor_77 rfl (lv_at hl 2 rfl) ?_
              have J87 : ∀ (x22 : Int32) (H : Heap) (locs : List Loc) (ls : Array Slot), Rep G sh g21 gl gr n H → va_S (own G) s.heap H locs → lv_has ls 5 [(0, .ref (adr G 128)), (1, .int a1), (2, .int a2), (4, .int x8)] → j_X14_hangFor_87 x8 (l_X14_hangFor_32 a1 a2 k32) g21 x22 = some (r, go) → W p l e rm_X14_hangFor s m ([.ref (adr G 128), .int a1, .int a2] : List Value).toArray below meth c H locs 0 0 (MQ below (QR G (some (.int r)) sh go gl gr n) ([.ref (adr G 128), .int a1, .int a2] : List Value).toArray s rm_X14_hangFor.cells rm_X14_hangFor.slots (own G)) (F0 m 87 ls [.int x22]) := by
                intro x22 H locs ls hR hS hl h
                unfold j_X14_hangFor_87 at h
                refine lv_istore_n (lv' := [(3, .int x22), (0, .ref (adr G 128)), (1, .int a1), (2, .int a2), (4, .int x8)]) hx hb dX14_hangFor_87 rfl hl (by decide) rfl (fun ls hl => ?_)
                exact J88 x22 g21 _ _ _ hR hS (lv_sub hl [1, 2, 3, 0, 4] rfl) h
              refine lv_icmp_gt (tgt := 86) hx hb dX14_hangFor_78 (by decide) (fun c23 => ?_) (fun c23 => ?_)
              · replace h := ifp h c23
                refine lv_iload_n hx hb dX14_hangFor_86 rfl (lv_at hl 3 rfl) ?_
                exact J87 x7 _ _ _ hR hS (lv_sub hl [0, 1, 2, 4] rfl) h
              · replace h := ifn h c23
                refine lv_iload hx hb dX14_hangFor_81 (lv_at hl 4 rfl) ?_
                refine lv_goto (tgt := 87) hx hb dX14_hangFor_83 (by decide) ?_
                exact J87 x8 _ _ _ hR hS (lv_sub hl [0, 1, 2, 4] rfl) h
            refine lv_if_lt (tgt := 62) hx hb dX14_hangFor_47 (by decide) (fun c24 => ?_) (fun c24 => ?_)
            · replace h := ifp h c24
              exact J62  _ _ _ hR hS (lv_sub hl [0, 1, 2, 3, 4] rfl) h
            · replace h := ifn h c24
              refine lv_iload hx hb dX14_hangFor_50 (lv_at hl 4 rfl) ?_
              obtain ⟨r26, e25, h⟩ := obd h
              refine rc_S0 (rest := []) (st1 := [.int r26]) hF (w_X14_ones hSk x8 e25) (va_cwS 1 hts (lw_S q1854 q1855 q117 q1856) rfl rfl rfl he_X14_ones ⟨Nat.le_of_ble_eq_true rfl, Nat.le_of_ble_eq_true rfl⟩) hW hR hS rfl hl.1 rfl (Nat.le_of_ble_eq_true rfl) rfl dX14_hangFor_52 ⟨rfl, rfl⟩ ⟨Nat.zero_le _, Nat.zero_le _⟩ (fun H locs hR hS => ?_)
              refine lv_iload_n hx hb dX14_hangFor_55 rfl (lv_at hl 3 rfl) ?_
              obtain ⟨r28, e27, h⟩ := obd h
              refine rc_S0 (rest := [.int r26]) (st1 := [.int r28, .int r26]) hF (w_X14_ones hSk x7 e27) (va_cwS 1 hts (lw_S q1854 q1855 q117 q1856) rfl rfl rfl he_X14_ones ⟨Nat.le_of_ble_eq_true rfl, Nat.le_of_ble_eq_true rfl⟩) hW hR hS rfl hl.1 rfl (Nat.le_of_ble_eq_true rfl) rfl dX14_hangFor_56 ⟨rfl, rfl⟩ ⟨Nat.zero_le _, Nat.zero_le _⟩ (fun H locs hR hS => ?_)
              refine lv_icmp_ge (tgt := 88) hx hb dX14_hangFor_59 (by decide) (fun c29 => ?_) (fun c29 => ?_)
              · replace h := ifp h c29
                exact J88 x7 g9 _ _ _ hR hS (lv_sub hl [0, 1, 2, 3, 4] rfl) h
              · replace h := ifn h c29
                exact J62  _ _ _ hR hS (lv_sub hl [0, 1, 2, 3, 4] rfl) h
      exact J32 fuel (-3) 0 g _ _ _ hR hS (lv_sub hl [2, 3, 4, 1, 0] rfl) h
    · replace h := ifp h c6
      exact J24  _ _ _ hR hS (lv_sub hl [] rfl) h
def rm_X14_isFour : Room := { frames := 2, cells := 0, slots := 0, locals := 37 }
theorem he_X14_isFour : yX14_isFour.cls ≠ "java/lang/invoke/MethodHandle" ∧ yX14_isFour.cls ≠ "java/lang/invoke/VarHandle" ∧ (parseMethodDescriptor yX14_isFour.desc).map (fun d => d.parameters.length) = some 1 := by decide +kernel

set_option maxHeartbeats 4000000 in
set_option maxRecDepth 100000 in
theorem w_X14_isFour {l : Launch} {G : Gx} {sh : SM} {g : GM} {gl : LM} {gr : RM} {n : Nat} (hSk : Sk sh gr) (a0 : Int32)  {r : Int32} (h : f_X14_isFour  a0 = some r) : MetI l G yX14_isFour (ws_ yX14_isFour cX14_isFour 1 (Option.some Jvm.ClassFile.FieldType.boolean)) rm_X14_isFour [.int a0] sh g gl gr n (some (.int r)) sh g gl gr n := by
  refine MetI.of (by decide) (Nat.le_of_ble_eq_true rfl) ?_
  intro p e s m below meth c ls hx hb hr hml hown hts hlk hnm hW hK hR hS hl
  have hown : s.vm.findClass RX14 = some m.cls := hown
  have hF : CallFix p m c cX14_isFour 1 s ([.int a0] : List Value).toArray lw_all RX14 := ⟨hx, hb, hml, hown, hts⟩
  have hl : lv_has ls 1 [(0, .int a0)] := hl
  unfold f_X14_isFour at h
  refine lv_iload_n hx hb dX14_isFour_0 rfl (lv_at hl 0 rfl) ?_
  refine lv_i2l hx hb dX14_isFour_1 rfl ?_
  refine lv_lconst (v := 0) hx hb dX14_isFour_2 rfl ?_
  refine lv_ldc2 (v := 3) hx hb hown (hts _ q1601) dX14_isFour_3 ?_
  obtain ⟨r2, e1, h⟩ := obd h
  refine rc_S0 (rest := []) (st1 := [.int r2]) hF (w_X14_in hSk a0.toInt64 0 3 e1) (va_cwS 3 hts (lw_S q1602 q1603 q117 q1604) rfl rfl rfl he_X14_in ⟨Nat.le_of_ble_eq_true rfl, Nat.le_of_ble_eq_true rfl⟩) hW hR hS rfl hl.1 rfl (Nat.le_of_ble_eq_true rfl) rfl dX14_isFour_6 ⟨rfl, rfl⟩ ⟨Nat.zero_le _, Nat.zero_le _⟩ (fun H locs hR hS => ?_)
  obtain ⟨c3, h⟩ := ogrd h
  obtain rfl := s1i h
  exact r_zret0 hx hb hr hlk hR hS (Nat.zero_le _) (Nat.zero_le _) (nb01 c3) dX14_isFour_9
def rm_X14_isSo : Room := { frames := 5, cells := 0, slots := 0, locals := 110 }
theorem hd_X14_isSo : yX14_isSo.cls = "IntentVatsModel" ∧ yX14_isSo.cls ≠ "java/lang/invoke/MethodHandle" ∧ yX14_isSo.cls ≠ "java/lang/invoke/VarHandle" ∧ (parseMethodDescriptor yX14_isSo.desc).map (fun d => d.parameters.length) = some 3 := by decide +kernel
theorem he_X14_isSo : yX14_isSo.cls ≠ "java/lang/invoke/MethodHandle" ∧ yX14_isSo.cls ≠ "java/lang/invoke/VarHandle" ∧ (parseMethodDescriptor yX14_isSo.desc).map (fun d => d.parameters.length) = some 3 := hd_X14_isSo.2

set_option maxHeartbeats 4000000 in
set_option maxRecDepth 100000 in
theorem w_X14_isSo {l : Launch} {G : Gx} {sh : SM} {g : GM} {gl : LM} {gr : RM} {n : Nat} (hSk : Sk sh gr) (a1 : Int32) (a2 : Int32) (a3 : Int32)  {r : Int32} {go : GM} (h : f_X14_isSo g a1 a2 a3 = some (r, go)) : MetI l G yX14_isSo (ws_ yX14_isSo cX14_isSo 7 (Option.some Jvm.ClassFile.FieldType.boolean)) rm_X14_isSo [.ref (adr G 128), .int a1, .int a2, .int a3] sh g gl gr n (some (.int r)) sh go gl gr n := by
  refine MetI.of (by decide) (Nat.le_of_ble_eq_true rfl) ?_
  intro p e s m below meth c ls hx hb hr hml hown hts hlk hnm hW hK hR hS hl
  have hown : s.vm.findClass RX14 = some m.cls := hown
  have hF : CallFix p m c cX14_isSo 7 s ([.ref (adr G 128), .int a1, .int a2, .int a3] : List Value).toArray lw_all RX14 := ⟨hx, hb, hml, hown, hts⟩
  have hl : lv_has ls 7 [(0, .ref (adr G 128)), (1, .int a1), (2, .int a2), (3, .int a3)] := hl
  unfold f_X14_isSo at h
  refine lv_aload_n hx hb dX14_isSo_0 rfl (lv_at hl 0 rfl) ?_
  obtain ⟨g2, e1, h⟩ := obd h
  refine rc_V0 (rest := []) (st1 := []) hF (w_X14_lends hSk e1) (cwV 0 hts (lw_V q1759 q1761 qs60 q117 q1762) rfl rfl rfl hd_X14_lends ⟨Nat.le_of_ble_eq_true rfl, Nat.le_of_ble_eq_true rfl⟩) cfX14 (sk_128 hSk) hK hW hR hS rfl hl.1 rfl (Nat.le_of_ble_eq_true rfl) rfl dX14_isSo_1 ⟨rfl, rfl⟩ ⟨Nat.zero_le _, Nat.zero_le _⟩ (fun H locs hR hS => ?_)
  refine lv_aload_n hx hb dX14_isSo_4 rfl (lv_at hl 0 rfl) ?_
  refine lv_iload_n hx hb dX14_isSo_5 rfl (lv_at hl 2 rfl) ?_
  refine lv_iconst (v := 1) hx hb dX14_isSo_6 ki_1 ?_
  refine lv_iload_n hx hb dX14_isSo_7 rfl (lv_at hl 3 rfl) ?_
  obtain ⟨g4, e3, h⟩ := obd h
  refine rc_V0 (rest := []) (st1 := []) hF (w_X14_sets hSk a2 1 a3 e3) (cwV 3 hts (lw_V q1649 q1651 qs46 q117 q1652) rfl rfl rfl hd_X14_sets ⟨Nat.le_of_ble_eq_true rfl, Nat.le_of_ble_eq_true rfl⟩) cfX14 (sk_128 hSk) hK hW hR hS rfl hl.1 rfl (Nat.le_of_ble_eq_true rfl) rfl dX14_isSo_8 ⟨rfl, rfl⟩ ⟨Nat.zero_le _, Nat.zero_le _⟩ (fun H locs hR hS => ?_)
  refine lv_iconst (v := 1) hx hb dX14_isSo_11 ki_1 ?_
  refine lv_istore (lv' := [(4, .int 1), (0, .ref (adr G 128)), (1, .int a1), (2, .int a2), (3, .int a3)]) hx hb dX14_isSo_12 hl (by decide) rfl (fun ls hl => ?_)
  refine lv_iconst (v := 0) hx hb dX14_isSo_14 ki_0 ?_
  refine lv_istore (lv' := [(5, .int 0), (4, .int 1), (0, .ref (adr G 128)), (1, .int a1), (2, .int a2), (3, .int a3)]) hx hb dX14_isSo_15 hl (by decide) rfl (fun ls hl => ?_)
  have J17 : ∀ (k17 : Nat) (x5 : Int32) (x6 : Int32) (g7 : GM) (H : Heap) (locs : List Loc) (ls : Array Slot), Rep G sh g7 gl gr n H → va_S (own G) s.heap H locs → lv_has ls 7 [(0, .ref (adr G 128)), (1, .int a1), (2, .int a2), (4, .int x5), (5, .int x6)] → l_X14_isSo_17 a1 a2 k17 x5 x6 g7 = some (r, go) → W p l e rm_X14_isSo s m ([.ref (adr G 128), .int a1, .int a2, .int a3] : List Value).toArray below meth c H locs 0 0 (MQ below (QR G (some (.int r)) sh go gl gr n) ([.ref (adr G 128), .int a1, .int a2, .int a3] : List Value).toArray s rm_X14_isSo.cells rm_X14_isSo.slots (own G)) (F0 m 17 ls []) := by
    intro k17
    induction k17 with
    | zero => intro _ _ _ _ _ _ _ _ _; exact nofun
    | succ k17 ih17 =>
      intro x5 x6 g7 H locs ls hR hS hl h
      unfold l_X14_isSo_17 b_X14_isSo_17 at h
      refine lv_iload hx hb dX14_isSo_17 (lv_at hl 4 rfl) ?_
      refine lv_aload_n hx hb dX14_isSo_19 rfl (lv_at hl 0 rfl) ?_
      refine r_getr hx hb hts cfX14 hown hK hR (sk_128 hSk) 14 (by decide) rfl (sr_128_14 hSk) (hts _ q1535) (fun _ h => h) dX14_isSo_20 ?_
      refine lv_iload_n hx hb dX14_isSo_23 rfl (lv_at hl 1 rfl) ?_
      obtain ⟨v9, e8, h⟩ := obd h
      refine r_ldi hx hb hK hR (sk_137 hSk) e8 dX14_isSo_24 ?_
      have J81 : ∀  (H : Heap) (locs : List Loc) (ls : Array Slot), Rep G sh g7 gl gr n H → va_S (own G) s.heap H locs → lv_has ls 7 [(0, .ref (adr G 128)), (4, .int x5)] → j_X14_isSo_81 x5 g7  = some (r, go) → W p l e rm_X14_isSo s m ([.ref (adr G 128), .int a1, .int a2, .int a3] : List Value).toArray below meth c H locs 0 0 (MQ below (QR G (some (.int r)) sh go gl gr n) ([.ref (adr G 128), .int a1, .int a2, .int a3] : List Value).toArray s rm_X14_isSo.cells rm_X14_isSo.slots (own G)) (F0 m 81 ls []) := by
        intro  H locs ls hR hS hl h
        unfold j_X14_isSo_81 at h
        refine lv_aload_n hx hb dX14_isSo_81 rfl (lv_at hl 0 rfl) ?_
        obtain ⟨g11, e10, h⟩ := obd h
        refine rc_V0 (rest := []) (st1 := []) hF (w_X14_laysBack hSk e10) (cwV 0 hts (lw_V q1766 q1768 qs61 q117 q1769) rfl rfl rfl hd_X14_laysBack ⟨Nat.le_of_ble_eq_true rfl, Nat.le_of_ble_eq_true rfl⟩) cfX14 (sk_128 hSk) hK hW hR hS rfl hl.1 rfl (Nat.le_of_ble_eq_true rfl) rfl dX14_isSo_82 ⟨rfl, rfl⟩ ⟨Nat.zero_le _, Nat.zero_le _⟩ (fun H locs hR hS => ?_)
        refine lv_iload hx hb dX14_isSo_85 (lv_at hl 1 rfl) ?_
        obtain ⟨c12, h⟩ := ogrd h
        obtain ⟨rfl, rfl⟩ := s2i h
        exact r_zret0 hx hb hr hlk hR hS (Nat.zero_le _) (Nat.zero_le _) (nb01 c12) dX14_isSo_87
      refine lv_icmp_ge (tgt := 81) hx hb dX14_isSo_25 (by decide) (fun c13 => ?_) (fun c13 => ?_)
      · replace h := ifp h c13
        exact J81  _ _ _ hR hS (lv_sub hl [0, 3] rfl) h
      · replace h := ifn h c13
        refine lv_iload hx hb dX14_isSo_28 (lv_at hl 3 rfl) ?_
        refine lv_if_eq (tgt := 81) hx hb dX14_isSo_30 (by decide) (fun c14 => ?_) (fun c14 => ?_)
        · replace h := ifp h c14
          exact J81  _ _ _ hR hS (lv_sub hl [0, 3] rfl) h
        · replace h := ifn h c14
          refine lv_aload_n hx hb dX14_isSo_33 rfl (lv_at hl 0 rfl) ?_
          obtain ⟨g16, e15, h⟩ := obd h
          refine rc_V0 (rest := []) (st1 := []) hF (w_X14_aDay hSk e15) (cwV 0 hts (lw_V q1729 q1731 qs56 q117 q1732) rfl rfl rfl hd_X14_aDay ⟨Nat.le_of_ble_eq_true rfl, Nat.le_of_ble_eq_true rfl⟩) cfX14 (sk_128 hSk) hK hW hR hS rfl hl.1 rfl (Nat.le_of_ble_eq_true rfl) rfl dX14_isSo_34 ⟨rfl, rfl⟩ ⟨Nat.zero_le _, Nat.zero_le _⟩ (fun H locs hR hS => ?_)
          refine lv_aload_n hx hb dX14_isSo_37 rfl (lv_at hl 0 rfl) ?_
          refine r_getr hx hb hts cfX14 hown hK hR (sk_128 hSk) 15 (by decide) rfl (sr_128_15 hSk) (hts _ q1536) (fun _ h => h) dX14_isSo_38 ?_
          refine lv_bipush (v := 40) hx hb dX14_isSo_41 kb_40 ?_
          refine lv_iload_n hx hb dX14_isSo_43 rfl (lv_at hl 1 rfl) ?_
          refine lv_imul hx hb dX14_isSo_44 ?_
          refine lv_iload hx hb dX14_isSo_45 (lv_at hl 4 rfl) ?_
          refine lv_iadd hx hb dX14_isSo_47 ?_
          obtain ⟨v18, e17, h⟩ := obd h
          refine r_ldi hx hb hK hR (sk_138 hSk) e17 dX14_isSo_48 ?_
          refine lv_istore (lv' := [(6, .int v18), (0, .ref (adr G 128)), (1, .int a1), (2, .int a2), (4, .int x5), (5, .int x6)]) hx hb dX14_isSo_49 hl (by decide) rfl (fun ls hl => ?_)
          refine lv_iload hx hb dX14_isSo_51 (lv_at hl 0 rfl) ?_
          refine lv_iconst (v := (-1)) hx hb dX14_isSo_53 ki_m1 ?_
          have J73 : ∀ (x19 : Int32) (H : Heap) (locs : List Loc) (ls : Array Slot), Rep G sh g16 gl gr n H → va_S (own G) s.heap H locs → lv_has ls 7 [(0, .ref (adr G 128)), (1, .int a1), (2, .int a2), (5, .int x6)] → j_X14_isSo_73 x6 (l_X14_isSo_17 a1 a2 k17) g16 x19 = some (r, go) → W p l e rm_X14_isSo s m ([.ref (adr G 128), .int a1, .int a2, .int a3] : List Value).toArray below meth c H locs 0 0 (MQ below (QR G (some (.int r)) sh go gl gr n) ([.ref (adr G 128), .int a1, .int a2, .int a3] : List Value).toArray s rm_X14_isSo.cells rm_X14_isSo.slots (own G)) (F0 m 73 ls [.int x19]) := by
            intro x19 H locs ls hR hS hl h
            unfold j_X14_isSo_73 at h
            refine lv_istore (lv' := [(4, .int x19), (0, .ref (adr G 128)), (1, .int a1), (2, .int a2), (5, .int x6)]) hx hb dX14_isSo_73 hl (by decide) rfl (fun ls hl => ?_)
            refine lv_iinc (v := x6 + 1) (lv' := [(5, .int (x6 + 1)), (4, .int x19), (0, .ref (adr G 128)), (1, .int a1), (2, .int a2)]) hx hb dX14_isSo_75 hl (k := 4) rfl rfl (by decide) rfl (fun ls hl => ?_)
            refine lv_goto (tgt := 17) hx hb dX14_isSo_78 (by decide) ?_
            exact ih17 x19 (x6 + 1) g16 _ _ _ hR hS (lv_sub hl [2, 3, 4, 1, 0] rfl) h
          have J68 : ∀  (H : Heap) (locs : List Loc) (ls : Array Slot), Rep G sh g16 gl gr n H → va_S (own G) s.heap H locs → lv_has ls 7 [(0, .ref (adr G 128)), (1, .int a1), (2, .int a2), (5, .int x6)] → j_X14_isSo_68 x6 (l_X14_isSo_17 a1 a2 k17) g16  = some (r, go) → W p l e rm_X14_isSo s m ([.ref (adr G 128), .int a1, .int a2, .int a3] : List Value).toArray below meth c H locs 0 0 (MQ below (QR G (some (.int r)) sh go gl gr n) ([.ref (adr G 128), .int a1, .int a2, .int a3] : List Value).toArray s rm_X14_isSo.cells rm_X14_isSo.slots (own G)) (F0 m 68 ls []) := by
            intro  H locs ls hR hS hl h
            unfold j_X14_isSo_68 at h
            refine lv_iconst (v := 1) hx hb dX14_isSo_68 ki_1 ?_
            refine lv_goto (tgt := 73) hx hb dX14_isSo_69 (by decide) ?_
            exact J73 1 _ _ _ hR hS (lv_sub hl [0, 1, 2, 3] rfl) h
          refine lv_icmp_eq (tgt := 68) hx hb dX14_isSo_54 (by decide) (fun c20 => ?_) (fun c20 => ?_)
          · replace h := ifp h c20
            exact J68  _ _ _ hR hS (lv_sub hl [1, 2, 3, 5] rfl) h
          · replace h := ifn h c20
            refine lv_iload hx hb dX14_isSo_57 (lv_at hl 0 rfl) ?_
            refine lv_aload_n hx hb dX14_isSo_59 rfl (lv_at hl 1 rfl) ?_
            refine lv_iload_n hx hb dX14_isSo_60 rfl (lv_at hl 3 rfl) ?_
            refine lv_iconst (v := 2) hx hb dX14_isSo_61 ki_2 ?_
            obtain ⟨r22, e21, h⟩ := obd h
            refine rc_V0 (rest := [.int v18]) (st1 := [.int r22, .int v18]) hF (w_X14_its hSk a2 2 e21) (cwV 2 hts (lw_V q1662 q1664 qs48 q117 q1665) rfl rfl rfl hd_X14_its ⟨Nat.le_of_ble_eq_true rfl, Nat.le_of_ble_eq_true rfl⟩) cfX14 (sk_128 hSk) hK hW hR hS rfl hl.1 rfl (Nat.le_of_ble_eq_true rfl) rfl dX14_isSo_62 ⟨rfl, rfl⟩ ⟨Nat.zero_le _, Nat.zero_le _⟩ (fun H locs hR hS => ?_)
            refine lv_icmp_ne (tgt := 72) hx hb dX14_isSo_65 (by decide) (fun c23 => ?_) (fun c23 => ?_)
            · replace h := ifn h c23
              refine lv_iconst (v := 0) hx hb dX14_isSo_72 ki_0 ?_
              exact J73 0 _ _ _ hR hS (lv_sub hl [1, 2, 3, 5] rfl) h
            · replace h := ifp h c23
              exact J68  _ _ _ hR hS (lv_sub hl [1, 2, 3, 5] rfl) h
  exact J17 fuel 1 0 g4 _ _ _ hR hS (lv_sub hl [2, 3, 4, 1, 0] rfl) h
