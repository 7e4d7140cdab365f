/-! walks: X14_fits, X14_lowest, X14_odds, X14_hope, X14_feed, X14_isByte, X14_next, X14_isWord, X14_kindHere, X14_lawHere -/
def rm_X14_fits : Room := { frames := 6, cells := 0, slots := 0, locals := 136 }
theorem hd_X14_fits : yX14_fits.cls = "IntentVatsModel" ∧ yX14_fits.cls ≠ "java/lang/invoke/MethodHandle" ∧ yX14_fits.cls ≠ "java/lang/invoke/VarHandle" ∧ (parseMethodDescriptor yX14_fits.desc).map (fun d => d.parameters.length) = some 3 := by decide +kernel
theorem he_X14_fits : yX14_fits.cls ≠ "java/lang/invoke/MethodHandle" ∧ yX14_fits.cls ≠ "java/lang/invoke/VarHandle" ∧ (parseMethodDescriptor yX14_fits.desc).map (fun d => d.parameters.length) = some 3 := hd_X14_fits.2

set_option maxHeartbeats 4000000 in
set_option maxRecDepth 100000 in
theorem w_X14_fits {l : Launch} {G : Gx} {sh : SM} {g : GM} {gl : LM} {gr : RM} {n : Nat} (hSk : Sk sh gr) (a1 : Int32) (a2 : Int32) (a3 : Int32)  {r : Int32} {go : GM} (h : f_X14_fits g a1 a2 a3 = some (r, go)) : MetI l G yX14_fits (ws_ yX14_fits cX14_fits 9 (Option.some Jvm.ClassFile.FieldType.int)) rm_X14_fits [.ref (adr G 128), .int a1, .int a2, .int a3] sh g gl gr n (some (.int r)) sh go gl gr n := by
  refine MetI.of (by decide) (Nat.le_of_ble_eq_true rfl) ?_
  intro p e s m below meth c ls hx hb hr hml hown hts hlk hnm hW hK hR hS hl
  have hown : s.vm.findClass RX14 = some m.cls := hown
  have hF : CallFix p m c cX14_fits 9 s ([.ref (adr G 128), .int a1, .int a2, .int a3] : List Value).toArray lw_all RX14 := ⟨hx, hb, hml, hown, hts⟩
  have hl : lv_has ls 9 [(0, .ref (adr G 128)), (1, .int a1), (2, .int a2), (3, .int a3)] := hl
  unfold f_X14_fits at h
  refine lv_iload_n hx hb dX14_fits_0 rfl (lv_at hl 1 rfl) ?_
  obtain ⟨r2, e1, h⟩ := obd h
  refine rc_S0 (rest := []) (st1 := [.int r2]) hF (w_X14_isFour hSk a1 e1) (va_cwS 1 hts (lw_S q1865 q1866 q117 q1867) rfl rfl rfl he_X14_isFour ⟨Nat.le_of_ble_eq_true rfl, Nat.le_of_ble_eq_true rfl⟩) hW hR hS rfl hl.1 rfl (Nat.le_of_ble_eq_true rfl) rfl dX14_fits_1 ⟨rfl, rfl⟩ ⟨Nat.zero_le _, Nat.zero_le _⟩ (fun H locs hR hS => ?_)
  have J25 : ∀  (H : Heap) (locs : List Loc) (ls : Array Slot), Rep G sh g gl gr n H → va_S (own G) s.heap H locs → lv_has ls 9 [] → j_X14_fits_25 g  = some (r, go) → W p l e rm_X14_fits s m ([.ref (adr G 128), .int a1, .int a2, .int a3] : List Value).toArray below meth c H locs 0 0 (MQ below (QR G (some (.int r)) sh go gl gr n) ([.ref (adr G 128), .int a1, .int a2, .int a3] : List Value).toArray s rm_X14_fits.cells rm_X14_fits.slots (own G)) (F0 m 25 ls []) := by
    intro  H locs ls hR hS hl h
    unfold j_X14_fits_25 at h
    refine lv_iconst (v := (-1)) hx hb dX14_fits_25 ki_m1 ?_
    obtain ⟨rfl, rfl⟩ := s2i h
    exact r_iret0 hx hb hr hlk hR hS (Nat.zero_le _) (Nat.zero_le _) dX14_fits_26
  refine lv_if_eq (tgt := 25) hx hb dX14_fits_4 (by decide) (fun c3 => ?_) (fun c3 => ?_)
  · replace h := ifp h c3
    exact J25  _ _ _ hR hS (lv_sub hl [] rfl) h
  · replace h := ifn h c3
    refine lv_aload_n hx hb dX14_fits_7 rfl (lv_at hl 0 rfl) ?_
    refine lv_iload_n hx hb dX14_fits_8 rfl (lv_at hl 2 rfl) ?_
    obtain ⟨r5, e4, h⟩ := obd h
    refine rc_V0 (rest := []) (st1 := [.int r5]) hF (w_X14_isCloth hSk a2 e4) (cwV 1 hts (lw_V q1657 q1659 qs47 q117 q1660) rfl rfl rfl hd_X14_isCloth ⟨Nat.le_of_ble_eq_true rfl, Nat.le_of_ble_eq_true rfl⟩) cfX14 (sk_128 hSk) hK hW hR hS rfl hl.1 rfl (Nat.le_of_ble_eq_true rfl) rfl dX14_fits_9 ⟨rfl, rfl⟩ ⟨Nat.zero_le _, Nat.zero_le _⟩ (fun H locs hR hS => ?_)
    refine lv_if_eq (tgt := 25) hx hb dX14_fits_12 (by decide) (fun c6 => ?_) (fun c6 => ?_)
    · replace h := ifp h c6
      exact J25  _ _ _ hR hS (lv_sub hl [] rfl) h
    · replace h := ifn h c6
      refine lv_iload_n hx hb dX14_fits_15 rfl (lv_at hl 3 rfl) ?_
      refine lv_i2l hx hb dX14_fits_16 rfl ?_
      refine lv_lconst (v := 0) hx hb dX14_fits_17 rfl ?_
      refine lv_lconst (v := 1) hx hb dX14_fits_18 rfl ?_
      obtain ⟨r8, e7, h⟩ := obd h
      refine rc_S0 (rest := []) (st1 := [.int r8]) hF (w_X14_in hSk a3.toInt64 0 1 e7) (va_cwS 3 hts (lw_S q1602 q1603 q117 q1604) rfl rfl rfl he_X14_in ⟨Nat.le_of_ble_eq_true rfl, Nat.le_of_ble_eq_true rfl⟩) hW hR hS rfl hl.1 rfl (Nat.le_of_ble_eq_true rfl) rfl dX14_fits_19 ⟨rfl, rfl⟩ ⟨Nat.zero_le _, Nat.zero_le _⟩ (fun H locs hR hS => ?_)
      refine lv_if_ne (tgt := 27) hx hb dX14_fits_22 (by decide) (fun c9 => ?_) (fun c9 => ?_)
      · replace h := ifn h c9
        refine lv_aload_n hx hb dX14_fits_27 rfl (lv_at hl 0 rfl) ?_
        refine r_getr hx hb hts cfX14 hown hK hR (sk_128 hSk) 13 (by decide) rfl (sr_128_13 hSk) (hts _ q1534) (fun _ h => h) dX14_fits_28 ?_
        refine lv_iload_n hx hb dX14_fits_31 rfl (lv_at hl 1 rfl) ?_
        obtain ⟨v11, e10, h⟩ := obd h
        refine r_ldi hx hb hK hR (sk_136 hSk) e10 dX14_fits_32 ?_
        refine lv_if_ge (tgt := 39) hx hb dX14_fits_33 (by decide) (fun c12 => ?_) (fun c12 => ?_)
        · replace h := ifp h c12
          refine lv_aload_n hx hb dX14_fits_39 rfl (lv_at hl 0 rfl) ?_
          refine lv_iload_n hx hb dX14_fits_40 rfl (lv_at hl 2 rfl) ?_
          refine lv_iconst (v := 2) hx hb dX14_fits_41 ki_2 ?_
          obtain ⟨r14, e13, h⟩ := obd h
          refine rc_V0 (rest := []) (st1 := [.int r14]) hF (w_X14_its hSk a2 2 e13) (cwV 2 hts (lw_V q1662 q1664 qs48 q117 q1665) rfl rfl rfl hd_X14_its ⟨Nat.le_of_ble_eq_true rfl, Nat.le_of_ble_eq_true rfl⟩) cfX14 (sk_128 hSk) hK hW hR hS rfl hl.1 rfl (Nat.le_of_ble_eq_true rfl) rfl dX14_fits_42 ⟨rfl, rfl⟩ ⟨Nat.zero_le _, Nat.zero_le _⟩ (fun H locs hR hS => ?_)
          have J53 : ∀ (x15 : Int32) (H : Heap) (locs : List Loc) (ls : Array Slot), Rep G sh g gl gr n H → va_S (own G) s.heap H locs → lv_has ls 9 [(0, .ref (adr G 128)), (1, .int a1), (2, .int a2), (3, .int a3)] → j_X14_fits_53 g a1 a2 a3 x15 = some (r, go) → W p l e rm_X14_fits s m ([.ref (adr G 128), .int a1, .int a2, .int a3] : List Value).toArray below meth c H locs 0 0 (MQ below (QR G (some (.int r)) sh go gl gr n) ([.ref (adr G 128), .int a1, .int a2, .int a3] : List Value).toArray s rm_X14_fits.cells rm_X14_fits.slots (own G)) (F0 m 53 ls [.int x15]) := by
            intro x15 H locs ls hR hS hl h
            unfold j_X14_fits_53 at h
            refine lv_istore (lv' := [(4, .int x15), (0, .ref (adr G 128)), (1, .int a1), (2, .int a2), (3, .int a3)]) hx hb dX14_fits_53 hl (by decide) rfl (fun ls hl => ?_)
            refine lv_iconst (v := 0) hx hb dX14_fits_55 ki_0 ?_
            refine lv_istore (lv' := [(5, .int 0), (4, .int x15), (0, .ref (adr G 128)), (1, .int a1), (2, .int a2), (3, .int a3)]) hx hb dX14_fits_56 hl (by decide) rfl (fun ls hl => ?_)
            refine lv_bipush (v := (-3)) hx hb dX14_fits_58 kb_m3 ?_
            refine lv_istore (lv' := [(6, .int (-3)), (5, .int 0), (4, .int x15), (0, .ref (adr G 128)), (1, .int a1), (2, .int a2), (3, .int a3)]) hx hb dX14_fits_60 hl (by decide) rfl (fun ls hl => ?_)
            refine lv_iload hx hb dX14_fits_62 (lv_at hl 2 rfl) ?_
            have J73 : ∀ (x16 : Int32) (H : Heap) (locs : List Loc) (ls : Array Slot), Rep G sh g gl gr n H → va_S (own G) s.heap H locs → lv_has ls 9 [(0, .ref (adr G 128)), (1, .int a1), (2, .int a2), (3, .int a3), (4, .int x15), (5, .int 0), (6, .int (-3))] → j_X14_fits_73 g a1 a2 a3 x15 x16 = some (r, go) → W p l e rm_X14_fits s m ([.ref (adr G 128), .int a1, .int a2, .int a3] : List Value).toArray below meth c H locs 0 0 (MQ below (QR G (some (.int r)) sh go gl gr n) ([.ref (adr G 128), .int a1, .int a2, .int a3] : List Value).toArray s rm_X14_fits.cells rm_X14_fits.slots (own G)) (F0 m 73 ls [.int x16]) := by
              intro x16 H locs ls hR hS hl h
              unfold j_X14_fits_73 at h
              refine lv_istore (lv' := [(7, .int x16), (0, .ref (adr G 128)), (1, .int a1), (2, .int a2), (3, .int a3), (4, .int x15), (5, .int 0), (6, .int (-3))]) hx hb dX14_fits_73 hl (by decide) rfl (fun ls hl => ?_)
              have J75 : ∀ (k75 : Nat) (x17 : Int32) (x18 : Int32) (x19 : Int32) (g20 : GM) (H : Heap) (locs : List Loc) (ls : Array Slot), Rep G sh g20 gl gr n H → va_S (own G) s.heap H locs → lv_has ls 9 [(0, .ref (adr G 128)), (1, .int a1), (2, .int a2), (3, .int a3), (4, .int x15), (5, .int x17), (6, .int x18), (7, .int x19)] → l_X14_fits_75 a1 a2 a3 x15 k75 x17 x18 x19 g20 = some (r, go) → W p l e rm_X14_fits s m ([.ref (adr G 128), .int a1, .int a2, .int a3] : List Value).toArray below meth c H locs 0 0 (MQ below (QR G (some (.int r)) sh go gl gr n) ([.ref (adr G 128), .int a1, .int a2, .int a3] : List Value).toArray s rm_X14_fits.cells rm_X14_fits.slots (own G)) (F0 m 75 ls []) := by
                intro k75
                induction k75 with
                | zero => intro _ _ _ _ _ _ _ _ _ _; exact nofun
                | succ k75 ih75 =>
                  intro x17 x18 x19 g20 H locs ls hR hS hl h
                  unfold l_X14_fits_75 b_X14_fits_75 at h
                  refine lv_iload hx hb dX14_fits_75 (lv_at hl 7 rfl) ?_
                  refine lv_iload hx hb dX14_fits_77 (lv_at hl 4 rfl) ?_
                  have J87 : ∀ (x21 : Int32) (H : Heap) (locs : List Loc) (ls : Array Slot), Rep G sh g20 gl gr n H → va_S (own G) s.heap H locs → lv_has ls 9 [(0, .ref (adr G 128)), (1, .int a1), (2, .int a2), (3, .int a3), (4, .int x15), (5, .int x17), (6, .int x18), (7, .int x19)] → j_X14_fits_87 a1 a2 a3 x17 x18 x19 g20 (l_X14_fits_75 a1 a2 a3 x15 k75) x21 = some (r, go) → W p l e rm_X14_fits s m ([.ref (adr G 128), .int a1, .int a2, .int a3] : List Value).toArray below meth c H locs 0 0 (MQ below (QR G (some (.int r)) sh go gl gr n) ([.ref (adr G 128), .int a1, .int a2, .int a3] : List Value).toArray s rm_X14_fits.cells rm_X14_fits.slots (own G)) (F0 m 87 ls [.int x21, .int x19]) := by
                    intro x21 H locs ls hR hS hl h
                    unfold j_X14_fits_87 at h
                    refine lv_icmp_lt (tgt := 137) hx hb dX14_fits_87 (by decide) (fun c22 => ?_) (fun c22 => ?_)
                    · replace h := ifp h c22
                      refine lv_iload_n hx hb dX14_fits_137 rfl (lv_at hl 3 rfl) ?_
                      have J148 : ∀ (x23 : Int32) (H : Heap) (locs : List Loc) (ls : Array Slot), Rep G sh g20 gl gr n H → va_S (own G) s.heap H locs → lv_has ls 9 [] → j_X14_fits_148 g20 x23 = some (r, go) → W p l e rm_X14_fits s m ([.ref (adr G 128), .int a1, .int a2, .int a3] : List Value).toArray below meth c H locs 0 0 (MQ below (QR G (some (.int r)) sh go gl gr n) ([.ref (adr G 128), .int a1, .int a2, .int a3] : List Value).toArray s rm_X14_fits.cells rm_X14_fits.slots (own G)) (F0 m 148 ls [.int x23]) := by
                        intro x23 H locs ls hR hS hl h
                        unfold j_X14_fits_148 at h
                        obtain ⟨rfl, rfl⟩ := s2i h
                        exact r_iret0 hx hb hr hlk hR hS (Nat.zero_le _) (Nat.zero_le _) dX14_fits_148
                      refine lv_if_ne (tgt := 146) hx hb dX14_fits_138 (by decide) (fun c24 => ?_) (fun c24 => ?_)
                      · replace h := ifn h c24
                        refine lv_iload hx hb dX14_fits_146 (lv_at hl 6 rfl) ?_
                        exact J148 x18 _ _ _ hR hS (lv_sub hl [] rfl) h
                      · replace h := ifp h c24
                        refine lv_iload hx hb dX14_fits_141 (lv_at hl 5 rfl) ?_
                        refine lv_goto (tgt := 148) hx hb dX14_fits_143 (by decide) ?_
                        exact J148 x17 _ _ _ hR hS (lv_sub hl [] rfl) h
                    · replace h := ifn h c22
                      refine lv_aload_n hx hb dX14_fits_90 rfl (lv_at hl 0 rfl) ?_
                      refine lv_iload_n hx hb dX14_fits_91 rfl (lv_at hl 1 rfl) ?_
                      refine lv_iload_n hx hb dX14_fits_92 rfl (lv_at hl 2 rfl) ?_
                      refine lv_iload hx hb dX14_fits_93 (lv_at hl 7 rfl) ?_
                      obtain ⟨r26, g27, e25, h⟩ := obd2 h
                      refine rc_V0 (rest := []) (st1 := [.int r26]) hF (w_X14_isSo hSk a1 a2 x19 e25) (cwV 3 hts (lw_V q1868 q1870 qs71 q117 q1871) rfl rfl rfl hd_X14_isSo ⟨Nat.le_of_ble_eq_true rfl, Nat.le_of_ble_eq_true rfl⟩) cfX14 (sk_128 hSk) hK hW hR hS rfl hl.1 rfl (Nat.le_of_ble_eq_true rfl) rfl dX14_fits_95 ⟨rfl, rfl⟩ ⟨Nat.zero_le _, Nat.zero_le _⟩ (fun H locs hR hS => ?_)
                      refine lv_istore (lv' := [(8, .int r26), (0, .ref (adr G 128)), (1, .int a1), (2, .int a2), (3, .int a3), (4, .int x15), (5, .int x17), (6, .int x18), (7, .int x19)]) hx hb dX14_fits_98 hl (by decide) rfl (fun ls hl => ?_)
                      refine lv_iload hx hb dX14_fits_100 (lv_at hl 6 rfl) ?_
                      refine lv_iload hx hb dX14_fits_102 (lv_at hl 0 rfl) ?_
                      have J112 : ∀ (x28 : Int32) (H : Heap) (locs : List Loc) (ls : Array Slot), Rep G sh g27 gl gr n H → va_S (own G) s.heap H locs → lv_has ls 9 [(0, .ref (adr G 128)), (1, .int a1), (2, .int a2), (3, .int a3), (4, .int x15), (6, .int x18), (7, .int x19), (8, .int r26)] → j_X14_fits_112 x17 x18 x19 (l_X14_fits_75 a1 a2 a3 x15 k75) r26 g27 x28 = some (r, go) → W p l e rm_X14_fits s m ([.ref (adr G 128), .int a1, .int a2, .int a3] : List Value).toArray below meth c H locs 0 0 (MQ below (QR G (some (.int r)) sh go gl gr n) ([.ref (adr G 128), .int a1, .int a2, .int a3] : List Value).toArray s rm_X14_fits.cells rm_X14_fits.slots (own G)) (F0 m 112 ls [.int x28, .int x17]) := by
                        intro x28 H locs ls hR hS hl h
                        unfold j_X14_fits_112 at h
                        refine lv_iadd hx hb dX14_fits_112 ?_
                        refine lv_istore (lv' := [(5, .int (x17 + x28)), (0, .ref (adr G 128)), (1, .int a1), (2, .int a2), (3, .int a3), (4, .int x15), (6, .int x18), (7, .int x19), (8, .int r26)]) hx hb dX14_fits_113 hl (by decide) rfl (fun ls hl => ?_)
                        refine lv_iload hx hb dX14_fits_115 (lv_at hl 8 rfl) ?_
                        have J129 : ∀ (x29 : Int32) (H : Heap) (locs : List Loc) (ls : Array Slot), Rep G sh g27 gl gr n H → va_S (own G) s.heap H locs → lv_has ls 9 [(0, .ref (adr G 128)), (1, .int a1), (2, .int a2), (3, .int a3), (4, .int x15), (5, .int (x17 + x28)), (7, .int x19)] → j_X14_fits_129 x17 x19 (l_X14_fits_75 a1 a2 a3 x15 k75) g27 x28 x29 = some (r, go) → W p l e rm_X14_fits s m ([.ref (adr G 128), .int a1, .int a2, .int a3] : List Value).toArray below meth c H locs 0 0 (MQ below (QR G (some (.int r)) sh go gl gr n) ([.ref (adr G 128), .int a1, .int a2, .int a3] : List Value).toArray s rm_X14_fits.cells rm_X14_fits.slots (own G)) (F0 m 129 ls [.int x29]) := by
                          intro x29 H locs ls hR hS hl h
                          unfold j_X14_fits_129 at h
                          refine lv_istore (lv' := [(6, .int x29), (0, .ref (adr G 128)), (1, .int a1), (2, .int a2), (3, .int a3), (4, .int x15), (5, .int (x17 + x28)), (7, .int x19)]) hx hb dX14_fits_129 hl (by decide) rfl (fun ls hl => ?_)
                          refine lv_iinc (v := x19 + (-1)) (lv' := [(7, .int (x19 + (-1))), (6, .int x29), (0, .ref (adr G 128)), (1, .int a1), (2, .int a2), (3, .int a3), (4, .int x15), (5, .int (x17 + x28))]) hx hb dX14_fits_131 hl (k := 7) rfl rfl (by decide) rfl (fun ls hl => ?_)
                          refine lv_goto (tgt := 75) hx hb dX14_fits_134 (by decide) ?_
                          exact ih75 (x17 + x28) x29 (x19 + (-1)) g27 _ _ _ hR hS (lv_sub hl [2, 3, 4, 5, 6, 7, 1, 0] rfl) h
                        refine lv_if_eq (tgt := 127) hx hb dX14_fits_117 (by decide) (fun c30 => ?_) (fun c30 => ?_)
                        · replace h := ifp h c30
                          refine lv_iload hx hb dX14_fits_127 (lv_at hl 6 rfl) ?_
                          exact J129 x18 _ _ _ hR hS (lv_sub hl [1, 2, 3, 4, 5, 0, 7] rfl) h
                        · replace h := ifn h c30
                          refine lv_iconst (v := 1) hx hb dX14_fits_120 ki_1 ?_
                          refine lv_iload hx hb dX14_fits_121 (lv_at hl 7 rfl) ?_
                          refine lv_iadd hx hb dX14_fits_123 ?_
                          refine lv_goto (tgt := 129) hx hb dX14_fits_124 (by decide) ?_
                          exact J129 (1 + x19) _ _ _ hR hS (lv_sub hl [1, 2, 3, 4, 5, 0, 7] rfl) h
                      refine lv_if_eq (tgt := 111) hx hb dX14_fits_104 (by decide) (fun c31 => ?_) (fun c31 => ?_)
                      · replace h := ifp h c31
                        refine lv_iconst (v := 0) hx hb dX14_fits_111 ki_0 ?_
                        exact J112 0 _ _ _ hR hS (lv_sub hl [1, 2, 3, 4, 5, 7, 8, 0] rfl) h
                      · replace h := ifn h c31
                        refine lv_iconst (v := 1) hx hb dX14_fits_107 ki_1 ?_
                        refine lv_goto (tgt := 112) hx hb dX14_fits_108 (by decide) ?_
                        exact J112 1 _ _ _ hR hS (lv_sub hl [1, 2, 3, 4, 5, 7, 8, 0] rfl) h
                  refine lv_if_eq (tgt := 86) hx hb dX14_fits_79 (by decide) (fun c32 => ?_) (fun c32 => ?_)
                  · replace h := ifp h c32
                    refine lv_iconst (v := 0) hx hb dX14_fits_86 ki_0 ?_
                    exact J87 0 _ _ _ hR hS (lv_sub hl [0, 1, 2, 3, 4, 5, 6, 7] rfl) h
                  · replace h := ifn h c32
                    refine lv_iconst (v := (-1)) hx hb dX14_fits_82 ki_m1 ?_
                    refine lv_goto (tgt := 87) hx hb dX14_fits_83 (by decide) ?_
                    exact J87 (-1) _ _ _ hR hS (lv_sub hl [0, 1, 2, 3, 4, 5, 6, 7] rfl) h
              exact J75 fuel 0 (-3) x16 g _ _ _ hR hS (lv_sub hl [1, 2, 3, 4, 5, 6, 7, 0] rfl) h
            refine lv_if_eq (tgt := 71) hx hb dX14_fits_64 (by decide) (fun c33 => ?_) (fun c33 => ?_)
            · replace h := ifp h c33
              refine lv_bipush (v := 9) hx hb dX14_fits_71 kb_9 ?_
              exact J73 9 _ _ _ hR hS (lv_sub hl [3, 4, 5, 6, 2, 1, 0] rfl) h
            · replace h := ifn h c33
              refine lv_iconst (v := (-1)) hx hb dX14_fits_67 ki_m1 ?_
              refine lv_goto (tgt := 73) hx hb dX14_fits_68 (by decide) ?_
              exact J73 (-1) _ _ _ hR hS (lv_sub hl [3, 4, 5, 6, 2, 1, 0] rfl) h
          refine lv_if_ne (tgt := 52) hx hb dX14_fits_45 (by decide) (fun c34 => ?_) (fun c34 => ?_)
          · replace h := ifn h c34
            refine lv_iconst (v := 0) hx hb dX14_fits_52 ki_0 ?_
            exact J53 0 _ _ _ hR hS (lv_sub hl [0, 1, 2, 3] rfl) h
          · replace h := ifp h c34
            refine lv_iconst (v := 1) hx hb dX14_fits_48 ki_1 ?_
            refine lv_goto (tgt := 53) hx hb dX14_fits_49 (by decide) ?_
            exact J53 1 _ _ _ hR hS (lv_sub hl [0, 1, 2, 3] rfl) h
        · replace h := ifn h c12
          refine lv_bipush (v := (-11)) hx hb dX14_fits_36 kb_m11 ?_
          obtain ⟨rfl, rfl⟩ := s2i h
          exact r_iret0 hx hb hr hlk hR hS (Nat.zero_le _) (Nat.zero_le _) dX14_fits_38
      · replace h := ifp h c9
        exact J25  _ _ _ hR hS (lv_sub hl [] rfl) h
def rm_X14_lowest : Room := { frames := 1, cells := 0, slots := 0, locals := 12 }
theorem he_X14_lowest : yX14_lowest.cls ≠ "java/lang/invoke/MethodHandle" ∧ yX14_lowest.cls ≠ "java/lang/invoke/VarHandle" ∧ (parseMethodDescriptor yX14_lowest.desc).map (fun d => d.parameters.length) = some 3 := by decide +kernel

set_option maxHeartbeats 4000000 in
set_option maxRecDepth 100000 in
theorem w_X14_lowest {l : Launch} {G : Gx} {sh : SM} {g : GM} {gl : LM} {gr : RM} {n : Nat} (hSk : Sk sh gr) (a0 : Int64) (a2 : Int64) (a4 : Int32)  {r : Int64} (h : f_X14_lowest  a0 a2 a4 = some r) : MetI l G yX14_lowest (ws_ yX14_lowest cX14_lowest 11 (Option.some Jvm.ClassFile.FieldType.long)) rm_X14_lowest [.long a0, .long a2, .int a4] sh g gl gr n (some (.long r)) sh g gl gr n := by
  refine MetI.of (by decide) (Nat.le_of_ble_eq_true rfl) ?_
  intro p e s m below meth c ls hx hb hr hml hown hts hlk hnm hW hK hR hS hl
  have hown : s.vm.findClass RX14 = some m.cls := hown
  have hF : CallFix p m c cX14_lowest 11 s ([.long a0, .long a2, .int a4] : List Value).toArray lw_all RX14 := ⟨hx, hb, hml, hown, hts⟩
  have hl : lv_has ls 11 [(0, .long a0), (2, .long a2), (4, .int a4)] := hl
  unfold f_X14_lowest at h
  refine lv_lload_n hx hb dX14_lowest_0 rfl (lv_at hl 0 rfl) ?_
  refine lv_lstore (lv' := [(5, .long a0), (0, .long a0), (2, .long a2), (4, .int a4)]) hx hb dX14_lowest_1 hl (by decide) rfl (fun ls hl => ?_)
  refine lv_lload_n hx hb dX14_lowest_3 rfl (lv_at hl 2 rfl) ?_
  refine lv_lstore (lv' := [(7, .long a2), (5, .long a0), (0, .long a0), (2, .long a2), (4, .int a4)]) hx hb dX14_lowest_4 hl (by decide) rfl (fun ls hl => ?_)
  have J6 : ∀ (k6 : Nat) (x1 : Int64) (x2 : Int64) (H : Heap) (locs : List Loc) (ls : Array Slot), Rep G sh g gl gr n H → va_S (own G) s.heap H locs → lv_has ls 11 [(0, .long a0), (2, .long a2), (4, .int a4), (5, .long x1), (7, .long x2)] → l_X14_lowest_6 a0 a2 a4 k6 x1 x2 = some r → W p l e rm_X14_lowest s m ([.long a0, .long a2, .int a4] : List Value).toArray below meth c H locs 0 0 (MQ below (QR G (some (.long r)) sh g gl gr n) ([.long a0, .long a2, .int a4] : List Value).toArray s rm_X14_lowest.cells rm_X14_lowest.slots (own G)) (F0 m 6 ls []) := by
    intro k6
    induction k6 with
    | zero => intro _ _ _ _ _ _ _ _; exact nofun
    | succ k6 ih6 =>
      intro x1 x2 H locs ls hR hS hl h
      unfold l_X14_lowest_6 b_X14_lowest_6 at h
      refine lv_lload hx hb dX14_lowest_6 (lv_at hl 4 rfl) ?_
      refine lv_lconst (v := 0) hx hb dX14_lowest_8 rfl ?_
      refine W.lcmp hx hb dX14_lowest_9 ?_
      refine lv_if_eq (tgt := 31) hx hb dX14_lowest_10 (by decide) (fun c3 => ?_) (fun c3 => ?_)
      · replace h := ifp h c3
        refine lv_iload hx hb dX14_lowest_31 (lv_at hl 2 rfl) ?_
        have J41 : ∀ (x4 : Int64) (H : Heap) (locs : List Loc) (ls : Array Slot), Rep G sh g gl gr n H → va_S (own G) s.heap H locs → lv_has ls 11 [(5, .long x1)] → j_X14_lowest_41 x1 x4 = some r → W p l e rm_X14_lowest s m ([.long a0, .long a2, .int a4] : List Value).toArray below meth c H locs 0 0 (MQ below (QR G (some (.long r)) sh g gl gr n) ([.long a0, .long a2, .int a4] : List Value).toArray s rm_X14_lowest.cells rm_X14_lowest.slots (own G)) (F0 m 41 ls [.long x4]) := by
          intro x4 H locs ls hR hS hl h
          unfold j_X14_lowest_41 at h
          refine lv_lload hx hb dX14_lowest_41 (lv_at hl 0 rfl) ?_
          obtain ⟨c5, h⟩ := ogrd h
          refine lv_ldiv hx hb dX14_lowest_43 c5 ?_
          obtain rfl := s1i h
          exact r_lret0 hx hb hr hlk hR hS (Nat.zero_le _) (Nat.zero_le _) dX14_lowest_44
        refine lv_if_ne (tgt := 40) hx hb dX14_lowest_33 (by decide) (fun c6 => ?_) (fun c6 => ?_)
        · replace h := ifn h c6
          refine lv_lload_n hx hb dX14_lowest_40 rfl (lv_at hl 1 rfl) ?_
          exact J41 a2 _ _ _ hR hS (lv_sub hl [3] rfl) h
        · replace h := ifp h c6
          refine lv_lload_n hx hb dX14_lowest_36 rfl (lv_at hl 0 rfl) ?_
          refine lv_goto (tgt := 41) hx hb dX14_lowest_37 (by decide) ?_
          exact J41 a0 _ _ _ hR hS (lv_sub hl [3] rfl) h
      · replace h := ifn h c3
        refine lv_lload hx hb dX14_lowest_13 (lv_at hl 3 rfl) ?_
        refine lv_lload hx hb dX14_lowest_15 (lv_at hl 4 rfl) ?_
        obtain ⟨c7, h⟩ := ogrd h
        refine lv_lrem hx hb dX14_lowest_17 c7 ?_
        refine lv_lstore (lv' := [(9, .long (x1 - x1 / x2 * x2)), (0, .long a0), (2, .long a2), (4, .int a4), (5, .long x1), (7, .long x2)]) hx hb dX14_lowest_18 hl (by decide) rfl (fun ls hl => ?_)
        refine lv_lload hx hb dX14_lowest_20 (lv_at hl 5 rfl) ?_
        refine lv_lstore (lv' := [(5, .long x2), (9, .long (x1 - x1 / x2 * x2)), (0, .long a0), (2, .long a2), (4, .int a4), (7, .long x2)]) hx hb dX14_lowest_22 hl (by decide) rfl (fun ls hl => ?_)
        refine lv_lload hx hb dX14_lowest_24 (lv_at hl 1 rfl) ?_
        refine lv_lstore (lv' := [(7, .long (x1 - x1 / x2 * x2)), (5, .long x2), (9, .long (x1 - x1 / x2 * x2)), (0, .long a0), (2, .long a2), (4, .int a4)]) hx hb dX14_lowest_26 hl (by decide) rfl (fun ls hl => ?_)
        refine lv_goto (tgt := 6) hx hb dX14_lowest_28 (by decide) ?_
        exact ih6 x2 (x1 - x1 / x2 * x2) _ _ _ hR hS (lv_sub hl [3, 4, 5, 1, 0] rfl) h
  exact J6 fuel a0 a2 _ _ _ hR hS (lv_sub hl [2, 3, 4, 1, 0] rfl) h
def rm_X14_odds : Room := { frames := 2, cells := 0, slots := 0, locals := 42 }
theorem hd_X14_odds : yX14_odds.cls = "IntentVatsModel" ∧ yX14_odds.cls ≠ "java/lang/invoke/MethodHandle" ∧ yX14_odds.cls ≠ "java/lang/invoke/VarHandle" ∧ (parseMethodDescriptor yX14_odds.desc).map (fun d => d.parameters.length) = some 3 := by decide +kernel
theorem he_X14_odds : yX14_odds.cls ≠ "java/lang/invoke/MethodHandle" ∧ yX14_odds.cls ≠ "java/lang/invoke/VarHandle" ∧ (parseMethodDescriptor yX14_odds.desc).map (fun d => d.parameters.length) = some 3 := hd_X14_odds.2

set_option maxHeartbeats 4000000 in
set_option maxRecDepth 100000 in
theorem w_X14_odds {l : Launch} {G : Gx} {sh : SM} {g : GM} {gl : LM} {gr : RM} {n : Nat} (hSk : Sk sh gr) (a1 : Int32) (a2 : Int32) (a3 : Int32)  {r : Int64} (h : f_X14_odds g a1 a2 a3 = some r) : MetI l G yX14_odds (ws_ yX14_odds cX14_odds 11 (Option.some Jvm.ClassFile.FieldType.long)) rm_X14_odds [.ref (adr G 128), .int a1, .int a2, .int a3] sh g gl gr n (some (.long r)) sh g gl gr n := by
  refine MetI.of (by decide) (Nat.le_of_ble_eq_true rfl) ?_
  intro p e s m below meth c ls hx hb hr hml hown hts hlk hnm hW hK hR hS hl
  have hown : s.vm.findClass RX14 = some m.cls := hown
  have hF : CallFix p m c cX14_odds 11 s ([.ref (adr G 128), .int a1, .int a2, .int a3] : List Value).toArray lw_all RX14 := ⟨hx, hb, hml, hown, hts⟩
  have hl : lv_has ls 11 [(0, .ref (adr G 128)), (1, .int a1), (2, .int a2), (3, .int a3)] := hl
  unfold f_X14_odds at h
  refine lv_iload_n hx hb dX14_odds_0 rfl (lv_at hl 1 rfl) ?_
  refine lv_i2l hx hb dX14_odds_1 rfl ?_
  refine lv_lconst (v := 0) hx hb dX14_odds_2 rfl ?_
  refine lv_ldc2 (v := 8) hx hb hown (hts _ q1853) dX14_odds_3 ?_
  obtain ⟨r2, e1, h⟩ := obd h
  refine rc_S0 (rest := []) (st1 := [.int r2]) hF (w_X14_in hSk a1.toInt64 0 8 e1) (va_cwS 3 hts (lw_S q1602 q1603 q117 q1604) rfl rfl rfl he_X14_in ⟨Nat.le_of_ble_eq_true rfl, Nat.le_of_ble_eq_true rfl⟩) hW hR hS rfl hl.1 rfl (Nat.le_of_ble_eq_true rfl) rfl dX14_odds_6 ⟨rfl, rfl⟩ ⟨Nat.zero_le _, Nat.zero_le _⟩ (fun H locs hR hS => ?_)
  have J33 : ∀  (H : Heap) (locs : List Loc) (ls : Array Slot), Rep G sh g gl gr n H → va_S (own G) s.heap H locs → lv_has ls 11 [] → j_X14_odds_33   = some r → W p l e rm_X14_odds s m ([.ref (adr G 128), .int a1, .int a2, .int a3] : List Value).toArray below meth c H locs 0 0 (MQ below (QR G (some (.long r)) sh g gl gr n) ([.ref (adr G 128), .int a1, .int a2, .int a3] : List Value).toArray s rm_X14_odds.cells rm_X14_odds.slots (own G)) (F0 m 33 ls []) := by
    intro  H locs ls hR hS hl h
    unfold j_X14_odds_33 at h
    refine lv_ldc2 (v := (-1)) hx hb hown (hts _ q1876) dX14_odds_33 ?_
    obtain rfl := s1i h
    exact r_lret0 hx hb hr hlk hR hS (Nat.zero_le _) (Nat.zero_le _) dX14_odds_36
  refine lv_if_eq (tgt := 33) hx hb dX14_odds_9 (by decide) (fun c3 => ?_) (fun c3 => ?_)
  · replace h := ifp h c3
    exact J33  _ _ _ hR hS (lv_sub hl [] rfl) h
  · replace h := ifn h c3
    refine lv_iload_n hx hb dX14_odds_12 rfl (lv_at hl 2 rfl) ?_
    refine lv_i2l hx hb dX14_odds_13 rfl ?_
    refine lv_lconst (v := 0) hx hb dX14_odds_14 rfl ?_
    refine lv_iload_n hx hb dX14_odds_15 rfl (lv_at hl 1 rfl) ?_
    refine lv_i2l hx hb dX14_odds_16 rfl ?_
    obtain ⟨r5, e4, h⟩ := obd h
    refine rc_S0 (rest := []) (st1 := [.int r5]) hF (w_X14_in hSk a2.toInt64 0 a1.toInt64 e4) (va_cwS 3 hts (lw_S q1602 q1603 q117 q1604) rfl rfl rfl he_X14_in ⟨Nat.le_of_ble_eq_true rfl, Nat.le_of_ble_eq_true rfl⟩) hW hR hS rfl hl.1 rfl (Nat.le_of_ble_eq_true rfl) rfl dX14_odds_17 ⟨rfl, rfl⟩ ⟨Nat.zero_le _, Nat.zero_le _⟩ (fun H locs hR hS => ?_)
    refine lv_if_eq (tgt := 33) hx hb dX14_odds_20 (by decide) (fun c6 => ?_) (fun c6 => ?_)
    · replace h := ifp h c6
      exact J33  _ _ _ hR hS (lv_sub hl [] rfl) h
    · replace h := ifn h c6
      refine lv_iload_n hx hb dX14_odds_23 rfl (lv_at hl 3 rfl) ?_
      refine lv_i2l hx hb dX14_odds_24 rfl ?_
      refine lv_lconst (v := 0) hx hb dX14_odds_25 rfl ?_
      refine lv_lconst (v := 1) hx hb dX14_odds_26 rfl ?_
      obtain ⟨r8, e7, h⟩ := obd h
      refine rc_S0 (rest := []) (st1 := [.int r8]) hF (w_X14_in hSk a3.toInt64 0 1 e7) (va_cwS 3 hts (lw_S q1602 q1603 q117 q1604) rfl rfl rfl he_X14_in ⟨Nat.le_of_ble_eq_true rfl, Nat.le_of_ble_eq_true rfl⟩) hW hR hS rfl hl.1 rfl (Nat.le_of_ble_eq_true rfl) rfl dX14_odds_27 ⟨rfl, rfl⟩ ⟨Nat.zero_le _, Nat.zero_le _⟩ (fun H locs hR hS => ?_)
      refine lv_if_ne (tgt := 37) hx hb dX14_odds_30 (by decide) (fun c9 => ?_) (fun c9 => ?_)
      · replace h := ifn h c9
        refine lv_lconst (v := 1) hx hb dX14_odds_37 rfl ?_
        refine lv_lstore (lv' := [(4, .long 1), (0, .ref (adr G 128)), (1, .int a1), (2, .int a2), (3, .int a3)]) hx hb dX14_odds_38 hl (by decide) rfl (fun ls hl => ?_)
        refine lv_lconst (v := 1) hx hb dX14_odds_40 rfl ?_
        refine lv_lstore (lv' := [(6, .long 1), (4, .long 1), (0, .ref (adr G 128)), (1, .int a1), (2, .int a2), (3, .int a3)]) hx hb dX14_odds_41 hl (by decide) rfl (fun ls hl => ?_)
        refine lv_iconst (v := 0) hx hb dX14_odds_43 ki_0 ?_
        refine lv_istore (lv' := [(8, .int 0), (6, .long 1), (4, .long 1), (0, .ref (adr G 128)), (1, .int a1), (2, .int a2), (3, .int a3)]) hx hb dX14_odds_44 hl (by decide) rfl (fun ls hl => ?_)
        have J46 : ∀ (k46 : Nat) (x10 : Int64) (x11 : Int64) (x12 : Int32) (H : Heap) (locs : List Loc) (ls : Array Slot), Rep G sh g gl gr n H → va_S (own G) s.heap H locs → lv_has ls 11 [(0, .ref (adr G 128)), (1, .int a1), (2, .int a2), (3, .int a3), (4, .long x10), (6, .long x11), (8, .int x12)] → l_X14_odds_46 g a1 a2 a3 k46 x10 x11 x12 = some r → W p l e rm_X14_odds s m ([.ref (adr G 128), .int a1, .int a2, .int a3] : List Value).toArray below meth c H locs 0 0 (MQ below (QR G (some (.long r)) sh g gl gr n) ([.ref (adr G 128), .int a1, .int a2, .int a3] : List Value).toArray s rm_X14_odds.cells rm_X14_odds.slots (own G)) (F0 m 46 ls []) := by
          intro k46
          induction k46 with
          | zero => intro _ _ _ _ _ _ _ _ _; exact nofun
          | succ k46 ih46 =>
            intro x10 x11 x12 H locs ls hR hS hl h
            unfold l_X14_odds_46 b_X14_odds_46 at h
            refine lv_iload hx hb dX14_odds_46 (lv_at hl 6 rfl) ?_
            refine lv_iload_n hx hb dX14_odds_48 rfl (lv_at hl 1 rfl) ?_
            refine lv_icmp_ge (tgt := 97) hx hb dX14_odds_49 (by decide) (fun c13 => ?_) (fun c13 => ?_)
            · replace h := ifp h c13
              refine lv_lconst (v := 1) hx hb dX14_odds_97 rfl ?_
              refine lv_lstore (lv' := [(8, .long 1), (0, .ref (adr G 128)), (1, .int a1), (2, .int a2), (3, .int a3), (4, .long x10), (6, .long x11)]) hx hb dX14_odds_98 hl (by decide) rfl (fun ls hl => ?_)
              refine lv_iconst (v := 0) hx hb dX14_odds_100 ki_0 ?_
              refine lv_istore (lv' := [(10, .int 0), (8, .long 1), (0, .ref (adr G 128)), (1, .int a1), (2, .int a2), (3, .int a3), (4, .long x10), (6, .long x11)]) hx hb dX14_odds_101 hl (by decide) rfl (fun ls hl => ?_)
              have J103 : ∀ (k103 : Nat) (x14 : Int64) (x15 : Int32) (H : Heap) (locs : List Loc) (ls : Array Slot), Rep G sh g gl gr n H → va_S (own G) s.heap H locs → lv_has ls 11 [(1, .int a1), (2, .int a2), (3, .int a3), (4, .long x10), (6, .long x11), (8, .long x14), (10, .int x15)] → l_X14_odds_103 a1 a2 a3 x10 x11 k103 x14 x15 = some r → W p l e rm_X14_odds s m ([.ref (adr G 128), .int a1, .int a2, .int a3] : List Value).toArray below meth c H locs 0 0 (MQ below (QR G (some (.long r)) sh g gl gr n) ([.ref (adr G 128), .int a1, .int a2, .int a3] : List Value).toArray s rm_X14_odds.cells rm_X14_odds.slots (own G)) (F0 m 103 ls []) := by
                intro k103
                induction k103 with
                | zero => intro _ _ _ _ _ _ _ _; exact nofun
                | succ k103 ih103 =>
                  intro x14 x15 H locs ls hR hS hl h
                  unfold l_X14_odds_103 b_X14_odds_103 at h
                  refine lv_iload hx hb dX14_odds_103 (lv_at hl 6 rfl) ?_
                  refine lv_iload_n hx hb dX14_odds_105 rfl (lv_at hl 1 rfl) ?_
                  refine lv_icmp_ge (tgt := 131) hx hb dX14_odds_106 (by decide) (fun c16 => ?_) (fun c16 => ?_)
                  · replace h := ifp h c16
                    refine lv_lload hx hb dX14_odds_131 (lv_at hl 3 rfl) ?_
                    refine lv_lload hx hb dX14_odds_133 (lv_at hl 5 rfl) ?_
                    refine lv_lmul hx hb dX14_odds_135 ?_
                    refine lv_lload hx hb dX14_odds_136 (lv_at hl 4 rfl) ?_
                    refine lv_iload_n hx hb dX14_odds_138 rfl (lv_at hl 2 rfl) ?_
                    obtain ⟨r18, e17, h⟩ := obd h
                    refine rc_S0 (rest := []) (st1 := [.long r18]) hF (w_X14_lowest hSk (x10 * x14) x11 a3 e17) (va_cwS 3 hts (lw_S q1878 q1879 q117 q1880) rfl rfl rfl he_X14_lowest ⟨Nat.le_of_ble_eq_true rfl, Nat.le_of_ble_eq_true rfl⟩) hW hR hS rfl hl.1 rfl (Nat.le_of_ble_eq_true rfl) rfl dX14_odds_139 ⟨rfl, rfl⟩ ⟨Nat.zero_le _, Nat.zero_le _⟩ (fun H locs hR hS => ?_)
                    obtain rfl := s1i h
                    exact r_lret0 hx hb hr hlk hR hS (Nat.zero_le _) (Nat.zero_le _) dX14_odds_142
                  · replace h := ifn h c16
                    refine lv_lload hx hb dX14_odds_109 (lv_at hl 5 rfl) ?_
                    refine lv_iload_n hx hb dX14_odds_111 rfl (lv_at hl 0 rfl) ?_
                    refine lv_iload hx hb dX14_odds_112 (lv_at hl 6 rfl) ?_
                    refine lv_isub hx hb dX14_odds_114 ?_
                    refine lv_i2l hx hb dX14_odds_115 rfl ?_
                    refine lv_lmul hx hb dX14_odds_116 ?_
                    refine lv_iload hx hb dX14_odds_117 (lv_at hl 6 rfl) ?_
                    refine lv_iconst (v := 1) hx hb dX14_odds_119 ki_1 ?_
                    refine lv_iadd hx hb dX14_odds_120 ?_
                    refine lv_i2l hx hb dX14_odds_121 rfl ?_
                    obtain ⟨c19, h⟩ := ogrd h
                    refine lv_ldiv hx hb dX14_odds_122 c19 ?_
                    refine lv_lstore (lv' := [(8, .long ((x14 * ((a1 - x15).toInt64)) / ((x15 + 1).toInt64))), (1, .int a1), (2, .int a2), (3, .int a3), (4, .long x10), (6, .long x11), (10, .int x15)]) hx hb dX14_odds_123 hl (by decide) rfl (fun ls hl => ?_)
                    refine lv_iinc (v := x15 + 1) (lv' := [(10, .int (x15 + 1)), (8, .long ((x14 * ((a1 - x15).toInt64)) / ((x15 + 1).toInt64))), (1, .int a1), (2, .int a2), (3, .int a3), (4, .long x10), (6, .long x11)]) hx hb dX14_odds_125 hl (k := 6) rfl rfl (by decide) rfl (fun ls hl => ?_)
                    refine lv_goto (tgt := 103) hx hb dX14_odds_128 (by decide) ?_
                    exact ih103 ((x14 * ((a1 - x15).toInt64)) / ((x15 + 1).toInt64)) (x15 + 1) _ _ _ hR hS (lv_sub hl [2, 3, 4, 5, 6, 1, 0] rfl) h
              exact J103 fuel 1 0 _ _ _ hR hS (lv_sub hl [3, 4, 5, 6, 7, 1, 0] rfl) h
            · replace h := ifn h c13
              refine lv_lload hx hb dX14_odds_52 (lv_at hl 4 rfl) ?_
              refine lv_iload hx hb dX14_odds_54 (lv_at hl 6 rfl) ?_
              refine lv_iload_n hx hb dX14_odds_56 rfl (lv_at hl 2 rfl) ?_
              have J80 : ∀ (x20 : Int64) (H : Heap) (locs : List Loc) (ls : Array Slot), Rep G sh g gl gr n H → va_S (own G) s.heap H locs → lv_has ls 11 [(0, .ref (adr G 128)), (1, .int a1), (2, .int a2), (3, .int a3), (6, .long x11), (8, .int x12)] → j_X14_odds_80 x10 x11 x12 (l_X14_odds_46 g a1 a2 a3 k46) x20 = some r → W p l e rm_X14_odds s m ([.ref (adr G 128), .int a1, .int a2, .int a3] : List Value).toArray below meth c H locs 0 0 (MQ below (QR G (some (.long r)) sh g gl gr n) ([.ref (adr G 128), .int a1, .int a2, .int a3] : List Value).toArray s rm_X14_odds.cells rm_X14_odds.slots (own G)) (F0 m 80 ls [.long x20, .long x10]) := by
                intro x20 H locs ls hR hS hl h
                unfold j_X14_odds_80 at h
                refine lv_lmul hx hb dX14_odds_80 ?_
                refine lv_lstore (lv' := [(4, .long (x10 * x20)), (0, .ref (adr G 128)), (1, .int a1), (2, .int a2), (3, .int a3), (6, .long x11), (8, .int x12)]) hx hb dX14_odds_81 hl (by decide) rfl (fun ls hl => ?_)
                refine lv_lload hx hb dX14_odds_83 (lv_at hl 5 rfl) ?_
                refine lv_ldc2 (v := 100) hx hb hown (hts _ q1877) dX14_odds_85 ?_
                refine lv_lmul hx hb dX14_odds_88 ?_
                refine lv_lstore (lv' := [(6, .long (x11 * 100)), (4, .long (x10 * x20)), (0, .ref (adr G 128)), (1, .int a1), (2, .int a2), (3, .int a3), (8, .int x12)]) hx hb dX14_odds_89 hl (by decide) rfl (fun ls hl => ?_)
                refine lv_iinc (v := x12 + 1) (lv' := [(8, .int (x12 + 1)), (6, .long (x11 * 100)), (4, .long (x10 * x20)), (0, .ref (adr G 128)), (1, .int a1), (2, .int a2), (3, .int a3)]) hx hb dX14_odds_91 hl (k := 6) rfl rfl (by decide) rfl (fun ls hl => ?_)
                refine lv_goto (tgt := 46) hx hb dX14_odds_94 (by decide) ?_
                exact ih46 (x10 * x20) (x11 * 100) (x12 + 1) _ _ _ hR hS (lv_sub hl [3, 4, 5, 6, 2, 1, 0] rfl) h
              refine lv_icmp_ge (tgt := 70) hx hb dX14_odds_57 (by decide) (fun c21 => ?_) (fun c21 => ?_)
              · replace h := ifp h c21
                refine lv_bipush (v := 100) hx hb dX14_odds_70 kb_100 ?_
                refine lv_aload_n hx hb dX14_odds_72 rfl (lv_at hl 0 rfl) ?_
                refine r_getr hx hb hts cfX14 hown hK hR (sk_128 hSk) 2 (by decide) rfl (sr_128_2 hSk) (hts _ q1523) (fun _ h => h) dX14_odds_73 ?_
                refine lv_iconst (v := 3) hx hb dX14_odds_76 ki_3 ?_
                obtain ⟨v23, e22, h⟩ := obd h
                refine r_ldi hx hb hK hR (sk_131 hSk) e22 dX14_odds_77 ?_
                refine lv_isub hx hb dX14_odds_78 ?_
                refine lv_i2l hx hb dX14_odds_79 rfl ?_
                exact J80 ((100 - v23).toInt64) _ _ _ hR hS (lv_sub hl [0, 1, 2, 3, 5, 6] rfl) h
              · replace h := ifn h c21
                refine lv_aload_n hx hb dX14_odds_60 rfl (lv_at hl 0 rfl) ?_
                refine r_getr hx hb hts cfX14 hown hK hR (sk_128 hSk) 2 (by decide) rfl (sr_128_2 hSk) (hts _ q1523) (fun _ h => h) dX14_odds_61 ?_
                refine lv_iconst (v := 3) hx hb dX14_odds_64 ki_3 ?_
                obtain ⟨v25, e24, h⟩ := obd h
                refine r_ldi hx hb hK hR (sk_131 hSk) e24 dX14_odds_65 ?_
                refine lv_i2l hx hb dX14_odds_66 rfl ?_
                refine lv_goto (tgt := 80) hx hb dX14_odds_67 (by decide) ?_
                exact J80 v25.toInt64 _ _ _ hR hS (lv_sub hl [0, 1, 2, 3, 5, 6] rfl) h
        exact J46 fuel 1 1 0 _ _ _ hR hS (lv_sub hl [3, 4, 5, 6, 2, 1, 0] rfl) h
      · replace h := ifp h c9
        exact J33  _ _ _ hR hS (lv_sub hl [] rfl) h
def rm_X14_hope : Room := { frames := 2, cells := 0, slots := 0, locals := 42 }
theorem hd_X14_hope : yX14_hope.cls = "IntentVatsModel" ∧ yX14_hope.cls ≠ "java/lang/invoke/MethodHandle" ∧ yX14_hope.cls ≠ "java/lang/invoke/VarHandle" ∧ (parseMethodDescriptor yX14_hope.desc).map (fun d => d.parameters.length) = some 2 := by decide +kernel
theorem he_X14_hope : yX14_hope.cls ≠ "java/lang/invoke/MethodHandle" ∧ yX14_hope.cls ≠ "java/lang/invoke/VarHandle" ∧ (parseMethodDescriptor yX14_hope.desc).map (fun d => d.parameters.length) = some 2 := hd_X14_hope.2

set_option maxHeartbeats 4000000 in
set_option maxRecDepth 100000 in
theorem w_X14_hope {l : Launch} {G : Gx} {sh : SM} {g : GM} {gl : LM} {gr : RM} {n : Nat} (hSk : Sk sh gr) (a1 : Int32) (a2 : Int32)  {r : Int64} (h : f_X14_hope g a1 a2 = some r) : MetI l G yX14_hope (ws_ yX14_hope cX14_hope 3 (Option.some Jvm.ClassFile.FieldType.long)) rm_X14_hope [.ref (adr G 128), .int a1, .int a2] sh g gl gr n (some (.long r)) sh g gl gr n := by
  refine MetI.of (by decide) (Nat.le_of_ble_eq_true rfl) ?_
  intro p e s m below meth c ls hx hb hr hml hown hts hlk hnm hW hK hR hS hl
  have hown : s.vm.findClass RX14 = some m.cls := hown
  have hF : CallFix p m c cX14_hope 3 s ([.ref (adr G 128), .int a1, .int a2] : List Value).toArray lw_all RX14 := ⟨hx, hb, hml, hown, hts⟩
  have hl : lv_has ls 3 [(0, .ref (adr G 128)), (1, .int a1), (2, .int a2)] := hl
  unfold f_X14_hope at h
  refine lv_iload_n hx hb dX14_hope_0 rfl (lv_at hl 1 rfl) ?_
  refine lv_i2l hx hb dX14_hope_1 rfl ?_
  refine lv_lconst (v := 0) hx hb dX14_hope_2 rfl ?_
  refine lv_ldc2 (v := 99) hx hb hown (hts _ q1698) dX14_hope_3 ?_
  obtain ⟨r2, e1, h⟩ := obd h
  refine rc_S0 (rest := []) (st1 := [.int r2]) hF (w_X14_in hSk a1.toInt64 0 99 e1) (va_cwS 3 hts (lw_S q1602 q1603 q117 q1604) rfl rfl rfl he_X14_in ⟨Nat.le_of_ble_eq_true rfl, Nat.le_of_ble_eq_true rfl⟩) hW hR hS rfl hl.1 rfl (Nat.le_of_ble_eq_true rfl) rfl dX14_hope_6 ⟨rfl, rfl⟩ ⟨Nat.zero_le _, Nat.zero_le _⟩ (fun H locs hR hS => ?_)
  have J45 : ∀ (x3 : Int64) (H : Heap) (locs : List Loc) (ls : Array Slot), Rep G sh g gl gr n H → va_S (own G) s.heap H locs → lv_has ls 3 [] → j_X14_hope_45  x3 = some r → W p l e rm_X14_hope s m ([.ref (adr G 128), .int a1, .int a2] : List Value).toArray below meth c H locs 0 0 (MQ below (QR G (some (.long r)) sh g gl gr n) ([.ref (adr G 128), .int a1, .int a2] : List Value).toArray s rm_X14_hope.cells rm_X14_hope.slots (own G)) (F0 m 45 ls [.long x3]) := by
    intro x3 H locs ls hR hS hl h
    unfold j_X14_hope_45 at h
    obtain rfl := s1i h
    exact r_lret0 hx hb hr hlk hR hS (Nat.zero_le _) (Nat.zero_le _) dX14_hope_45
  have J42 : ∀  (H : Heap) (locs : List Loc) (ls : Array Slot), Rep G sh g gl gr n H → va_S (own G) s.heap H locs → lv_has ls 3 [] → j_X14_hope_42   = some r → W p l e rm_X14_hope s m ([.ref (adr G 128), .int a1, .int a2] : List Value).toArray below meth c H locs 0 0 (MQ below (QR G (some (.long r)) sh g gl gr n) ([.ref (adr G 128), .int a1, .int a2] : List Value).toArray s rm_X14_hope.cells rm_X14_hope.slots (own G)) (F0 m 42 ls []) := by
    intro  H locs ls hR hS hl h
    unfold j_X14_hope_42 at h
    refine lv_ldc2 (v := (-1)) hx hb hown (hts _ q1876) dX14_hope_42 ?_
    exact J45 (-1) _ _ _ hR hS (lv_sub hl [] rfl) h
  refine lv_if_eq (tgt := 42) hx hb dX14_hope_9 (by decide) (fun c4 => ?_) (fun c4 => ?_)
  · replace h := ifp h c4
    exact J42  _ _ _ hR hS (lv_sub hl [] rfl) h
  · replace h := ifn h c4
    refine lv_iload_n hx hb dX14_hope_12 rfl (lv_at hl 2 rfl) ?_
    refine lv_i2l hx hb dX14_hope_13 rfl ?_
    refine lv_lconst (v := 0) hx hb dX14_hope_14 rfl ?_
    refine lv_lconst (v := 1) hx hb dX14_hope_15 rfl ?_
    obtain ⟨r6, e5, h⟩ := obd h
    refine rc_S0 (rest := []) (st1 := [.int r6]) hF (w_X14_in hSk a2.toInt64 0 1 e5) (va_cwS 3 hts (lw_S q1602 q1603 q117 q1604) rfl rfl rfl he_X14_in ⟨Nat.le_of_ble_eq_true rfl, Nat.le_of_ble_eq_true rfl⟩) hW hR hS rfl hl.1 rfl (Nat.le_of_ble_eq_true rfl) rfl dX14_hope_16 ⟨rfl, rfl⟩ ⟨Nat.zero_le _, Nat.zero_le _⟩ (fun H locs hR hS => ?_)
    refine lv_if_eq (tgt := 42) hx hb dX14_hope_19 (by decide) (fun c7 => ?_) (fun c7 => ?_)
    · replace h := ifp h c7
      exact J42  _ _ _ hR hS (lv_sub hl [] rfl) h
    · replace h := ifn h c7
      refine lv_iload_n hx hb dX14_hope_22 rfl (lv_at hl 1 rfl) ?_
      refine lv_i2l hx hb dX14_hope_23 rfl ?_
      refine lv_aload_n hx hb dX14_hope_24 rfl (lv_at hl 0 rfl) ?_
      refine r_getr hx hb hts cfX14 hown hK hR (sk_128 hSk) 2 (by decide) rfl (sr_128_2 hSk) (hts _ q1523) (fun _ h => h) dX14_hope_25 ?_
      refine lv_iconst (v := 3) hx hb dX14_hope_28 ki_3 ?_
      obtain ⟨v9, e8, h⟩ := obd h
      refine r_ldi hx hb hK hR (sk_131 hSk) e8 dX14_hope_29 ?_
      refine lv_i2l hx hb dX14_hope_30 rfl ?_
      refine lv_lmul hx hb dX14_hope_31 ?_
      refine lv_ldc2 (v := 100) hx hb hown (hts _ q1877) dX14_hope_32 ?_
      refine lv_iload_n hx hb dX14_hope_35 rfl (lv_at hl 2 rfl) ?_
      obtain ⟨r11, e10, h⟩ := obd h
      refine rc_S0 (rest := []) (st1 := [.long r11]) hF (w_X14_lowest hSk (a1.toInt64 * v9.toInt64) 100 a2 e10) (va_cwS 3 hts (lw_S q1878 q1879 q117 q1880) rfl rfl rfl he_X14_lowest ⟨Nat.le_of_ble_eq_true rfl, Nat.le_of_ble_eq_true rfl⟩) hW hR hS rfl hl.1 rfl (Nat.le_of_ble_eq_true rfl) rfl dX14_hope_36 ⟨rfl, rfl⟩ ⟨Nat.zero_le _, Nat.zero_le _⟩ (fun H locs hR hS => ?_)
      refine lv_goto (tgt := 45) hx hb dX14_hope_39 (by decide) ?_
      exact J45 r11 _ _ _ hR hS (lv_sub hl [] rfl) h
def rm_X14_feed : Room := { frames := 2, cells := 0, slots := 0, locals := 37 }
theorem hd_X14_feed : yX14_feed.cls = "IntentVatsModel" ∧ yX14_feed.cls ≠ "java/lang/invoke/MethodHandle" ∧ yX14_feed.cls ≠ "java/lang/invoke/VarHandle" ∧ (parseMethodDescriptor yX14_feed.desc).map (fun d => d.parameters.length) = some 2 := by decide +kernel
theorem he_X14_feed : yX14_feed.cls ≠ "java/lang/invoke/MethodHandle" ∧ yX14_feed.cls ≠ "java/lang/invoke/VarHandle" ∧ (parseMethodDescriptor yX14_feed.desc).map (fun d => d.parameters.length) = some 2 := hd_X14_feed.2

set_option maxHeartbeats 4000000 in
set_option maxRecDepth 100000 in
theorem w_X14_feed {l : Launch} {G : Gx} {sh : SM} {g : GM} {gl : LM} {gr : RM} {n : Nat} (hSk : Sk sh gr) (a1 : Int64) (a3 : Int32)  {r : Int32} {go : GM} (h : f_X14_feed g a1 a3 = some (r, go)) : MetI l G yX14_feed (ws_ yX14_feed cX14_feed 5 (Option.some Jvm.ClassFile.FieldType.int)) rm_X14_feed [.ref (adr G 128), .long a1, .int a3] sh g gl gr n (some (.int r)) sh go gl gr n := by
  refine MetI.of (by decide) (Nat.le_of_ble_eq_true rfl) ?_
  intro p e s m below meth c ls hx hb hr hml hown hts hlk hnm hW hK hR hS hl
  have hown : s.vm.findClass RX14 = some m.cls := hown
  have hF : CallFix p m c cX14_feed 5 s ([.ref (adr G 128), .long a1, .int a3] : List Value).toArray lw_all RX14 := ⟨hx, hb, hml, hown, hts⟩
  have hl : lv_has ls 5 [(0, .ref (adr G 128)), (1, .long a1), (3, .int a3)] := hl
  unfold f_X14_feed at h
  refine lv_iload_n hx hb dX14_feed_0 rfl (lv_at hl 2 rfl) ?_
  refine lv_i2l hx hb dX14_feed_1 rfl ?_
  refine lv_lconst (v := 1) hx hb dX14_feed_2 rfl ?_
  refine lv_ldc2 (v := 8) hx hb hown (hts _ q1853) dX14_feed_3 ?_
  obtain ⟨r2, e1, h⟩ := obd h
  refine rc_S0 (rest := []) (st1 := [.int r2]) hF (w_X14_in hSk a3.toInt64 1 8 e1) (va_cwS 3 hts (lw_S q1602 q1603 q117 q1604) rfl rfl rfl he_X14_in ⟨Nat.le_of_ble_eq_true rfl, Nat.le_of_ble_eq_true rfl⟩) hW hR hS rfl hl.1 rfl (Nat.le_of_ble_eq_true rfl) rfl dX14_feed_6 ⟨rfl, rfl⟩ ⟨Nat.zero_le _, Nat.zero_le _⟩ (fun H locs hR hS => ?_)
  refine lv_if_ne (tgt := 14) hx hb dX14_feed_9 (by decide) (fun c3 => ?_) (fun c3 => ?_)
  · replace h := ifn h c3
    refine lv_aload_n hx hb dX14_feed_14 rfl (lv_at hl 0 rfl) ?_
    refine r_geti hx hb hts cfX14 hown hK hR (sk_128 hSk) 7 (by decide) rfl (hts _ q1528) (fun _ h => h) dX14_feed_15 ?_
    refine lv_iload_n hx hb dX14_feed_18 rfl (lv_at hl 2 rfl) ?_
    refine lv_iadd hx hb dX14_feed_19 ?_
    refine lv_sipush (v := 200) hx hb dX14_feed_20 ks_200 ?_
    refine lv_icmp_le (tgt := 29) hx hb dX14_feed_23 (by decide) (fun c4 => ?_) (fun c4 => ?_)
    · replace h := ifp h c4
      refine lv_iconst (v := 0) hx hb dX14_feed_29 ki_0 ?_
      refine lv_istore (lv' := [(4, .int 0), (0, .ref (adr G 128)), (1, .long a1), (3, .int a3)]) hx hb dX14_feed_30 hl (by decide) rfl (fun ls hl => ?_)
      have J32 : ∀ (k32 : Nat) (x5 : Int32) (g6 : GM) (H : Heap) (locs : List Loc) (ls : Array Slot), Rep G sh g6 gl gr n H → va_S (own G) s.heap H locs → lv_has ls 5 [(0, .ref (adr G 128)), (1, .long a1), (3, .int a3), (4, .int x5)] → l_X14_feed_32 a1 a3 k32 x5 g6 = some (r, go) → W p l e rm_X14_feed s m ([.ref (adr G 128), .long a1, .int a3] : List Value).toArray below meth c H locs 0 0 (MQ below (QR G (some (.int r)) sh go gl gr n) ([.ref (adr G 128), .long a1, .int a3] : List Value).toArray s rm_X14_feed.cells rm_X14_feed.slots (own G)) (F0 m 32 ls []) := by
        intro k32
        induction k32 with
        | zero => intro _ _ _ _ _ _ _ _; exact nofun
        | succ k32 ih32 =>
          intro x5 g6 H locs ls hR hS hl h
          unfold l_X14_feed_32 b_X14_feed_32 at h
          refine lv_iload hx hb dX14_feed_32 (lv_at hl 3 rfl) ?_
          refine lv_iload_n hx hb dX14_feed_34 rfl (lv_at hl 2 rfl) ?_
          refine lv_icmp_ge (tgt := 75) hx hb dX14_feed_35 (by decide) (fun c7 => ?_) (fun c7 => ?_)
          · replace h := ifp h c7
            refine lv_aload_n hx hb dX14_feed_75 rfl (lv_at hl 0 rfl) ?_
            refine r_geti hx hb hts cfX14 hown hK hR (sk_128 hSk) 7 (by decide) rfl (hts _ q1528) (fun _ h => h) dX14_feed_76 ?_
            obtain ⟨rfl, rfl⟩ := s2i h
            exact r_iret0 hx hb hr hlk hR hS (Nat.zero_le _) (Nat.zero_le _) dX14_feed_79
          · replace h := ifn h c7
            refine lv_aload_n hx hb dX14_feed_38 rfl (lv_at hl 0 rfl) ?_
            refine r_getr hx hb hts cfX14 hown hK hR (sk_128 hSk) 6 (by decide) rfl (sr_128_6 hSk) (hts _ q1527) (fun _ h => h) dX14_feed_39 ?_
            refine lv_aload_n hx hb dX14_feed_42 rfl (lv_at hl 0 rfl) ?_
            refine r_geti hx hb hts cfX14 hown hK hR (sk_128 hSk) 7 (by decide) rfl (hts _ q1528) (fun _ h => h) dX14_feed_43 ?_
            refine lv_lload_n hx hb dX14_feed_46 rfl (lv_at hl 1 rfl) ?_
            refine lv_bipush (v := 8) hx hb dX14_feed_47 kb_8 ?_
            refine lv_iload hx hb dX14_feed_49 (lv_at hl 3 rfl) ?_
            refine lv_imul hx hb dX14_feed_51 ?_
            refine lv_lshr hx hb dX14_feed_52 rfl ?_
            refine lv_ldc2 (v := 255) hx hb hown (hts _ q1889) dX14_feed_53 ?_
            refine lv_land hx hb dX14_feed_56 ?_
            refine lv_l2i hx hb dX14_feed_57 rfl ?_
            obtain ⟨g9, e8, h⟩ := obd h
            refine r_sti hx hb hK hR hS (sk_134 hSk) e8 dX14_feed_58 (fun H locs hR hS => ?_)
            refine lv_aload_n hx hb dX14_feed_59 rfl (lv_at hl 0 rfl) ?_
            refine lv_dup hx hb dX14_feed_60 rfl ?_
            refine r_geti hx hb hts cfX14 hown hK hR (sk_128 hSk) 7 (by decide) rfl (hts _ q1528) (fun _ h => h) dX14_feed_61 ?_
            refine lv_iconst (v := 1) hx hb dX14_feed_64 ki_1 ?_
            refine lv_iadd hx hb dX14_feed_65 ?_
            obtain ⟨g11, e10, h⟩ := obd h
            refine r_puti hx hb hts cfX14 hown hK hR hS (sk_128 hSk) 7 (by decide) rfl (hts _ q1528) (fun _ h => h) (Or.inl rfl) rfl rfl e10 dX14_feed_66 (fun H locs hR hS => ?_)
            refine lv_iinc (v := x5 + 1) (lv' := [(4, .int (x5 + 1)), (0, .ref (adr G 128)), (1, .long a1), (3, .int a3)]) hx hb dX14_feed_69 hl (k := 3) rfl rfl (by decide) rfl (fun ls hl => ?_)
            refine lv_goto (tgt := 32) hx hb dX14_feed_72 (by decide) ?_
            exact ih32 (x5 + 1) g11 _ _ _ hR hS (lv_sub hl [1, 2, 3, 0] rfl) h
      exact J32 fuel 0 g _ _ _ hR hS (lv_sub hl [1, 2, 3, 0] rfl) h
    · replace h := ifn h c4
      refine lv_bipush (v := (-2)) hx hb dX14_feed_26 kb_m2 ?_
      obtain ⟨rfl, rfl⟩ := s2i h
      exact r_iret0 hx hb hr hlk hR hS (Nat.zero_le _) (Nat.zero_le _) dX14_feed_28
  · replace h := ifp h c3
    refine lv_iconst (v := (-1)) hx hb dX14_feed_12 ki_m1 ?_
    obtain ⟨rfl, rfl⟩ := s2i h
    exact r_iret0 hx hb hr hlk hR hS (Nat.zero_le _) (Nat.zero_le _) dX14_feed_13
def rm_X14_isByte : Room := { frames := 2, cells := 0, slots := 0, locals := 37 }
theorem hd_X14_isByte : yX14_isByte.cls = "IntentVatsModel" ∧ yX14_isByte.cls ≠ "java/lang/invoke/MethodHandle" ∧ yX14_isByte.cls ≠ "java/lang/invoke/VarHandle" ∧ (parseMethodDescriptor yX14_isByte.desc).map (fun d => d.parameters.length) = some 3 := by decide +kernel
theorem he_X14_isByte : yX14_isByte.cls ≠ "java/lang/invoke/MethodHandle" ∧ yX14_isByte.cls ≠ "java/lang/invoke/VarHandle" ∧ (parseMethodDescriptor yX14_isByte.desc).map (fun d => d.parameters.length) = some 3 := hd_X14_isByte.2

set_option maxHeartbeats 4000000 in
set_option maxRecDepth 100000 in
theorem w_X14_isByte {l : Launch} {G : Gx} {sh : SM} {g : GM} {gl : LM} {gr : RM} {n : Nat} (hSk : Sk sh gr) (a1 : Int32) (a2 : Int32) (a3 : Int32)  {r : Int32} (h : f_X14_isByte g a1 a2 a3 = some r) : MetI l G yX14_isByte (ws_ yX14_isByte cX14_isByte 4 (Option.some Jvm.ClassFile.FieldType.boolean)) rm_X14_isByte [.ref (adr G 128), .int a1, .int a2, .int a3] sh g gl gr n (some (.int r)) sh g gl gr n := by
  refine MetI.of (by decide) (Nat.le_of_ble_eq_true rfl) ?_
  intro p e s m below meth c ls hx hb hr hml hown hts hlk hnm hW hK hR hS hl
  have hown : s.vm.findClass RX14 = some m.cls := hown
  have hF : CallFix p m c cX14_isByte 4 s ([.ref (adr G 128), .int a1, .int a2, .int a3] : List Value).toArray lw_all RX14 := ⟨hx, hb, hml, hown, hts⟩
  have hl : lv_has ls 4 [(0, .ref (adr G 128)), (1, .int a1), (2, .int a2), (3, .int a3)] := hl
  unfold f_X14_isByte at h
  refine lv_iload_n hx hb dX14_isByte_0 rfl (lv_at hl 1 rfl) ?_
  refine lv_aload_n hx hb dX14_isByte_1 rfl (lv_at hl 0 rfl) ?_
  refine r_geti hx hb hts cfX14 hown hK hR (sk_128 hSk) 7 (by decide) rfl (hts _ q1528) (fun _ h => h) dX14_isByte_2 ?_
  have J30 : ∀ (x1 : Int32) (H : Heap) (locs : List Loc) (ls : Array Slot), Rep G sh g gl gr n H → va_S (own G) s.heap H locs → lv_has ls 4 [] → j_X14_isByte_30  x1 = some r → W p l e rm_X14_isByte s m ([.ref (adr G 128), .int a1, .int a2, .int a3] : List Value).toArray below meth c H locs 0 0 (MQ below (QR G (some (.int r)) sh g gl gr n) ([.ref (adr G 128), .int a1, .int a2, .int a3] : List Value).toArray s rm_X14_isByte.cells rm_X14_isByte.slots (own G)) (F0 m 30 ls [.int x1]) := by
    intro x1 H locs ls hR hS hl h
    unfold j_X14_isByte_30 at h
    obtain ⟨c2, h⟩ := ogrd h
    obtain rfl := s1i h
    exact r_zret0 hx hb hr hlk hR hS (Nat.zero_le _) (Nat.zero_le _) (nb01 c2) dX14_isByte_30
  have J29 : ∀  (H : Heap) (locs : List Loc) (ls : Array Slot), Rep G sh g gl gr n H → va_S (own G) s.heap H locs → lv_has ls 4 [] → j_X14_isByte_29   = some r → W p l e rm_X14_isByte s m ([.ref (adr G 128), .int a1, .int a2, .int a3] : List Value).toArray below meth c H locs 0 0 (MQ below (QR G (some (.int r)) sh g gl gr n) ([.ref (adr G 128), .int a1, .int a2, .int a3] : List Value).toArray s rm_X14_isByte.cells rm_X14_isByte.slots (own G)) (F0 m 29 ls []) := by
    intro  H locs ls hR hS hl h
    unfold j_X14_isByte_29 at h
    refine lv_iconst (v := 0) hx hb dX14_isByte_29 ki_0 ?_
    exact J30 0 _ _ _ hR hS (lv_sub hl [] rfl) h
  refine lv_icmp_ge (tgt := 29) hx hb dX14_isByte_5 (by decide) (fun c3 => ?_) (fun c3 => ?_)
  · replace h := ifp h c3
    exact J29  _ _ _ hR hS (lv_sub hl [] rfl) h
  · replace h := ifn h c3
    refine lv_aload_n hx hb dX14_isByte_8 rfl (lv_at hl 0 rfl) ?_
    refine r_getr hx hb hts cfX14 hown hK hR (sk_128 hSk) 6 (by decide) rfl (sr_128_6 hSk) (hts _ q1527) (fun _ h => h) dX14_isByte_9 ?_
    refine lv_iload_n hx hb dX14_isByte_12 rfl (lv_at hl 1 rfl) ?_
    obtain ⟨v5, e4, h⟩ := obd h
    refine r_ldi hx hb hK hR (sk_134 hSk) e4 dX14_isByte_13 ?_
    refine lv_i2l hx hb dX14_isByte_14 rfl ?_
    refine lv_iload_n hx hb dX14_isByte_15 rfl (lv_at hl 2 rfl) ?_
    refine lv_i2l hx hb dX14_isByte_16 rfl ?_
    refine lv_iload_n hx hb dX14_isByte_17 rfl (lv_at hl 3 rfl) ?_
    refine lv_i2l hx hb dX14_isByte_18 rfl ?_
    obtain ⟨r7, e6, h⟩ := obd h
    refine rc_S0 (rest := []) (st1 := [.int r7]) hF (w_X14_in hSk v5.toInt64 a2.toInt64 a3.toInt64 e6) (va_cwS 3 hts (lw_S q1602 q1603 q117 q1604) rfl rfl rfl he_X14_in ⟨Nat.le_of_ble_eq_true rfl, Nat.le_of_ble_eq_true rfl⟩) hW hR hS rfl hl.1 rfl (Nat.le_of_ble_eq_true rfl) rfl dX14_isByte_19 ⟨rfl, rfl⟩ ⟨Nat.zero_le _, Nat.zero_le _⟩ (fun H locs hR hS => ?_)
    refine lv_if_eq (tgt := 29) hx hb dX14_isByte_22 (by decide) (fun c8 => ?_) (fun c8 => ?_)
    · replace h := ifp h c8
      exact J29  _ _ _ hR hS (lv_sub hl [] rfl) h
    · replace h := ifn h c8
      refine lv_iconst (v := 1) hx hb dX14_isByte_25 ki_1 ?_
      refine lv_goto (tgt := 30) hx hb dX14_isByte_26 (by decide) ?_
      exact J30 1 _ _ _ hR hS (lv_sub hl [] rfl) h
def rm_X14_next : Room := { frames := 3, cells := 0, slots := 0, locals := 60 }
theorem hd_X14_next : yX14_next.cls = "IntentVatsModel" ∧ yX14_next.cls ≠ "java/lang/invoke/MethodHandle" ∧ yX14_next.cls ≠ "java/lang/invoke/VarHandle" ∧ (parseMethodDescriptor yX14_next.desc).map (fun d => d.parameters.length) = some 0 := by decide +kernel
theorem he_X14_next : yX14_next.cls ≠ "java/lang/invoke/MethodHandle" ∧ yX14_next.cls ≠ "java/lang/invoke/VarHandle" ∧ (parseMethodDescriptor yX14_next.desc).map (fun d => d.parameters.length) = some 0 := hd_X14_next.2

set_option maxHeartbeats 4000000 in
set_option maxRecDepth 100000 in
theorem w_X14_next {l : Launch} {G : Gx} {sh : SM} {g : GM} {gl : LM} {gr : RM} {n : Nat} (hSk : Sk sh gr)   {go : GM} (h : f_X14_next g  = some go) : MetI l G yX14_next (ws_ yX14_next cX14_next 3 (Option.none : Option Jvm.ClassFile.FieldType)) rm_X14_next [.ref (adr G 128)] sh g gl gr n none sh go gl gr n := by
  refine MetI.of (by decide) (Nat.le_of_ble_eq_true rfl) ?_
  intro p e s m below meth c ls hx hb hr hml hown hts hlk hnm hW hK hR hS hl
  have hown : s.vm.findClass RX14 = some m.cls := hown
  have hF : CallFix p m c cX14_next 3 s ([.ref (adr G 128)] : List Value).toArray lw_all RX14 := ⟨hx, hb, hml, hown, hts⟩
  have hl : lv_has ls 3 [(0, .ref (adr G 128))] := hl
  unfold f_X14_next at h
  refine lv_aload_n hx hb dX14_next_0 rfl (lv_at hl 0 rfl) ?_
  refine lv_aload_n hx hb dX14_next_1 rfl (lv_at hl 0 rfl) ?_
  refine r_geti hx hb hts cfX14 hown hK hR (sk_128 hSk) 9 (by decide) rfl (hts _ q1530) (fun _ h => h) dX14_next_2 ?_
  obtain ⟨g2, e1, h⟩ := obd h
  refine r_puti hx hb hts cfX14 hown hK hR hS (sk_128 hSk) 8 (by decide) rfl (hts _ q1529) (fun _ h => h) (Or.inl rfl) rfl rfl e1 dX14_next_5 (fun H locs hR hS => ?_)
  have J8 : ∀ (k8 : Nat) (g3 : GM) (H : Heap) (locs : List Loc) (ls : Array Slot), Rep G sh g3 gl gr n H → va_S (own G) s.heap H locs → lv_has ls 3 [(0, .ref (adr G 128))] → l_X14_next_8  k8 g3 = some go → W p l e rm_X14_next s m ([.ref (adr G 128)] : List Value).toArray below meth c H locs 0 0 (MQ below (QR G none sh go gl gr n) ([.ref (adr G 128)] : List Value).toArray s rm_X14_next.cells rm_X14_next.slots (own G)) (F0 m 8 ls []) := by
    intro k8
    induction k8 with
    | zero => intro _ _ _ _ _ _ _; exact nofun
    | succ k8 ih8 =>
      intro g3 H locs ls hR hS hl h
      unfold l_X14_next_8 b_X14_next_8 at h
      refine lv_aload_n hx hb dX14_next_8 rfl (lv_at hl 0 rfl) ?_
      refine lv_aload_n hx hb dX14_next_9 rfl (lv_at hl 0 rfl) ?_
      refine r_geti hx hb hts cfX14 hown hK hR (sk_128 hSk) 8 (by decide) rfl (hts _ q1529) (fun _ h => h) dX14_next_10 ?_
      refine lv_bipush (v := 32) hx hb dX14_next_13 kb_32 ?_
      refine lv_bipush (v := 32) hx hb dX14_next_15 kb_32 ?_
      obtain ⟨r5, e4, h⟩ := obd h
      refine rc_V0 (rest := []) (st1 := [.int r5]) hF (w_X14_isByte hSk (g3 128 8) 32 32 e4) (cwV 3 hts (lw_V q1898 q1900 qs73 q117 q1901) rfl rfl rfl hd_X14_isByte ⟨Nat.le_of_ble_eq_true rfl, Nat.le_of_ble_eq_true rfl⟩) cfX14 (sk_128 hSk) hK hW hR hS rfl hl.1 rfl (Nat.le_of_ble_eq_true rfl) rfl dX14_next_17 ⟨rfl, rfl⟩ ⟨Nat.zero_le _, Nat.zero_le _⟩ (fun H locs hR hS => ?_)
      refine lv_if_eq (tgt := 36) hx hb dX14_next_20 (by decide) (fun c6 => ?_) (fun c6 => ?_)
      · replace h := ifp h c6
        refine lv_aload_n hx hb dX14_next_36 rfl (lv_at hl 0 rfl) ?_
        refine lv_aload_n hx hb dX14_next_37 rfl (lv_at hl 0 rfl) ?_
        refine r_geti hx hb hts cfX14 hown hK hR (sk_128 hSk) 8 (by decide) rfl (hts _ q1529) (fun _ h => h) dX14_next_38 ?_
        obtain ⟨g8, e7, h⟩ := obd h
        refine r_puti hx hb hts cfX14 hown hK hR hS (sk_128 hSk) 9 (by decide) rfl (hts _ q1530) (fun _ h => h) (Or.inl rfl) rfl rfl e7 dX14_next_41 (fun H locs hR hS => ?_)
        refine lv_aload_n hx hb dX14_next_44 rfl (lv_at hl 0 rfl) ?_
        refine lv_aload_n hx hb dX14_next_45 rfl (lv_at hl 0 rfl) ?_
        refine r_geti hx hb hts cfX14 hown hK hR (sk_128 hSk) 8 (by decide) rfl (hts _ q1529) (fun _ h => h) dX14_next_46 ?_
        refine lv_bipush (v := 97) hx hb dX14_next_49 kb_97 ?_
        refine lv_bipush (v := 122) hx hb dX14_next_51 kb_122 ?_
        obtain ⟨r10, e9, h⟩ := obd h
        refine rc_V0 (rest := []) (st1 := [.int r10]) hF (w_X14_isByte hSk (g8 128 8) 97 122 e9) (cwV 3 hts (lw_V q1898 q1900 qs73 q117 q1901) rfl rfl rfl hd_X14_isByte ⟨Nat.le_of_ble_eq_true rfl, Nat.le_of_ble_eq_true rfl⟩) cfX14 (sk_128 hSk) hK hW hR hS rfl hl.1 rfl (Nat.le_of_ble_eq_true rfl) rfl dX14_next_53 ⟨rfl, rfl⟩ ⟨Nat.zero_le _, Nat.zero_le _⟩ (fun H locs hR hS => ?_)
        refine lv_istore_n (lv' := [(1, .int r10), (0, .ref (adr G 128))]) hx hb dX14_next_56 rfl hl (by decide) rfl (fun ls hl => ?_)
        refine lv_aload_n hx hb dX14_next_57 rfl (lv_at hl 1 rfl) ?_
        refine lv_aload_n hx hb dX14_next_58 rfl (lv_at hl 1 rfl) ?_
        refine r_geti hx hb hts cfX14 hown hK hR (sk_128 hSk) 8 (by decide) rfl (hts _ q1529) (fun _ h => h) dX14_next_59 ?_
        refine lv_bipush (v := 48) hx hb dX14_next_62 kb_48 ?_
        refine lv_bipush (v := 57) hx hb dX14_next_64 kb_57 ?_
        obtain ⟨r12, e11, h⟩ := obd h
        refine rc_V0 (rest := []) (st1 := [.int r12]) hF (w_X14_isByte hSk (g8 128 8) 48 57 e11) (cwV 3 hts (lw_V q1898 q1900 qs73 q117 q1901) rfl rfl rfl hd_X14_isByte ⟨Nat.le_of_ble_eq_true rfl, Nat.le_of_ble_eq_true rfl⟩) cfX14 (sk_128 hSk) hK hW hR hS rfl hl.1 rfl (Nat.le_of_ble_eq_true rfl) rfl dX14_next_66 ⟨rfl, rfl⟩ ⟨Nat.zero_le _, Nat.zero_le _⟩ (fun H locs hR hS => ?_)
        refine lv_istore_n (lv' := [(2, .int r12), (1, .int r10), (0, .ref (adr G 128))]) hx hb dX14_next_69 rfl hl (by decide) rfl (fun ls hl => ?_)
        have J70 : ∀ (k70 : Nat) (g13 : GM) (H : Heap) (locs : List Loc) (ls : Array Slot), Rep G sh g13 gl gr n H → va_S (own G) s.heap H locs → lv_has ls 3 [(0, .ref (adr G 128)), (1, .int r10), (2, .int r12)] → l_X14_next_70 r10 r12 k70 g13 = some go → W p l e rm_X14_next s m ([.ref (adr G 128)] : List Value).toArray below meth c H locs 0 0 (MQ below (QR G none sh go gl gr n) ([.ref (adr G 128)] : List Value).toArray s rm_X14_next.cells rm_X14_next.slots (own G)) (F0 m 70 ls []) := by
          intro k70
          induction k70 with
          | zero => intro _ _ _ _ _ _ _; exact nofun
          | succ k70 ih70 =>
            intro g13 H locs ls hR hS hl h
            unfold l_X14_next_70 b_X14_next_70 at h
            refine lv_iload_n hx hb dX14_next_70 rfl (lv_at hl 1 rfl) ?_
            have J108 : ∀  (H : Heap) (locs : List Loc) (ls : Array Slot), Rep G sh g13 gl gr n H → va_S (own G) s.heap H locs → lv_has ls 3 [(0, .ref (adr G 128)), (1, .int r10), (2, .int r12)] → j_X14_next_108 g13 (l_X14_next_70 r10 r12 k70)  = some go → W p l e rm_X14_next s m ([.ref (adr G 128)] : List Value).toArray below meth c H locs 0 0 (MQ below (QR G none sh go gl gr n) ([.ref (adr G 128)] : List Value).toArray s rm_X14_next.cells rm_X14_next.slots (own G)) (F0 m 108 ls []) := by
              intro  H locs ls hR hS hl h
              unfold j_X14_next_108 at h
              refine lv_aload_n hx hb dX14_next_108 rfl (lv_at hl 0 rfl) ?_
              refine lv_dup hx hb dX14_next_109 rfl ?_
              refine r_geti hx hb hts cfX14 hown hK hR (sk_128 hSk) 9 (by decide) rfl (hts _ q1530) (fun _ h => h) dX14_next_110 ?_
              refine lv_iconst (v := 1) hx hb dX14_next_113 ki_1 ?_
              refine lv_iadd hx hb dX14_next_114 ?_
              obtain ⟨g15, e14, h⟩ := obd h
              refine r_puti hx hb hts cfX14 hown hK hR hS (sk_128 hSk) 9 (by decide) rfl (hts _ q1530) (fun _ h => h) (Or.inl rfl) rfl rfl e14 dX14_next_115 (fun H locs hR hS => ?_)
              refine lv_goto (tgt := 70) hx hb dX14_next_118 (by decide) ?_
              exact ih70 g15 _ _ _ hR hS (lv_sub hl [0, 1, 2] rfl) h
            have J89 : ∀  (H : Heap) (locs : List Loc) (ls : Array Slot), Rep G sh g13 gl gr n H → va_S (own G) s.heap H locs → lv_has ls 3 [(0, .ref (adr G 128)), (1, .int r10), (2, .int r12)] → j_X14_next_89 r10 r12 g13 (l_X14_next_70 r10 r12 k70)  = some go → W p l e rm_X14_next s m ([.ref (adr G 128)] : List Value).toArray below meth c H locs 0 0 (MQ below (QR G none sh go gl gr n) ([.ref (adr G 128)] : List Value).toArray s rm_X14_next.cells rm_X14_next.slots (own G)) (F0 m 89 ls []) := by
              intro  H locs ls hR hS hl h
              unfold j_X14_next_89 at h
              refine lv_iload_n hx hb dX14_next_89 rfl (lv_at hl 2 rfl) ?_
              have J121 : ∀  (H : Heap) (locs : List Loc) (ls : Array Slot), Rep G sh g13 gl gr n H → va_S (own G) s.heap H locs → lv_has ls 3 [(0, .ref (adr G 128)), (1, .int r10), (2, .int r12)] → j_X14_next_121 r10 r12 g13  = some go → W p l e rm_X14_next s m ([.ref (adr G 128)] : List Value).toArray below meth c H locs 0 0 (MQ below (QR G none sh go gl gr n) ([.ref (adr G 128)] : List Value).toArray s rm_X14_next.cells rm_X14_next.slots (own G)) (F0 m 121 ls []) := by
                intro  H locs ls hR hS hl h
                unfold j_X14_next_121 at h
                refine lv_aload_n hx hb dX14_next_121 rfl (lv_at hl 0 rfl) ?_
                refine lv_dup hx hb dX14_next_122 rfl ?_
                refine r_geti hx hb hts cfX14 hown hK hR (sk_128 hSk) 9 (by decide) rfl (hts _ q1530) (fun _ h => h) dX14_next_123 ?_
                refine lv_iload_n hx hb dX14_next_126 rfl (lv_at hl 1 rfl) ?_
                have J150 : ∀ (x16 : Int32) (H : Heap) (locs : List Loc) (ls : Array Slot), Rep G sh g13 gl gr n H → va_S (own G) s.heap H locs → lv_has ls 3 [] → j_X14_next_150 g13 x16 = some go → W p l e rm_X14_next s m ([.ref (adr G 128)] : List Value).toArray below meth c H locs 0 0 (MQ below (QR G none sh go gl gr n) ([.ref (adr G 128)] : List Value).toArray s rm_X14_next.cells rm_X14_next.slots (own G)) (F0 m 150 ls [.int x16, .int (g13 128 9), .ref (adr G 128)]) := by
                  intro x16 H locs ls hR hS hl h
                  unfold j_X14_next_150 at h
                  refine lv_iadd hx hb dX14_next_150 ?_
                  obtain ⟨g18, e17, h⟩ := obd h
                  refine r_puti hx hb hts cfX14 hown hK hR hS (sk_128 hSk) 9 (by decide) rfl (hts _ q1530) (fun _ h => h) (Or.inl rfl) rfl rfl e17 dX14_next_151 (fun H locs hR hS => ?_)
                  obtain rfl := s1i h
                  exact r_vret0 hx hb hr hlk hR hS (Nat.zero_le _) (Nat.zero_le _) dX14_next_154
                have J149 : ∀  (H : Heap) (locs : List Loc) (ls : Array Slot), Rep G sh g13 gl gr n H → va_S (own G) s.heap H locs → lv_has ls 3 [] → j_X14_next_149 g13  = some go → W p l e rm_X14_next s m ([.ref (adr G 128)] : List Value).toArray below meth c H locs 0 0 (MQ below (QR G none sh go gl gr n) ([.ref (adr G 128)] : List Value).toArray s rm_X14_next.cells rm_X14_next.slots (own G)) (F0 m 149 ls [.int (g13 128 9), .ref (adr G 128)]) := by
                  intro  H locs ls hR hS hl h
                  unfold j_X14_next_149 at h
                  refine lv_iconst (v := 0) hx hb dX14_next_149 ki_0 ?_
                  exact J150 0 _ _ _ hR hS (lv_sub hl [] rfl) h
                refine lv_if_ne (tgt := 149) hx hb dX14_next_127 (by decide) (fun c19 => ?_) (fun c19 => ?_)
                · replace h := ifn h c19
                  exact J149  _ _ _ hR hS (lv_sub hl [] rfl) h
                · replace h := ifp h c19
                  refine lv_iload_n hx hb dX14_next_130 rfl (lv_at hl 2 rfl) ?_
                  refine lv_if_ne (tgt := 149) hx hb dX14_next_131 (by decide) (fun c20 => ?_) (fun c20 => ?_)
                  · replace h := ifn h c20
                    exact J149  _ _ _ hR hS (lv_sub hl [] rfl) h
                  · replace h := ifp h c20
                    refine lv_aload_n hx hb dX14_next_134 rfl (lv_at hl 0 rfl) ?_
                    refine r_geti hx hb hts cfX14 hown hK hR (sk_128 hSk) 8 (by decide) rfl (hts _ q1529) (fun _ h => h) dX14_next_135 ?_
                    refine lv_aload_n hx hb dX14_next_138 rfl (lv_at hl 0 rfl) ?_
                    refine r_geti hx hb hts cfX14 hown hK hR (sk_128 hSk) 7 (by decide) rfl (hts _ q1528) (fun _ h => h) dX14_next_139 ?_
                    refine lv_icmp_ge (tgt := 149) hx hb dX14_next_142 (by decide) (fun c21 => ?_) (fun c21 => ?_)
                    · replace h := ifp h c21
                      exact J149  _ _ _ hR hS (lv_sub hl [] rfl) h
                    · replace h := ifn h c21
                      refine lv_iconst (v := 1) hx hb dX14_next_145 ki_1 ?_
                      refine lv_goto (tgt := 150) hx hb dX14_next_146 (by decide) ?_
                      exact J150 1 _ _ _ hR hS (lv_sub hl [] rfl) h
              refine lv_if_eq (tgt := 121) hx hb dX14_next_90 (by decide) (fun c22 => ?_) (fun c22 => ?_)
              · replace h := ifp h c22
                exact J121  _ _ _ hR hS (lv_sub hl [0, 1, 2] rfl) h
              · replace h := ifn h c22
                refine lv_aload_n hx hb dX14_next_93 rfl (lv_at hl 0 rfl) ?_
                refine lv_aload_n hx hb dX14_next_94 rfl (lv_at hl 0 rfl) ?_
                refine r_geti hx hb hts cfX14 hown hK hR (sk_128 hSk) 9 (by decide) rfl (hts _ q1530) (fun _ h => h) dX14_next_95 ?_
                refine lv_bipush (v := 48) hx hb dX14_next_98 kb_48 ?_
                refine lv_bipush (v := 57) hx hb dX14_next_100 kb_57 ?_
                obtain ⟨r24, e23, h⟩ := obd h
                refine rc_V0 (rest := []) (st1 := [.int r24]) hF (w_X14_isByte hSk (g13 128 9) 48 57 e23) (cwV 3 hts (lw_V q1898 q1900 qs73 q117 q1901) rfl rfl rfl hd_X14_isByte ⟨Nat.le_of_ble_eq_true rfl, Nat.le_of_ble_eq_true rfl⟩) cfX14 (sk_128 hSk) hK hW hR hS rfl hl.1 rfl (Nat.le_of_ble_eq_true rfl) rfl dX14_next_102 ⟨rfl, rfl⟩ ⟨Nat.zero_le _, Nat.zero_le _⟩ (fun H locs hR hS => ?_)
                refine lv_if_eq (tgt := 121) hx hb dX14_next_105 (by decide) (fun c25 => ?_) (fun c25 => ?_)
                · replace h := ifp h c25
                  exact J121  _ _ _ hR hS (lv_sub hl [0, 1, 2] rfl) h
                · replace h := ifn h c25
                  exact J108  _ _ _ hR hS (lv_sub hl [0, 1, 2] rfl) h
            refine lv_if_eq (tgt := 89) hx hb dX14_next_71 (by decide) (fun c26 => ?_) (fun c26 => ?_)
            · replace h := ifp h c26
              exact J89  _ _ _ hR hS (lv_sub hl [0, 1, 2] rfl) h
            · replace h := ifn h c26
              refine lv_aload_n hx hb dX14_next_74 rfl (lv_at hl 0 rfl) ?_
              refine lv_aload_n hx hb dX14_next_75 rfl (lv_at hl 0 rfl) ?_
              refine r_geti hx hb hts cfX14 hown hK hR (sk_128 hSk) 9 (by decide) rfl (hts _ q1530) (fun _ h => h) dX14_next_76 ?_
              refine lv_bipush (v := 97) hx hb dX14_next_79 kb_97 ?_
              refine lv_bipush (v := 122) hx hb dX14_next_81 kb_122 ?_
              obtain ⟨r28, e27, h⟩ := obd h
              refine rc_V0 (rest := []) (st1 := [.int r28]) hF (w_X14_isByte hSk (g13 128 9) 97 122 e27) (cwV 3 hts (lw_V q1898 q1900 qs73 q117 q1901) rfl rfl rfl hd_X14_isByte ⟨Nat.le_of_ble_eq_true rfl, Nat.le_of_ble_eq_true rfl⟩) cfX14 (sk_128 hSk) hK hW hR hS rfl hl.1 rfl (Nat.le_of_ble_eq_true rfl) rfl dX14_next_83 ⟨rfl, rfl⟩ ⟨Nat.zero_le _, Nat.zero_le _⟩ (fun H locs hR hS => ?_)
              refine lv_if_ne (tgt := 108) hx hb dX14_next_86 (by decide) (fun c29 => ?_) (fun c29 => ?_)
              · replace h := ifn h c29
                exact J108  _ _ _ hR hS (lv_sub hl [0, 1, 2] rfl) h
              · replace h := ifp h c29
                exact J89  _ _ _ hR hS (lv_sub hl [0, 1, 2] rfl) h
        exact J70 fuel g8 _ _ _ hR hS (lv_sub hl [2, 1, 0] rfl) h
      · replace h := ifn h c6
        refine lv_aload_n hx hb dX14_next_23 rfl (lv_at hl 0 rfl) ?_
        refine lv_dup hx hb dX14_next_24 rfl ?_
        refine r_geti hx hb hts cfX14 hown hK hR (sk_128 hSk) 8 (by decide) rfl (hts _ q1529) (fun _ h => h) dX14_next_25 ?_
        refine lv_iconst (v := 1) hx hb dX14_next_28 ki_1 ?_
        refine lv_iadd hx hb dX14_next_29 ?_
        obtain ⟨g31, e30, h⟩ := obd h
        refine r_puti hx hb hts cfX14 hown hK hR hS (sk_128 hSk) 8 (by decide) rfl (hts _ q1529) (fun _ h => h) (Or.inl rfl) rfl rfl e30 dX14_next_30 (fun H locs hR hS => ?_)
        refine lv_goto (tgt := 8) hx hb dX14_next_33 (by decide) ?_
        exact ih8 g31 _ _ _ hR hS (lv_sub hl [0] rfl) h
  exact J8 fuel g2 _ _ _ hR hS (lv_sub hl [0] rfl) h
def rm_X14_isWord : Room := { frames := 6, cells := 0, slots := 0, locals := 221 }
theorem hd_X14_isWord : yX14_isWord.cls = "IntentVatsModel" ∧ yX14_isWord.cls ≠ "java/lang/invoke/MethodHandle" ∧ yX14_isWord.cls ≠ "java/lang/invoke/VarHandle" ∧ (parseMethodDescriptor yX14_isWord.desc).map (fun d => d.parameters.length) = some 1 := by decide +kernel
theorem he_X14_isWord : yX14_isWord.cls ≠ "java/lang/invoke/MethodHandle" ∧ yX14_isWord.cls ≠ "java/lang/invoke/VarHandle" ∧ (parseMethodDescriptor yX14_isWord.desc).map (fun d => d.parameters.length) = some 1 := hd_X14_isWord.2

set_option maxHeartbeats 4000000 in
set_option maxRecDepth 100000 in
theorem w_X14_isWord {l : Launch} {G : Gx} {sh : SM} {g : GM} {gl : LM} {gr : RM} {n : Nat} (hSk : Sk sh gr) (a1 : Nat)  {r : Int32} (h : f_X14_isWord g a1 = some r) : MetI l G yX14_isWord (ws_ yX14_isWord cX14_isWord 4 (Option.some Jvm.ClassFile.FieldType.boolean)) rm_X14_isWord [.ref (adr G 128), .ref (adr G a1)] sh g gl gr n (some (.int r)) sh g gl gr n := by
  refine MetI.of (by decide) (Nat.le_of_ble_eq_true rfl) ?_
  intro p e s m below meth c ls hx hb hr hml hown hts hlk hnm hW hK hR hS hl
  have hown : s.vm.findClass RX14 = some m.cls := hown
  have hF : CallFix p m c cX14_isWord 4 s ([.ref (adr G 128), .ref (adr G a1)] : List Value).toArray lw_all RX14 := ⟨hx, hb, hml, hown, hts⟩
  have hl : lv_has ls 4 [(0, .ref (adr G 128)), (1, .ref (adr G a1))] := hl
  unfold f_X14_isWord at h
  refine lv_aload_n hx hb dX14_isWord_0 rfl (lv_at hl 0 rfl) ?_
  refine r_geti hx hb hts cfX14 hown hK hR (sk_128 hSk) 10 (by decide) rfl (hts _ q1531) (fun _ h => h) dX14_isWord_1 ?_
  have J28 : ∀ (x1 : Int32) (H : Heap) (locs : List Loc) (ls : Array Slot), Rep G sh g gl gr n H → va_S (own G) s.heap H locs → lv_has ls 4 [(0, .ref (adr G 128)), (1, .ref (adr G a1))] → j_X14_isWord_28 g a1 x1 = some r → W p l e rm_X14_isWord s m ([.ref (adr G 128), .ref (adr G a1)] : List Value).toArray below meth c H locs 0 0 (MQ below (QR G (some (.int r)) sh g gl gr n) ([.ref (adr G 128), .ref (adr G a1)] : List Value).toArray s rm_X14_isWord.cells rm_X14_isWord.slots (own G)) (F0 m 28 ls [.int x1]) := by
    intro x1 H locs ls hR hS hl h
    unfold j_X14_isWord_28 at h
    refine lv_istore_n (lv' := [(2, .int x1), (0, .ref (adr G 128)), (1, .ref (adr G a1))]) hx hb dX14_isWord_28 rfl hl (by decide) rfl (fun ls hl => ?_)
    refine lv_iconst (v := 0) hx hb dX14_isWord_29 ki_0 ?_
    refine lv_istore_n (lv' := [(3, .int 0), (2, .int x1), (0, .ref (adr G 128)), (1, .ref (adr G a1))]) hx hb dX14_isWord_30 rfl hl (by decide) rfl (fun ls hl => ?_)
    have J31 : ∀ (k31 : Nat) (x2 : Int32) (x3 : Int32) (H : Heap) (locs : List Loc) (ls : Array Slot), Rep G sh g gl gr n H → va_S (own G) s.heap H locs → lv_has ls 4 [(0, .ref (adr G 128)), (1, .ref (adr G a1)), (2, .int x2), (3, .int x3)] → l_X14_isWord_31 g a1 k31 x2 x3 = some r → W p l e rm_X14_isWord s m ([.ref (adr G 128), .ref (adr G a1)] : List Value).toArray below meth c H locs 0 0 (MQ below (QR G (some (.int r)) sh g gl gr n) ([.ref (adr G 128), .ref (adr G a1)] : List Value).toArray s rm_X14_isWord.cells rm_X14_isWord.slots (own G)) (F0 m 31 ls []) := by
      intro k31
      induction k31 with
      | zero => intro _ _ _ _ _ _ _ _; exact nofun
      | succ k31 ih31 =>
        intro x2 x3 H locs ls hR hS hl h
        unfold l_X14_isWord_31 b_X14_isWord_31 at h
        refine lv_iload_n hx hb dX14_isWord_31 rfl (lv_at hl 2 rfl) ?_
        have J74 : ∀  (H : Heap) (locs : List Loc) (ls : Array Slot), Rep G sh g gl gr n H → va_S (own G) s.heap H locs → lv_has ls 4 [(2, .int x2)] → j_X14_isWord_74 x2  = some r → W p l e rm_X14_isWord s m ([.ref (adr G 128), .ref (adr G a1)] : List Value).toArray below meth c H locs 0 0 (MQ below (QR G (some (.int r)) sh g gl gr n) ([.ref (adr G 128), .ref (adr G a1)] : List Value).toArray s rm_X14_isWord.cells rm_X14_isWord.slots (own G)) (F0 m 74 ls []) := by
          intro  H locs ls hR hS hl h
          unfold j_X14_isWord_74 at h
          refine lv_iload_n hx hb dX14_isWord_74 rfl (lv_at hl 0 rfl) ?_
          obtain ⟨c4, h⟩ := ogrd h
          obtain rfl := s1i h
          exact r_zret0 hx hb hr hlk hR hS (Nat.zero_le _) (Nat.zero_le _) (nb01 c4) dX14_isWord_75
        refine lv_if_eq (tgt := 74) hx hb dX14_isWord_32 (by decide) (fun c5 => ?_) (fun c5 => ?_)
        · replace h := ifp h c5
          exact J74  _ _ _ hR hS (lv_sub hl [2] rfl) h
        · replace h := ifn h c5
          refine lv_iload_n hx hb dX14_isWord_35 rfl (lv_at hl 3 rfl) ?_
          refine lv_aload_n hx hb dX14_isWord_36 rfl (lv_at hl 1 rfl) ?_
          obtain ⟨r7, e6, h⟩ := obd h
          refine rc_Vs0 (rest := [.int x3]) (st1 := [.int r7, .int x3]) hF (w_J3_length hSk a1 e6) (cwV 0 hts (lw_V q1915 q561 q562 q119 q563) rfl rfl rfl hd_J3_length ⟨Nat.le_of_ble_eq_true rfl, Nat.le_of_ble_eq_true rfl⟩) (hW.strR hR (slt_J3_length e6)) hW hR hS rfl hl.1 rfl (Nat.le_of_ble_eq_true rfl) rfl dX14_isWord_37 ⟨rfl, rfl⟩ ⟨Nat.zero_le _, Nat.zero_le _⟩ (fun H locs hR hS => ?_)
          refine lv_icmp_ge (tgt := 74) hx hb dX14_isWord_40 (by decide) (fun c8 => ?_) (fun c8 => ?_)
          · replace h := ifp h c8
            exact J74  _ _ _ hR hS (lv_sub hl [2] rfl) h
          · replace h := ifn h c8
            refine lv_aload_n hx hb dX14_isWord_43 rfl (lv_at hl 0 rfl) ?_
            refine r_getr hx hb hts cfX14 hown hK hR (sk_128 hSk) 6 (by decide) rfl (sr_128_6 hSk) (hts _ q1527) (fun _ h => h) dX14_isWord_44 ?_
            refine lv_aload_n hx hb dX14_isWord_47 rfl (lv_at hl 0 rfl) ?_
            refine r_geti hx hb hts cfX14 hown hK hR (sk_128 hSk) 8 (by decide) rfl (hts _ q1529) (fun _ h => h) dX14_isWord_48 ?_
            refine lv_iload_n hx hb dX14_isWord_51 rfl (lv_at hl 3 rfl) ?_
            refine lv_iadd hx hb dX14_isWord_52 ?_
            obtain ⟨v10, e9, h⟩ := obd h
            refine r_ldi hx hb hK hR (sk_134 hSk) e9 dX14_isWord_53 ?_
            refine lv_aload_n hx hb dX14_isWord_54 rfl (lv_at hl 1 rfl) ?_
            refine lv_iload_n hx hb dX14_isWord_55 rfl (lv_at hl 3 rfl) ?_
            obtain ⟨r12, e11, h⟩ := obd h
            refine rc_Vs0 (rest := [.int v10]) (st1 := [.int r12, .int v10]) hF (w_J3_charAt hSk a1 x3 e11) (cwV 1 hts (lw_V q1916 q571 q572 q119 q573) rfl rfl rfl hd_J3_charAt ⟨Nat.le_of_ble_eq_true rfl, Nat.le_of_ble_eq_true rfl⟩) (hW.strR hR (slt_J3_charAt e11)) hW hR hS rfl hl.1 rfl (Nat.le_of_ble_eq_true rfl) rfl dX14_isWord_56 ⟨rfl, rfl⟩ ⟨Nat.zero_le _, Nat.zero_le _⟩ (fun H locs hR hS => ?_)
            have J67 : ∀ (x13 : Int32) (H : Heap) (locs : List Loc) (ls : Array Slot), Rep G sh g gl gr n H → va_S (own G) s.heap H locs → lv_has ls 4 [(0, .ref (adr G 128)), (1, .ref (adr G a1)), (3, .int x3)] → j_X14_isWord_67 x3 (l_X14_isWord_31 g a1 k31) x13 = some r → W p l e rm_X14_isWord s m ([.ref (adr G 128), .ref (adr G a1)] : List Value).toArray below meth c H locs 0 0 (MQ below (QR G (some (.int r)) sh g gl gr n) ([.ref (adr G 128), .ref (adr G a1)] : List Value).toArray s rm_X14_isWord.cells rm_X14_isWord.slots (own G)) (F0 m 67 ls [.int x13]) := by
              intro x13 H locs ls hR hS hl h
              unfold j_X14_isWord_67 at h
              refine lv_istore_n (lv' := [(2, .int x13), (0, .ref (adr G 128)), (1, .ref (adr G a1)), (3, .int x3)]) hx hb dX14_isWord_67 rfl hl (by decide) rfl (fun ls hl => ?_)
              refine lv_iinc (v := x3 + 1) (lv' := [(3, .int (x3 + 1)), (2, .int x13), (0, .ref (adr G 128)), (1, .ref (adr G a1))]) hx hb dX14_isWord_68 hl (k := 3) rfl rfl (by decide) rfl (fun ls hl => ?_)
              refine lv_goto (tgt := 31) hx hb dX14_isWord_71 (by decide) ?_
              exact ih31 x13 (x3 + 1) _ _ _ hR hS (lv_sub hl [2, 3, 1, 0] rfl) h
            refine lv_icmp_ne (tgt := 66) hx hb dX14_isWord_59 (by decide) (fun c14 => ?_) (fun c14 => ?_)
            · replace h := ifn h c14
              refine lv_iconst (v := 0) hx hb dX14_isWord_66 ki_0 ?_
              exact J67 0 _ _ _ hR hS (lv_sub hl [0, 1, 3] rfl) h
            · replace h := ifp h c14
              refine lv_iconst (v := 1) hx hb dX14_isWord_62 ki_1 ?_
              refine lv_goto (tgt := 67) hx hb dX14_isWord_63 (by decide) ?_
              exact J67 1 _ _ _ hR hS (lv_sub hl [0, 1, 3] rfl) h
    exact J31 fuel x1 0 _ _ _ hR hS (lv_sub hl [2, 3, 1, 0] rfl) h
  have J27 : ∀  (H : Heap) (locs : List Loc) (ls : Array Slot), Rep G sh g gl gr n H → va_S (own G) s.heap H locs → lv_has ls 4 [(0, .ref (adr G 128)), (1, .ref (adr G a1))] → j_X14_isWord_27 g a1  = some r → W p l e rm_X14_isWord s m ([.ref (adr G 128), .ref (adr G a1)] : List Value).toArray below meth c H locs 0 0 (MQ below (QR G (some (.int r)) sh g gl gr n) ([.ref (adr G 128), .ref (adr G a1)] : List Value).toArray s rm_X14_isWord.cells rm_X14_isWord.slots (own G)) (F0 m 27 ls []) := by
    intro  H locs ls hR hS hl h
    unfold j_X14_isWord_27 at h
    refine lv_iconst (v := 0) hx hb dX14_isWord_27 ki_0 ?_
    exact J28 0 _ _ _ hR hS (lv_sub hl [0, 1] rfl) h
  refine lv_if_ne (tgt := 27) hx hb dX14_isWord_4 (by decide) (fun c15 => ?_) (fun c15 => ?_)
  · replace h := ifn h c15
    exact J27  _ _ _ hR hS (lv_sub hl [0, 1] rfl) h
  · replace h := ifp h c15
    refine lv_aload_n hx hb dX14_isWord_7 rfl (lv_at hl 0 rfl) ?_
    refine r_geti hx hb hts cfX14 hown hK hR (sk_128 hSk) 9 (by decide) rfl (hts _ q1530) (fun _ h => h) dX14_isWord_8 ?_
    refine lv_aload_n hx hb dX14_isWord_11 rfl (lv_at hl 0 rfl) ?_
    refine r_geti hx hb hts cfX14 hown hK hR (sk_128 hSk) 8 (by decide) rfl (hts _ q1529) (fun _ h => h) dX14_isWord_12 ?_
    refine lv_isub hx hb dX14_isWord_15 ?_
    refine lv_aload_n hx hb dX14_isWord_16 rfl (lv_at hl 1 rfl) ?_
    obtain ⟨r17, e16, h⟩ := obd h
    refine rc_Vs0 (rest := [.int ((g 128 9) - (g 128 8))]) (st1 := [.int r17, .int ((g 128 9) - (g 128 8))]) hF (w_J3_length hSk a1 e16) (cwV 0 hts (lw_V q1915 q561 q562 q119 q563) rfl rfl rfl hd_J3_length ⟨Nat.le_of_ble_eq_true rfl, Nat.le_of_ble_eq_true rfl⟩) (hW.strR hR (slt_J3_length e16)) hW hR hS rfl hl.1 rfl (Nat.le_of_ble_eq_true rfl) rfl dX14_isWord_17 ⟨rfl, rfl⟩ ⟨Nat.zero_le _, Nat.zero_le _⟩ (fun H locs hR hS => ?_)
    refine lv_icmp_ne (tgt := 27) hx hb dX14_isWord_20 (by decide) (fun c18 => ?_) (fun c18 => ?_)
    · replace h := ifn h c18
      exact J27  _ _ _ hR hS (lv_sub hl [0, 1] rfl) h
    · replace h := ifp h c18
      refine lv_iconst (v := 1) hx hb dX14_isWord_23 ki_1 ?_
      refine lv_goto (tgt := 28) hx hb dX14_isWord_24 (by decide) ?_
      exact J28 1 _ _ _ hR hS (lv_sub hl [0, 1] rfl) h
def rm_X14_kindHere : Room := { frames := 7, cells := 0, slots := 0, locals := 244 }
theorem hd_X14_kindHere : yX14_kindHere.cls = "IntentVatsModel" ∧ yX14_kindHere.cls ≠ "java/lang/invoke/MethodHandle" ∧ yX14_kindHere.cls ≠ "java/lang/invoke/VarHandle" ∧ (parseMethodDescriptor yX14_kindHere.desc).map (fun d => d.parameters.length) = some 0 := by decide +kernel
theorem he_X14_kindHere : yX14_kindHere.cls ≠ "java/lang/invoke/MethodHandle" ∧ yX14_kindHere.cls ≠ "java/lang/invoke/VarHandle" ∧ (parseMethodDescriptor yX14_kindHere.desc).map (fun d => d.parameters.length) = some 0 := hd_X14_kindHere.2

set_option maxHeartbeats 4000000 in
set_option maxRecDepth 100000 in
theorem w_X14_kindHere {l : Launch} {G : Gx} {sh : SM} {g : GM} {gl : LM} {gr : RM} {n : Nat} (hSk : Sk sh gr)   {r : Int32} (h : f_X14_kindHere g  = some r) : MetI l G yX14_kindHere (ws_ yX14_kindHere cX14_kindHere 2 (Option.some Jvm.ClassFile.FieldType.int)) rm_X14_kindHere [.ref (adr G 128)] sh g gl gr n (some (.int r)) sh g gl gr n := by
  refine MetI.of (by decide) (Nat.le_of_ble_eq_true rfl) ?_
  intro p e s m below meth c ls hx hb hr hml hown hts hlk hnm hW hK hR hS hl
  have hown : s.vm.findClass RX14 = some m.cls := hown
  have hF : CallFix p m c cX14_kindHere 2 s ([.ref (adr G 128)] : List Value).toArray lw_all RX14 := ⟨hx, hb, hml, hown, hts⟩
  have hl : lv_has ls 2 [(0, .ref (adr G 128))] := hl
  unfold f_X14_kindHere at h
  refine lv_aload_n hx hb dX14_kindHere_0 rfl (lv_at hl 0 rfl) ?_
  refine va_ldcSW hx hb hown (str_18 hW) dX14_kindHere_1 ?_
  obtain ⟨r2, e1, h⟩ := obd h
  refine rc_V0 (rest := []) (st1 := [.int r2]) hF (w_X14_isWord hSk 18 e1) (cwV 1 hts (lw_V q1911 q1913 qs76 q117 q1914) rfl rfl rfl hd_X14_isWord ⟨Nat.le_of_ble_eq_true rfl, Nat.le_of_ble_eq_true rfl⟩) cfX14 (sk_128 hSk) hK hW hR hS rfl hl.1 rfl (Nat.le_of_ble_eq_true rfl) rfl dX14_kindHere_4 ⟨rfl, rfl⟩ ⟨Nat.zero_le _, Nat.zero_le _⟩ (fun H locs hR hS => ?_)
  have J43 : ∀ (x3 : Int32) (H : Heap) (locs : List Loc) (ls : Array Slot), Rep G sh g gl gr n H → va_S (own G) s.heap H locs → lv_has ls 2 [(0, .ref (adr G 128))] → j_X14_kindHere_43 g x3 = some r → W p l e rm_X14_kindHere s m ([.ref (adr G 128)] : List Value).toArray below meth c H locs 0 0 (MQ below (QR G (some (.int r)) sh g gl gr n) ([.ref (adr G 128)] : List Value).toArray s rm_X14_kindHere.cells rm_X14_kindHere.slots (own G)) (F0 m 43 ls [.int x3]) := by
    intro x3 H locs ls hR hS hl h
    unfold j_X14_kindHere_43 at h
    refine lv_istore_n (lv' := [(1, .int x3), (0, .ref (adr G 128))]) hx hb dX14_kindHere_43 rfl hl (by decide) rfl (fun ls hl => ?_)
    refine lv_iload_n hx hb dX14_kindHere_44 rfl (lv_at hl 0 rfl) ?_
    have J95 : ∀ (x4 : Int32) (H : Heap) (locs : List Loc) (ls : Array Slot), Rep G sh g gl gr n H → va_S (own G) s.heap H locs → lv_has ls 2 [] → j_X14_kindHere_95  x4 = some r → W p l e rm_X14_kindHere s m ([.ref (adr G 128)] : List Value).toArray below meth c H locs 0 0 (MQ below (QR G (some (.int r)) sh g gl gr n) ([.ref (adr G 128)] : List Value).toArray s rm_X14_kindHere.cells rm_X14_kindHere.slots (own G)) (F0 m 95 ls [.int x4]) := by
      intro x4 H locs ls hR hS hl h
      unfold j_X14_kindHere_95 at h
      obtain rfl := s1i h
      exact r_iret0 hx hb hr hlk hR hS (Nat.zero_le _) (Nat.zero_le _) dX14_kindHere_95
    refine lv_if_lt (tgt := 52) hx hb dX14_kindHere_45 (by decide) (fun c5 => ?_) (fun c5 => ?_)
    · replace h := ifp h c5
      refine lv_aload_n hx hb dX14_kindHere_52 rfl (lv_at hl 1 rfl) ?_
      refine va_ldcSW hx hb hown (str_21 hW) dX14_kindHere_53 ?_
      obtain ⟨r7, e6, h⟩ := obd h
      refine rc_V0 (rest := []) (st1 := [.int r7]) hF (w_X14_isWord hSk 21 e6) (cwV 1 hts (lw_V q1911 q1913 qs76 q117 q1914) rfl rfl rfl hd_X14_isWord ⟨Nat.le_of_ble_eq_true rfl, Nat.le_of_ble_eq_true rfl⟩) cfX14 (sk_128 hSk) hK hW hR hS rfl hl.1 rfl (Nat.le_of_ble_eq_true rfl) rfl dX14_kindHere_56 ⟨rfl, rfl⟩ ⟨Nat.zero_le _, Nat.zero_le _⟩ (fun H locs hR hS => ?_)
      refine lv_if_eq (tgt := 66) hx hb dX14_kindHere_59 (by decide) (fun c8 => ?_) (fun c8 => ?_)
      · replace h := ifp h c8
        refine lv_aload_n hx hb dX14_kindHere_66 rfl (lv_at hl 1 rfl) ?_
        refine va_ldcSW hx hb hown (str_22 hW) dX14_kindHere_67 ?_
        obtain ⟨r10, e9, h⟩ := obd h
        refine rc_V0 (rest := []) (st1 := [.int r10]) hF (w_X14_isWord hSk 22 e9) (cwV 1 hts (lw_V q1911 q1913 qs76 q117 q1914) rfl rfl rfl hd_X14_isWord ⟨Nat.le_of_ble_eq_true rfl, Nat.le_of_ble_eq_true rfl⟩) cfX14 (sk_128 hSk) hK hW hR hS rfl hl.1 rfl (Nat.le_of_ble_eq_true rfl) rfl dX14_kindHere_70 ⟨rfl, rfl⟩ ⟨Nat.zero_le _, Nat.zero_le _⟩ (fun H locs hR hS => ?_)
        refine lv_if_eq (tgt := 80) hx hb dX14_kindHere_73 (by decide) (fun c11 => ?_) (fun c11 => ?_)
        · replace h := ifp h c11
          refine lv_aload_n hx hb dX14_kindHere_80 rfl (lv_at hl 1 rfl) ?_
          refine va_ldcSW hx hb hown (str_23 hW) dX14_kindHere_81 ?_
          obtain ⟨r13, e12, h⟩ := obd h
          refine rc_V0 (rest := []) (st1 := [.int r13]) hF (w_X14_isWord hSk 23 e12) (cwV 1 hts (lw_V q1911 q1913 qs76 q117 q1914) rfl rfl rfl hd_X14_isWord ⟨Nat.le_of_ble_eq_true rfl, Nat.le_of_ble_eq_true rfl⟩) cfX14 (sk_128 hSk) hK hW hR hS rfl hl.1 rfl (Nat.le_of_ble_eq_true rfl) rfl dX14_kindHere_84 ⟨rfl, rfl⟩ ⟨Nat.zero_le _, Nat.zero_le _⟩ (fun H locs hR hS => ?_)
          refine lv_if_eq (tgt := 94) hx hb dX14_kindHere_87 (by decide) (fun c14 => ?_) (fun c14 => ?_)
          · replace h := ifp h c14
            refine lv_iconst (v := (-1)) hx hb dX14_kindHere_94 ki_m1 ?_
            exact J95 (-1) _ _ _ hR hS (lv_sub hl [] rfl) h
          · replace h := ifn h c14
            refine lv_iconst (v := 5) hx hb dX14_kindHere_90 ki_5 ?_
            refine lv_goto (tgt := 95) hx hb dX14_kindHere_91 (by decide) ?_
            exact J95 5 _ _ _ hR hS (lv_sub hl [] rfl) h
        · replace h := ifn h c11
          refine lv_iconst (v := 4) hx hb dX14_kindHere_76 ki_4 ?_
          refine lv_goto (tgt := 95) hx hb dX14_kindHere_77 (by decide) ?_
          exact J95 4 _ _ _ hR hS (lv_sub hl [] rfl) h
      · replace h := ifn h c8
        refine lv_iconst (v := 3) hx hb dX14_kindHere_62 ki_3 ?_
        refine lv_goto (tgt := 95) hx hb dX14_kindHere_63 (by decide) ?_
        exact J95 3 _ _ _ hR hS (lv_sub hl [] rfl) h
    · replace h := ifn h c5
      refine lv_iload_n hx hb dX14_kindHere_48 rfl (lv_at hl 0 rfl) ?_
      refine lv_goto (tgt := 95) hx hb dX14_kindHere_49 (by decide) ?_
      exact J95 x3 _ _ _ hR hS (lv_sub hl [] rfl) h
  refine lv_if_eq (tgt := 14) hx hb dX14_kindHere_7 (by decide) (fun c15 => ?_) (fun c15 => ?_)
  · replace h := ifp h c15
    refine lv_aload_n hx hb dX14_kindHere_14 rfl (lv_at hl 0 rfl) ?_
    refine va_ldcSW hx hb hown (str_19 hW) dX14_kindHere_15 ?_
    obtain ⟨r17, e16, h⟩ := obd h
    refine rc_V0 (rest := []) (st1 := [.int r17]) hF (w_X14_isWord hSk 19 e16) (cwV 1 hts (lw_V q1911 q1913 qs76 q117 q1914) rfl rfl rfl hd_X14_isWord ⟨Nat.le_of_ble_eq_true rfl, Nat.le_of_ble_eq_true rfl⟩) cfX14 (sk_128 hSk) hK hW hR hS rfl hl.1 rfl (Nat.le_of_ble_eq_true rfl) rfl dX14_kindHere_18 ⟨rfl, rfl⟩ ⟨Nat.zero_le _, Nat.zero_le _⟩ (fun H locs hR hS => ?_)
    refine lv_if_eq (tgt := 28) hx hb dX14_kindHere_21 (by decide) (fun c18 => ?_) (fun c18 => ?_)
    · replace h := ifp h c18
      refine lv_aload_n hx hb dX14_kindHere_28 rfl (lv_at hl 0 rfl) ?_
      refine va_ldcSW hx hb hown (str_20 hW) dX14_kindHere_29 ?_
      obtain ⟨r20, e19, h⟩ := obd h
      refine rc_V0 (rest := []) (st1 := [.int r20]) hF (w_X14_isWord hSk 20 e19) (cwV 1 hts (lw_V q1911 q1913 qs76 q117 q1914) rfl rfl rfl hd_X14_isWord ⟨Nat.le_of_ble_eq_true rfl, Nat.le_of_ble_eq_true rfl⟩) cfX14 (sk_128 hSk) hK hW hR hS rfl hl.1 rfl (Nat.le_of_ble_eq_true rfl) rfl dX14_kindHere_32 ⟨rfl, rfl⟩ ⟨Nat.zero_le _, Nat.zero_le _⟩ (fun H locs hR hS => ?_)
      refine lv_if_eq (tgt := 42) hx hb dX14_kindHere_35 (by decide) (fun c21 => ?_) (fun c21 => ?_)
      · replace h := ifp h c21
        refine lv_iconst (v := (-1)) hx hb dX14_kindHere_42 ki_m1 ?_
        exact J43 (-1) _ _ _ hR hS (lv_sub hl [0] rfl) h
      · replace h := ifn h c21
        refine lv_iconst (v := 2) hx hb dX14_kindHere_38 ki_2 ?_
        refine lv_goto (tgt := 43) hx hb dX14_kindHere_39 (by decide) ?_
        exact J43 2 _ _ _ hR hS (lv_sub hl [0] rfl) h
    · replace h := ifn h c18
      refine lv_iconst (v := 1) hx hb dX14_kindHere_24 ki_1 ?_
      refine lv_goto (tgt := 43) hx hb dX14_kindHere_25 (by decide) ?_
      exact J43 1 _ _ _ hR hS (lv_sub hl [0] rfl) h
  · replace h := ifn h c15
    refine lv_iconst (v := 0) hx hb dX14_kindHere_10 ki_0 ?_
    refine lv_goto (tgt := 43) hx hb dX14_kindHere_11 (by decide) ?_
    exact J43 0 _ _ _ hR hS (lv_sub hl [0] rfl) h
def rm_X14_lawHere : Room := { frames := 7, cells := 0, slots := 0, locals := 244 }
theorem hd_X14_lawHere : yX14_lawHere.cls = "IntentVatsModel" ∧ yX14_lawHere.cls ≠ "java/lang/invoke/MethodHandle" ∧ yX14_lawHere.cls ≠ "java/lang/invoke/VarHandle" ∧ (parseMethodDescriptor yX14_lawHere.desc).map (fun d => d.parameters.length) = some 0 := by decide +kernel
theorem he_X14_lawHere : yX14_lawHere.cls ≠ "java/lang/invoke/MethodHandle" ∧ yX14_lawHere.cls ≠ "java/lang/invoke/VarHandle" ∧ (parseMethodDescriptor yX14_lawHere.desc).map (fun d => d.parameters.length) = some 0 := hd_X14_lawHere.2

set_option maxHeartbeats 4000000 in
set_option maxRecDepth 100000 in
theorem w_X14_lawHere {l : Launch} {G : Gx} {sh : SM} {g : GM} {gl : LM} {gr : RM} {n : Nat} (hSk : Sk sh gr)   {r : Int32} (h : f_X14_lawHere g  = some r) : MetI l G yX14_lawHere (ws_ yX14_lawHere cX14_lawHere 1 (Option.some Jvm.ClassFile.FieldType.int)) rm_X14_lawHere [.ref (adr G 128)] sh g gl gr n (some (.int r)) sh g gl gr n := by
  refine MetI.of (by decide) (Nat.le_of_ble_eq_true rfl) ?_
  intro p e s m below meth c ls hx hb hr hml hown hts hlk hnm hW hK hR hS hl
  have hown : s.vm.findClass RX14 = some m.cls := hown
  have hF : CallFix p m c cX14_lawHere 1 s ([.ref (adr G 128)] : List Value).toArray lw_all RX14 := ⟨hx, hb, hml, hown, hts⟩
  have hl : lv_has ls 1 [(0, .ref (adr G 128))] := hl
  unfold f_X14_lawHere at h
  refine lv_aload_n hx hb dX14_lawHere_0 rfl (lv_at hl 0 rfl) ?_
  refine va_ldcSW hx hb hown (str_27 hW) dX14_lawHere_1 ?_
  obtain ⟨r2, e1, h⟩ := obd h
  refine rc_V0 (rest := []) (st1 := [.int r2]) hF (w_X14_isWord hSk 27 e1) (cwV 1 hts (lw_V q1911 q1913 qs76 q117 q1914) rfl rfl rfl hd_X14_isWord ⟨Nat.le_of_ble_eq_true rfl, Nat.le_of_ble_eq_true rfl⟩) cfX14 (sk_128 hSk) hK hW hR hS rfl hl.1 rfl (Nat.le_of_ble_eq_true rfl) rfl dX14_lawHere_4 ⟨rfl, rfl⟩ ⟨Nat.zero_le _, Nat.zero_le _⟩ (fun H locs hR hS => ?_)
  have J57 : ∀ (x3 : Int32) (H : Heap) (locs : List Loc) (ls : Array Slot), Rep G sh g gl gr n H → va_S (own G) s.heap H locs → lv_has ls 1 [] → j_X14_lawHere_57  x3 = some r → W p l e rm_X14_lawHere s m ([.ref (adr G 128)] : List Value).toArray below meth c H locs 0 0 (MQ below (QR G (some (.int r)) sh g gl gr n) ([.ref (adr G 128)] : List Value).toArray s rm_X14_lawHere.cells rm_X14_lawHere.slots (own G)) (F0 m 57 ls [.int x3]) := by
    intro x3 H locs ls hR hS hl h
    unfold j_X14_lawHere_57 at h
    obtain rfl := s1i h
    exact r_iret0 hx hb hr hlk hR hS (Nat.zero_le _) (Nat.zero_le _) dX14_lawHere_57
  refine lv_if_eq (tgt := 14) hx hb dX14_lawHere_7 (by decide) (fun c4 => ?_) (fun c4 => ?_)
  · replace h := ifp h c4
    refine lv_aload_n hx hb dX14_lawHere_14 rfl (lv_at hl 0 rfl) ?_
    refine va_ldcSW hx hb hown (str_28 hW) dX14_lawHere_15 ?_
    obtain ⟨r6, e5, h⟩ := obd h
    refine rc_V0 (rest := []) (st1 := [.int r6]) hF (w_X14_isWord hSk 28 e5) (cwV 1 hts (lw_V q1911 q1913 qs76 q117 q1914) rfl rfl rfl hd_X14_isWord ⟨Nat.le_of_ble_eq_true rfl, Nat.le_of_ble_eq_true rfl⟩) cfX14 (sk_128 hSk) hK hW hR hS rfl hl.1 rfl (Nat.le_of_ble_eq_true rfl) rfl dX14_lawHere_18 ⟨rfl, rfl⟩ ⟨Nat.zero_le _, Nat.zero_le _⟩ (fun H locs hR hS => ?_)
    refine lv_if_eq (tgt := 28) hx hb dX14_lawHere_21 (by decide) (fun c7 => ?_) (fun c7 => ?_)
    · replace h := ifp h c7
      refine lv_aload_n hx hb dX14_lawHere_28 rfl (lv_at hl 0 rfl) ?_
      refine va_ldcSW hx hb hown (str_29 hW) dX14_lawHere_29 ?_
      obtain ⟨r9, e8, h⟩ := obd h
      refine rc_V0 (rest := []) (st1 := [.int r9]) hF (w_X14_isWord hSk 29 e8) (cwV 1 hts (lw_V q1911 q1913 qs76 q117 q1914) rfl rfl rfl hd_X14_isWord ⟨Nat.le_of_ble_eq_true rfl, Nat.le_of_ble_eq_true rfl⟩) cfX14 (sk_128 hSk) hK hW hR hS rfl hl.1 rfl (Nat.le_of_ble_eq_true rfl) rfl dX14_lawHere_32 ⟨rfl, rfl⟩ ⟨Nat.zero_le _, Nat.zero_le _⟩ (fun H locs hR hS => ?_)
      refine lv_if_eq (tgt := 42) hx hb dX14_lawHere_35 (by decide) (fun c10 => ?_) (fun c10 => ?_)
      · replace h := ifp h c10
        refine lv_aload_n hx hb dX14_lawHere_42 rfl (lv_at hl 0 rfl) ?_
        refine va_ldcSW hx hb hown (str_30 hW) dX14_lawHere_43 ?_
        obtain ⟨r12, e11, h⟩ := obd h
        refine rc_V0 (rest := []) (st1 := [.int r12]) hF (w_X14_isWord hSk 30 e11) (cwV 1 hts (lw_V q1911 q1913 qs76 q117 q1914) rfl rfl rfl hd_X14_isWord ⟨Nat.le_of_ble_eq_true rfl, Nat.le_of_ble_eq_true rfl⟩) cfX14 (sk_128 hSk) hK hW hR hS rfl hl.1 rfl (Nat.le_of_ble_eq_true rfl) rfl dX14_lawHere_46 ⟨rfl, rfl⟩ ⟨Nat.zero_le _, Nat.zero_le _⟩ (fun H locs hR hS => ?_)
        refine lv_if_eq (tgt := 56) hx hb dX14_lawHere_49 (by decide) (fun c13 => ?_) (fun c13 => ?_)
        · replace h := ifp h c13
          refine lv_iconst (v := (-1)) hx hb dX14_lawHere_56 ki_m1 ?_
          exact J57 (-1) _ _ _ hR hS (lv_sub hl [] rfl) h
        · replace h := ifn h c13
          refine lv_iconst (v := 3) hx hb dX14_lawHere_52 ki_3 ?_
          refine lv_goto (tgt := 57) hx hb dX14_lawHere_53 (by decide) ?_
          exact J57 3 _ _ _ hR hS (lv_sub hl [] rfl) h
      · replace h := ifn h c10
        refine lv_iconst (v := 2) hx hb dX14_lawHere_38 ki_2 ?_
        refine lv_goto (tgt := 57) hx hb dX14_lawHere_39 (by decide) ?_
        exact J57 2 _ _ _ hR hS (lv_sub hl [] rfl) h
    · replace h := ifn h c7
      refine lv_iconst (v := 1) hx hb dX14_lawHere_24 ki_1 ?_
      refine lv_goto (tgt := 57) hx hb dX14_lawHere_25 (by decide) ?_
      exact J57 1 _ _ _ hR hS (lv_sub hl [] rfl) h
  · replace h := ifn h c4
    refine lv_iconst (v := 0) hx hb dX14_lawHere_10 ki_0 ?_
    refine lv_goto (tgt := 57) hx hb dX14_lawHere_11 (by decide) ?_
    exact J57 0 _ _ _ hR hS (lv_sub hl [] rfl) h
