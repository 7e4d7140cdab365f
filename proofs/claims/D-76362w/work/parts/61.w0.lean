/-! walks: X0_hang, X0_dips, X0_dip, X0_dayGoes, X0_daysGo, X0_days, X0_seed, X0_dayByDraws, X0_day, X0_luck, X0_state, X0_isAsked, X0_gone, X0_depth -/
def rm_X0_hang : Room := { frames := 3, cells := 0, slots := 0, locals := 55 }
theorem hd_X0_hang : yX0_hang.cls = "IntentVats" ∧ yX0_hang.cls ≠ "java/lang/invoke/MethodHandle" ∧ yX0_hang.cls ≠ "java/lang/invoke/VarHandle" ∧ (parseMethodDescriptor yX0_hang.desc).map (fun d => d.parameters.length) = some 2 := by decide +kernel
theorem he_X0_hang : yX0_hang.cls ≠ "java/lang/invoke/MethodHandle" ∧ yX0_hang.cls ≠ "java/lang/invoke/VarHandle" ∧ (parseMethodDescriptor yX0_hang.desc).map (fun d => d.parameters.length) = some 2 := hd_X0_hang.2

set_option maxHeartbeats 4000000 in
set_option maxRecDepth 100000 in
theorem w_X0_hang {l : Launch} {G : Gx} {sh : SM} {g : GM} {gl : LM} {gr : RM} {n : Nat} (hSk : Sk sh gr) (a1 : Int32) (a2 : Int32)  {r : Int32} {go : GM} (h : f_X0_hang g a1 a2 = some (r, go)) : MetI l G yX0_hang (ws_ yX0_hang cX0_hang 4 (Option.some Jvm.ClassFile.FieldType.int)) rm_X0_hang [.ref (adr G 64), .int a1, .int a2] sh g gl gr n (some (.int r)) sh go gl gr n := by
  refine MetI.of (by decide) (Nat.le_of_ble_eq_true rfl) ?_
  intro p e s m below meth c ls hx hb hr hml hown hts hlk hnm hW hK hR hS hl
  have hown : s.vm.findClass RX0 = some m.cls := hown
  have hF : CallFix p m c cX0_hang 4 s ([.ref (adr G 64), .int a1, .int a2] : List Value).toArray lw_all RX0 := ⟨hx, hb, hml, hown, hts⟩
  have hl : lv_has ls 4 [(0, .ref (adr G 64)), (1, .int a1), (2, .int a2)] := hl
  unfold f_X0_hang at h
  refine lv_aload_n hx hb dX0_hang_0 rfl (lv_at hl 0 rfl) ?_
  refine lv_iload_n hx hb dX0_hang_1 rfl (lv_at hl 1 rfl) ?_
  obtain ⟨r2, e1, h⟩ := obd h
  refine rc_V0 (rest := []) (st1 := [.int r2]) hF (w_X0_isCloth hSk a1 e1) (cwV 1 hts (lw_V q715 q717 qs15 q100 q718) rfl rfl rfl hd_X0_isCloth ⟨Nat.le_of_ble_eq_true rfl, Nat.le_of_ble_eq_true rfl⟩) cfX0 (sk_64 hSk) hK hW hR hS rfl hl.1 rfl (Nat.le_of_ble_eq_true rfl) rfl dX0_hang_2 ⟨rfl, rfl⟩ ⟨Nat.zero_le _, Nat.zero_le _⟩ (fun H locs hR hS => ?_)
  have J17 : ∀  (H : Heap) (locs : List Loc) (ls : Array Slot), Rep G sh g gl gr n H → va_S (own G) s.heap H locs → lv_has ls 4 [] → j_X0_hang_17 g  = some (r, go) → W p l e rm_X0_hang s m ([.ref (adr G 64), .int a1, .int a2] : List Value).toArray below meth c H locs 0 0 (MQ below (QR G (some (.int r)) sh go gl gr n) ([.ref (adr G 64), .int a1, .int a2] : List Value).toArray s rm_X0_hang.cells rm_X0_hang.slots (own G)) (F0 m 17 ls []) := by
    intro  H locs ls hR hS hl h
    unfold j_X0_hang_17 at h
    refine lv_iconst (v := (-1)) hx hb dX0_hang_17 ki_m1 ?_
    obtain ⟨rfl, rfl⟩ := s2i h
    exact r_iret0 hx hb hr hlk hR hS (Nat.zero_le _) (Nat.zero_le _) dX0_hang_18
  refine lv_if_eq (tgt := 17) hx hb dX0_hang_5 (by decide) (fun c3 => ?_) (fun c3 => ?_)
  · replace h := ifp h c3
    exact J17  _ _ _ hR hS (lv_sub hl [] rfl) h
  · replace h := ifn h c3
    refine lv_iload_n hx hb dX0_hang_8 rfl (lv_at hl 2 rfl) ?_
    refine lv_iconst (v := 0) hx hb dX0_hang_9 ki_0 ?_
    refine lv_iconst (v := 1) hx hb dX0_hang_10 ki_1 ?_
    obtain ⟨r5, e4, h⟩ := obd h
    refine rc_S0 (rest := []) (st1 := [.int r5]) hF (w_X0_in hSk a2 0 1 e4) (va_cwS 3 hts (lw_S q508 q509 q100 q510) rfl rfl rfl he_X0_in ⟨Nat.le_of_ble_eq_true rfl, Nat.le_of_ble_eq_true rfl⟩) hW hR hS rfl hl.1 rfl (Nat.le_of_ble_eq_true rfl) rfl dX0_hang_11 ⟨rfl, rfl⟩ ⟨Nat.zero_le _, Nat.zero_le _⟩ (fun H locs hR hS => ?_)
    refine lv_if_ne (tgt := 19) hx hb dX0_hang_14 (by decide) (fun c6 => ?_) (fun c6 => ?_)
    · replace h := ifn h c6
      refine lv_aload_n hx hb dX0_hang_19 rfl (lv_at hl 0 rfl) ?_
      refine r_getr hx hb hts cfX0 hown hK hR (sk_64 hSk) 0 (by decide) rfl (sr_64_0 hSk) (hts _ q449) (fun _ h => h) dX0_hang_20 ?_
      refine lv_iload_n hx hb dX0_hang_23 rfl (lv_at hl 1 rfl) ?_
      obtain ⟨r8, e7, h⟩ := obd h
      refine rc_V0 (rest := []) (st1 := [.int r8]) hF (w_X1_isHung hSk 65 a1 (isMl_65) e7) (cwV 1 hts (lw_V q719 q720 q721 q101 q722) rfl rfl rfl hd_X1_isHung ⟨Nat.le_of_ble_eq_true rfl, Nat.le_of_ble_eq_true rfl⟩) cfX1 (sk_65 hSk) hK hW hR hS rfl hl.1 rfl (Nat.le_of_ble_eq_true rfl) rfl dX0_hang_24 ⟨rfl, rfl⟩ ⟨Nat.zero_le _, Nat.zero_le _⟩ (fun H locs hR hS => ?_)
      have J35 : ∀ (x9 : Int32) (H : Heap) (locs : List Loc) (ls : Array Slot), Rep G sh g gl gr n H → va_S (own G) s.heap H locs → lv_has ls 4 [(0, .ref (adr G 64)), (1, .int a1), (2, .int a2)] → j_X0_hang_35 g a1 a2 x9 = some (r, go) → W p l e rm_X0_hang s m ([.ref (adr G 64), .int a1, .int a2] : List Value).toArray below meth c H locs 0 0 (MQ below (QR G (some (.int r)) sh go gl gr n) ([.ref (adr G 64), .int a1, .int a2] : List Value).toArray s rm_X0_hang.cells rm_X0_hang.slots (own G)) (F0 m 35 ls [.int x9]) := by
        intro x9 H locs ls hR hS hl h
        unfold j_X0_hang_35 at h
        refine lv_istore_n (lv' := [(3, .int x9), (0, .ref (adr G 64)), (1, .int a1), (2, .int a2)]) hx hb dX0_hang_35 rfl hl (by decide) rfl (fun ls hl => ?_)
        refine lv_aload_n hx hb dX0_hang_36 rfl (lv_at hl 1 rfl) ?_
        refine r_getr hx hb hts cfX0 hown hK hR (sk_64 hSk) 0 (by decide) rfl (sr_64_0 hSk) (hts _ q449) (fun _ h => h) dX0_hang_37 ?_
        refine lv_iload_n hx hb dX0_hang_40 rfl (lv_at hl 2 rfl) ?_
        refine lv_iload_n hx hb dX0_hang_41 rfl (lv_at hl 3 rfl) ?_
        refine lv_iconst (v := 1) hx hb dX0_hang_42 ki_1 ?_
        have J51 : ∀ (x10 : Int32) (H : Heap) (locs : List Loc) (ls : Array Slot), Rep G sh g gl gr n H → va_S (own G) s.heap H locs → lv_has ls 4 [(3, .int x9)] → j_X0_hang_51 g a1 x9 x10 = some (r, go) → W p l e rm_X0_hang s m ([.ref (adr G 64), .int a1, .int a2] : List Value).toArray below meth c H locs 0 0 (MQ below (QR G (some (.int r)) sh go gl gr n) ([.ref (adr G 64), .int a1, .int a2] : List Value).toArray s rm_X0_hang.cells rm_X0_hang.slots (own G)) (F0 m 51 ls [.int x10, .int a1, .ref (adr G 65)]) := by
          intro x10 H locs ls hR hS hl h
          unfold j_X0_hang_51 at h
          obtain ⟨g12, e11, h⟩ := obd h
          refine rc_V0 (rest := []) (st1 := []) hF (w_X1_hangs hSk 65 a1 x10 (isMl_65) e11) (cwV 2 hts (lw_V q820 q625 q626 q101 q627) rfl rfl rfl hd_X1_hangs ⟨Nat.le_of_ble_eq_true rfl, Nat.le_of_ble_eq_true rfl⟩) cfX1 (sk_65 hSk) hK hW hR hS rfl hl.1 rfl (Nat.le_of_ble_eq_true rfl) rfl dX0_hang_51 ⟨rfl, rfl⟩ ⟨Nat.zero_le _, Nat.zero_le _⟩ (fun H locs hR hS => ?_)
          refine lv_iload_n hx hb dX0_hang_54 rfl (lv_at hl 0 rfl) ?_
          obtain ⟨rfl, rfl⟩ := s2i h
          exact r_iret0 hx hb hr hlk hR hS (Nat.zero_le _) (Nat.zero_le _) dX0_hang_55
        refine lv_icmp_ne (tgt := 50) hx hb dX0_hang_43 (by decide) (fun c13 => ?_) (fun c13 => ?_)
        · replace h := ifn h c13
          refine lv_iconst (v := 0) hx hb dX0_hang_50 ki_0 ?_
          exact J51 0 _ _ _ hR hS (lv_sub hl [0] rfl) h
        · replace h := ifp h c13
          refine lv_iconst (v := 1) hx hb dX0_hang_46 ki_1 ?_
          refine lv_goto (tgt := 51) hx hb dX0_hang_47 (by decide) ?_
          exact J51 1 _ _ _ hR hS (lv_sub hl [0] rfl) h
      refine lv_if_eq (tgt := 34) hx hb dX0_hang_27 (by decide) (fun c14 => ?_) (fun c14 => ?_)
      · replace h := ifp h c14
        refine lv_iconst (v := 0) hx hb dX0_hang_34 ki_0 ?_
        exact J35 0 _ _ _ hR hS (lv_sub hl [0, 1, 2] rfl) h
      · replace h := ifn h c14
        refine lv_iconst (v := 1) hx hb dX0_hang_30 ki_1 ?_
        refine lv_goto (tgt := 35) hx hb dX0_hang_31 (by decide) ?_
        exact J35 1 _ _ _ hR hS (lv_sub hl [0, 1, 2] rfl) h
    · replace h := ifp h c6
      exact J17  _ _ _ hR hS (lv_sub hl [] rfl) h
def rm_X0_dips : Room := { frames := 7, cells := 0, slots := 0, locals := 300 }
theorem hd_X0_dips : yX0_dips.cls = "IntentVats" ∧ yX0_dips.cls ≠ "java/lang/invoke/MethodHandle" ∧ yX0_dips.cls ≠ "java/lang/invoke/VarHandle" ∧ (parseMethodDescriptor yX0_dips.desc).map (fun d => d.parameters.length) = some 3 := by decide +kernel
theorem he_X0_dips : yX0_dips.cls ≠ "java/lang/invoke/MethodHandle" ∧ yX0_dips.cls ≠ "java/lang/invoke/VarHandle" ∧ (parseMethodDescriptor yX0_dips.desc).map (fun d => d.parameters.length) = some 3 := hd_X0_dips.2

set_option maxHeartbeats 4000000 in
set_option maxRecDepth 100000 in
theorem w_X0_dips {l : Launch} {G : Gx} {sh : SM} {g : GM} {gl : LM} {gr : RM} {n : Nat} (hSk : Sk sh gr) (b1 : Nat) (a2 : Int32) (a3 : Int32) (hm_b1 : isMl b1) {go : GM} (h : f_X0_dips g b1 a2 a3 = some go) : MetI l G yX0_dips (ws_ yX0_dips cX0_dips 7 (Option.none : Option Jvm.ClassFile.FieldType)) rm_X0_dips [.ref (adr G 64), .ref (adr G b1), .int a2, .int a3] sh g gl gr n none sh go gl gr n := by
  refine MetI.of (by decide) (Nat.le_of_ble_eq_true rfl) ?_
  intro p e s m below meth c ls hx hb hr hml hown hts hlk hnm hW hK hR hS hl
  have hown : s.vm.findClass RX0 = some m.cls := hown
  have hF : CallFix p m c cX0_dips 7 s ([.ref (adr G 64), .ref (adr G b1), .int a2, .int a3] : List Value).toArray lw_all RX0 := ⟨hx, hb, hml, hown, hts⟩
  have hl : lv_has ls 7 [(0, .ref (adr G 64)), (1, .ref (adr G b1)), (2, .int a2), (3, .int a3)] := hl
  unfold f_X0_dips at h
  refine lv_aload_n hx hb dX0_dips_0 rfl (lv_at hl 0 rfl) ?_
  refine lv_aload_n hx hb dX0_dips_1 rfl (lv_at hl 1 rfl) ?_
  refine lv_iload_n hx hb dX0_dips_2 rfl (lv_at hl 2 rfl) ?_
  obtain ⟨r2, e1, h⟩ := obd h
  refine rc_V0 (rest := []) (st1 := [.ref (adr G r2)]) hF (w_X0_wayOf hSk b1 a2 hm_b1 e1) (cwV 2 hts (lw_V q730 q732 qs16 q100 q733) rfl rfl rfl hd_X0_wayOf ⟨Nat.le_of_ble_eq_true rfl, Nat.le_of_ble_eq_true rfl⟩) cfX0 (sk_64 hSk) hK hW hR hS rfl hl.1 rfl (Nat.le_of_ble_eq_true rfl) rfl dX0_dips_3 ⟨rfl, rfl⟩ ⟨Nat.zero_le _, Nat.zero_le _⟩ (fun H locs hR hS => ?_)
  refine lv_astore (lv' := [(4, .ref (adr G r2)), (0, .ref (adr G 64)), (1, .ref (adr G b1)), (2, .int a2), (3, .int a3)]) hx hb dX0_dips_6 hl (by decide) rfl (fun ls hl => ?_)
  refine lv_aload_n hx hb dX0_dips_8 rfl (lv_at hl 2 rfl) ?_
  refine r_getrN hx hb hts cfX1 hown hK hR (mls_0 hSk hm_b1) 5 (by decide) rfl (mlr_5 hSk hm_b1) (hW.nestF q171) (fun _ h => h) dX0_dips_9 ?_
  refine lv_iload_n hx hb dX0_dips_12 rfl (lv_at hl 4 rfl) ?_
  obtain ⟨v4, e3, h⟩ := obd h
  refine r_ldi hx hb hK hR (mls_2 hSk hm_b1) e3 dX0_dips_13 ?_
  refine lv_istore (lv' := [(5, .int v4), (4, .ref (adr G r2)), (0, .ref (adr G 64)), (1, .ref (adr G b1)), (2, .int a2), (3, .int a3)]) hx hb dX0_dips_14 hl (by decide) rfl (fun ls hl => ?_)
  refine lv_aload_n hx hb dX0_dips_16 rfl (lv_at hl 3 rfl) ?_
  refine r_getrN hx hb hts cfX1 hown hK hR (mls_0 hSk hm_b1) 9 (by decide) rfl (mlr_9 hSk hm_b1) (hW.nestF q183) (fun _ h => h) dX0_dips_17 ?_
  refine lv_iload_n hx hb dX0_dips_20 rfl (lv_at hl 4 rfl) ?_
  obtain ⟨v6, e5, h⟩ := obd h
  refine r_ldi hx hb hK hR (mls_6 hSk hm_b1) e5 dX0_dips_21 ?_
  refine lv_iconst (v := (-1)) hx hb dX0_dips_22 ki_m1 ?_
  have J122 : ∀ (g7 : GM) (H : Heap) (locs : List Loc) (ls : Array Slot), Rep G sh g7 gl gr n H → va_S (own G) s.heap H locs → lv_has ls 7 [(1, .ref (adr G b1)), (2, .int a2), (3, .int a3)] → j_X0_dips_122 b1 a2 a3 g7 = some go → W p l e rm_X0_dips s m ([.ref (adr G 64), .ref (adr G b1), .int a2, .int a3] : List Value).toArray below meth c H locs 0 0 (MQ below (QR G none sh go gl gr n) ([.ref (adr G 64), .ref (adr G b1), .int a2, .int a3] : List Value).toArray s rm_X0_dips.cells rm_X0_dips.slots (own G)) (F0 m 122 ls []) := by
    intro g7 H locs ls hR hS hl h
    unfold j_X0_dips_122 at h
    refine lv_aload_n hx hb dX0_dips_122 rfl (lv_at hl 0 rfl) ?_
    refine lv_iload_n hx hb dX0_dips_123 rfl (lv_at hl 1 rfl) ?_
    obtain ⟨g9, e8, h⟩ := obd h
    refine rc_V0 (rest := []) (st1 := []) hF (w_X1_settles hSk b1 a2 hm_b1 e8) (cwV 1 hts (lw_V q829 q830 q831 q101 q832) rfl rfl rfl hd_X1_settles ⟨Nat.le_of_ble_eq_true rfl, Nat.le_of_ble_eq_true rfl⟩) cfX1 (mls_0 hSk hm_b1) hK hW hR hS rfl hl.1 rfl (Nat.le_of_ble_eq_true rfl) rfl dX0_dips_124 ⟨rfl, rfl⟩ ⟨Nat.zero_le _, Nat.zero_le _⟩ (fun H locs hR hS => ?_)
    refine lv_aload_n hx hb dX0_dips_127 rfl (lv_at hl 0 rfl) ?_
    refine r_getrN hx hb hts cfX1 hown hK hR (mls_0 hSk hm_b1) 11 (by decide) rfl (mlr_11 hSk hm_b1) (hW.nestF q189) (fun _ h => h) dX0_dips_128 ?_
    refine lv_iload_n hx hb dX0_dips_131 rfl (lv_at hl 1 rfl) ?_
    refine lv_sipush (v := 9999) hx hb dX0_dips_132 ks_9999 ?_
    refine lv_aload_n hx hb dX0_dips_135 rfl (lv_at hl 0 rfl) ?_
    refine r_getrN hx hb hts cfX1 hown hK hR (mls_0 hSk hm_b1) 11 (by decide) rfl (mlr_11 hSk hm_b1) (hW.nestF q189) (fun _ h => h) dX0_dips_136 ?_
    refine lv_iload_n hx hb dX0_dips_139 rfl (lv_at hl 1 rfl) ?_
    obtain ⟨v11, e10, h⟩ := obd h
    refine r_ldi hx hb hK hR (mls_8 hSk hm_b1) e10 dX0_dips_140 ?_
    refine lv_iconst (v := 1) hx hb dX0_dips_141 ki_1 ?_
    refine lv_iadd hx hb dX0_dips_142 ?_
    refine va_mmin hx hb (hml.trans hl.1.symm) hown (hts _ q839) (hts _ q834) (hts _ q123) (hts _ q835) (Nat.le_of_ble_eq_true rfl) (Nat.le_of_ble_eq_true rfl) (Nat.zero_le _) (Nat.zero_le _) dX0_dips_143 ?_
    obtain ⟨g13, e12, h⟩ := obd h
    refine r_sti hx hb hK hR hS (mls_8 hSk hm_b1) e12 dX0_dips_146 (fun H locs hR hS => ?_)
    refine lv_aload_n hx hb dX0_dips_147 rfl (lv_at hl 0 rfl) ?_
    refine r_getrN hx hb hts cfX1 hown hK hR (mls_0 hSk hm_b1) 6 (by decide) rfl (mlr_6 hSk hm_b1) (hW.nestF q175) (fun _ h => h) dX0_dips_148 ?_
    refine lv_iload_n hx hb dX0_dips_151 rfl (lv_at hl 2 rfl) ?_
    refine lv_iconst (v := 0) hx hb dX0_dips_152 ki_0 ?_
    refine lv_aload_n hx hb dX0_dips_153 rfl (lv_at hl 0 rfl) ?_
    refine r_getrN hx hb hts cfX1 hown hK hR (mls_0 hSk hm_b1) 6 (by decide) rfl (mlr_6 hSk hm_b1) (hW.nestF q175) (fun _ h => h) dX0_dips_154 ?_
    refine lv_iload_n hx hb dX0_dips_157 rfl (lv_at hl 2 rfl) ?_
    obtain ⟨v15, e14, h⟩ := obd h
    refine r_ldi hx hb hK hR (mls_3 hSk hm_b1) e14 dX0_dips_158 ?_
    refine lv_iconst (v := 1) hx hb dX0_dips_159 ki_1 ?_
    refine lv_isub hx hb dX0_dips_160 ?_
    refine va_mmax hx hb (hml.trans hl.1.symm) hown (hts _ q840) (hts _ q837) (hts _ q123) (hts _ q838) (Nat.le_of_ble_eq_true rfl) (Nat.le_of_ble_eq_true rfl) (Nat.zero_le _) (Nat.zero_le _) dX0_dips_161 ?_
    obtain ⟨g17, e16, h⟩ := obd h
    refine r_sti hx hb hK hR hS (mls_3 hSk hm_b1) e16 dX0_dips_164 (fun H locs hR hS => ?_)
    obtain rfl := s1i h
    exact r_vret0 hx hb hr hlk hR hS (Nat.zero_le _) (Nat.zero_le _) dX0_dips_165
  have J37 : ∀  (H : Heap) (locs : List Loc) (ls : Array Slot), Rep G sh g gl gr n H → va_S (own G) s.heap H locs → lv_has ls 7 [(1, .ref (adr G b1)), (2, .int a2), (3, .int a3), (4, .ref (adr G r2)), (5, .int v4)] → j_X0_dips_37 g b1 a2 a3 r2 v4  = some go → W p l e rm_X0_dips s m ([.ref (adr G 64), .ref (adr G b1), .int a2, .int a3] : List Value).toArray below meth c H locs 0 0 (MQ below (QR G none sh go gl gr n) ([.ref (adr G 64), .ref (adr G b1), .int a2, .int a3] : List Value).toArray s rm_X0_dips.cells rm_X0_dips.slots (own G)) (F0 m 37 ls []) := by
    intro  H locs ls hR hS hl h
    unfold j_X0_dips_37 at h
    refine lv_aload_n hx hb dX0_dips_37 rfl (lv_at hl 0 rfl) ?_
    refine r_getrN hx hb hts cfX1 hown hK hR (mls_0 hSk hm_b1) 9 (by decide) rfl (mlr_9 hSk hm_b1) (hW.nestF q183) (fun _ h => h) dX0_dips_38 ?_
    refine lv_iload_n hx hb dX0_dips_41 rfl (lv_at hl 1 rfl) ?_
    refine lv_iload hx hb dX0_dips_42 (lv_at hl 4 rfl) ?_
    obtain ⟨g19, e18, h⟩ := obd h
    refine r_sti hx hb hK hR hS (mls_6 hSk hm_b1) e18 dX0_dips_44 (fun H locs hR hS => ?_)
    refine lv_aload_n hx hb dX0_dips_45 rfl (lv_at hl 0 rfl) ?_
    refine r_getrN hx hb hts cfX1 hown hK hR (mls_0 hSk hm_b1) 10 (by decide) rfl (mlr_10 hSk hm_b1) (hW.nestF q186) (fun _ h => h) dX0_dips_46 ?_
    refine lv_iload_n hx hb dX0_dips_49 rfl (lv_at hl 1 rfl) ?_
    refine lv_dup2_11 hx hb dX0_dips_50 rfl rfl ?_
    obtain ⟨v21, e20, h⟩ := obd h
    refine r_ldi hx hb hK hR (mls_7 hSk hm_b1) e20 dX0_dips_51 ?_
    refine lv_aload hx hb dX0_dips_52 (lv_at hl 3 rfl) ?_
    refine lv_aload_n hx hb dX0_dips_54 rfl (lv_at hl 0 rfl) ?_
    refine lv_iload_n hx hb dX0_dips_55 rfl (lv_at hl 2 rfl) ?_
    obtain ⟨r23, e22, h⟩ := obd h
    refine r_W_takes (rest := [.int v21, .int a2, .ref (adr G (b1 + 7))]) hF q734 hSk a3 hm_b1 e22 (Nat.le_of_ble_eq_true rfl) (Nat.le_of_ble_eq_true rfl) hK hW hR hS hl.1 (Nat.le_of_ble_eq_true rfl) dX0_dips_56 ⟨Nat.zero_le _, Nat.zero_le _⟩ (fun H locs hR hS => ?_)
    refine lv_iadd hx hb dX0_dips_59 ?_
    obtain ⟨g25, e24, h⟩ := obd h
    refine r_sti hx hb hK hR hS (mls_7 hSk hm_b1) e24 dX0_dips_60 (fun H locs hR hS => ?_)
    refine lv_goto (tgt := 122) hx hb dX0_dips_61 (by decide) ?_
    exact J122 g25 _ _ _ hR hS (lv_sub hl [0, 1, 2] rfl) h
  refine lv_icmp_eq (tgt := 37) hx hb dX0_dips_23 (by decide) (fun c26 => ?_) (fun c26 => ?_)
  · replace h := ifp h c26
    exact J37  _ _ _ hR hS (lv_sub hl [3, 4, 5, 1, 0] rfl) h
  · replace h := ifn h c26
    refine lv_aload_n hx hb dX0_dips_26 rfl (lv_at hl 3 rfl) ?_
    refine r_getrN hx hb hts cfX1 hown hK hR (mls_0 hSk hm_b1) 9 (by decide) rfl (mlr_9 hSk hm_b1) (hW.nestF q183) (fun _ h => h) dX0_dips_27 ?_
    refine lv_iload_n hx hb dX0_dips_30 rfl (lv_at hl 4 rfl) ?_
    obtain ⟨v28, e27, h⟩ := obd h
    refine r_ldi hx hb hK hR (mls_6 hSk hm_b1) e27 dX0_dips_31 ?_
    refine lv_iload hx hb dX0_dips_32 (lv_at hl 0 rfl) ?_
    refine lv_icmp_ne (tgt := 64) hx hb dX0_dips_34 (by decide) (fun c29 => ?_) (fun c29 => ?_)
    · replace h := ifn h c29
      refine lv_aload_n hx hb dX0_dips_64 rfl (lv_at hl 3 rfl) ?_
      refine r_getrN hx hb hts cfX1 hown hK hR (mls_0 hSk hm_b1) 10 (by decide) rfl (mlr_10 hSk hm_b1) (hW.nestF q186) (fun _ h => h) dX0_dips_65 ?_
      refine lv_iload_n hx hb dX0_dips_68 rfl (lv_at hl 4 rfl) ?_
      obtain ⟨v31, e30, h⟩ := obd h
      refine r_ldi hx hb hK hR (mls_7 hSk hm_b1) e30 dX0_dips_69 ?_
      refine lv_aload hx hb dX0_dips_70 (lv_at hl 1 rfl) ?_
      refine lv_aload_n hx hb dX0_dips_72 rfl (lv_at hl 3 rfl) ?_
      refine lv_iload_n hx hb dX0_dips_73 rfl (lv_at hl 5 rfl) ?_
      obtain ⟨r33, e32, h⟩ := obd h
      refine r_W_fights (rest := [.int v31]) hF q759 hSk a3 hm_b1 e32 (Nat.le_of_ble_eq_true rfl) (Nat.le_of_ble_eq_true rfl) hK hW hR hS hl.1 (Nat.le_of_ble_eq_true rfl) dX0_dips_74 ⟨Nat.zero_le _, Nat.zero_le _⟩ (fun H locs hR hS => ?_)
      refine lv_isub hx hb dX0_dips_77 ?_
      refine lv_istore (lv' := [(6, .int (v31 - r33)), (5, .int v4), (4, .ref (adr G r2)), (0, .ref (adr G 64)), (1, .ref (adr G b1)), (2, .int a2), (3, .int a3)]) hx hb dX0_dips_78 hl (by decide) rfl (fun ls hl => ?_)
      refine lv_aload_n hx hb dX0_dips_80 rfl (lv_at hl 4 rfl) ?_
      refine r_getrN hx hb hts cfX1 hown hK hR (mls_0 hSk hm_b1) 9 (by decide) rfl (mlr_9 hSk hm_b1) (hW.nestF q183) (fun _ h => h) dX0_dips_81 ?_
      refine lv_iload_n hx hb dX0_dips_84 rfl (lv_at hl 5 rfl) ?_
      refine lv_iload hx hb dX0_dips_85 (lv_at hl 0 rfl) ?_
      have J101 : ∀ (x34 : Int32) (H : Heap) (locs : List Loc) (ls : Array Slot), Rep G sh g gl gr n H → va_S (own G) s.heap H locs → lv_has ls 7 [(1, .ref (adr G b1)), (2, .int a2), (3, .int a3), (6, .int (v31 - r33))] → j_X0_dips_101 g b1 a2 a3 v31 r33 x34 = some go → W p l e rm_X0_dips s m ([.ref (adr G 64), .ref (adr G b1), .int a2, .int a3] : List Value).toArray below meth c H locs 0 0 (MQ below (QR G none sh go gl gr n) ([.ref (adr G 64), .ref (adr G b1), .int a2, .int a3] : List Value).toArray s rm_X0_dips.cells rm_X0_dips.slots (own G)) (F0 m 101 ls [.int x34, .int a2, .ref (adr G (b1 + 6))]) := by
        intro x34 H locs ls hR hS hl h
        unfold j_X0_dips_101 at h
        obtain ⟨g36, e35, h⟩ := obd h
        refine r_sti hx hb hK hR hS (mls_6 hSk hm_b1) e35 dX0_dips_101 (fun H locs hR hS => ?_)
        refine lv_aload_n hx hb dX0_dips_102 rfl (lv_at hl 0 rfl) ?_
        refine r_getrN hx hb hts cfX1 hown hK hR (mls_0 hSk hm_b1) 10 (by decide) rfl (mlr_10 hSk hm_b1) (hW.nestF q186) (fun _ h => h) dX0_dips_103 ?_
        refine lv_iload_n hx hb dX0_dips_106 rfl (lv_at hl 1 rfl) ?_
        refine lv_iload hx hb dX0_dips_107 (lv_at hl 3 rfl) ?_
        have J121 : ∀ (x37 : Int32) (H : Heap) (locs : List Loc) (ls : Array Slot), Rep G sh g36 gl gr n H → va_S (own G) s.heap H locs → lv_has ls 7 [(1, .ref (adr G b1)), (2, .int a2), (3, .int a3)] → j_X0_dips_121 b1 a2 a3 g36 x37 = some go → W p l e rm_X0_dips s m ([.ref (adr G 64), .ref (adr G b1), .int a2, .int a3] : List Value).toArray below meth c H locs 0 0 (MQ below (QR G none sh go gl gr n) ([.ref (adr G 64), .ref (adr G b1), .int a2, .int a3] : List Value).toArray s rm_X0_dips.cells rm_X0_dips.slots (own G)) (F0 m 121 ls [.int x37, .int a2, .ref (adr G (b1 + 7))]) := by
          intro x37 H locs ls hR hS hl h
          unfold j_X0_dips_121 at h
          obtain ⟨g39, e38, h⟩ := obd h
          refine r_sti hx hb hK hR hS (mls_7 hSk hm_b1) e38 dX0_dips_121 (fun H locs hR hS => ?_)
          exact J122 g39 _ _ _ hR hS (lv_sub hl [0, 1, 2] rfl) h
        refine lv_if_ge (tgt := 119) hx hb dX0_dips_109 (by decide) (fun c40 => ?_) (fun c40 => ?_)
        · replace h := ifp h c40
          refine lv_iload hx hb dX0_dips_119 (lv_at hl 3 rfl) ?_
          exact J121 (v31 - r33) _ _ _ hR hS (lv_sub hl [0, 1, 2] rfl) h
        · replace h := ifn h c40
          refine lv_iconst (v := 0) hx hb dX0_dips_112 ki_0 ?_
          refine lv_iload hx hb dX0_dips_113 (lv_at hl 3 rfl) ?_
          refine lv_isub hx hb dX0_dips_115 ?_
          refine lv_goto (tgt := 121) hx hb dX0_dips_116 (by decide) ?_
          exact J121 (0 - (v31 - r33)) _ _ _ hR hS (lv_sub hl [0, 1, 2] rfl) h
      refine lv_if_ge (tgt := 95) hx hb dX0_dips_87 (by decide) (fun c41 => ?_) (fun c41 => ?_)
      · replace h := ifp h c41
        refine lv_aload_n hx hb dX0_dips_95 rfl (lv_at hl 4 rfl) ?_
        refine r_getrN hx hb hts cfX1 hown hK hR (mls_0 hSk hm_b1) 9 (by decide) rfl (mlr_9 hSk hm_b1) (hW.nestF q183) (fun _ h => h) dX0_dips_96 ?_
        refine lv_iload_n hx hb dX0_dips_99 rfl (lv_at hl 5 rfl) ?_
        obtain ⟨v43, e42, h⟩ := obd h
        refine r_ldi hx hb hK hR (mls_6 hSk hm_b1) e42 dX0_dips_100 ?_
        exact J101 v43 _ _ _ hR hS (lv_sub hl [4, 5, 6, 0] rfl) h
      · replace h := ifn h c41
        refine lv_iload hx hb dX0_dips_90 (lv_at hl 1 rfl) ?_
        refine lv_goto (tgt := 101) hx hb dX0_dips_92 (by decide) ?_
        exact J101 v4 _ _ _ hR hS (lv_sub hl [4, 5, 6, 0] rfl) h
    · replace h := ifp h c29
      exact J37  _ _ _ hR hS (lv_sub hl [3, 4, 5, 1, 0] rfl) h
def rm_X0_dip : Room := { frames := 8, cells := 0, slots := 0, locals := 326 }
theorem hd_X0_dip : yX0_dip.cls = "IntentVats" ∧ yX0_dip.cls ≠ "java/lang/invoke/MethodHandle" ∧ yX0_dip.cls ≠ "java/lang/invoke/VarHandle" ∧ (parseMethodDescriptor yX0_dip.desc).map (fun d => d.parameters.length) = some 2 := by decide +kernel
theorem he_X0_dip : yX0_dip.cls ≠ "java/lang/invoke/MethodHandle" ∧ yX0_dip.cls ≠ "java/lang/invoke/VarHandle" ∧ (parseMethodDescriptor yX0_dip.desc).map (fun d => d.parameters.length) = some 2 := hd_X0_dip.2

set_option maxHeartbeats 4000000 in
set_option maxRecDepth 100000 in
theorem w_X0_dip {l : Launch} {G : Gx} {sh : SM} {g : GM} {gl : LM} {gr : RM} {n : Nat} (hSk : Sk sh gr) (a1 : Int32) (a2 : Int32)  {r : Int32} {go : GM} (h : f_X0_dip g a1 a2 = some (r, go)) : MetI l G yX0_dip (ws_ yX0_dip cX0_dip 3 (Option.some Jvm.ClassFile.FieldType.int)) rm_X0_dip [.ref (adr G 64), .int a1, .int a2] sh g gl gr n (some (.int r)) sh go gl gr n := by
  refine MetI.of (by decide) (Nat.le_of_ble_eq_true rfl) ?_
  intro p e s m below meth c ls hx hb hr hml hown hts hlk hnm hW hK hR hS hl
  have hown : s.vm.findClass RX0 = some m.cls := hown
  have hF : CallFix p m c cX0_dip 3 s ([.ref (adr G 64), .int a1, .int a2] : List Value).toArray lw_all RX0 := ⟨hx, hb, hml, hown, hts⟩
  have hl : lv_has ls 3 [(0, .ref (adr G 64)), (1, .int a1), (2, .int a2)] := hl
  unfold f_X0_dip at h
  refine lv_aload_n hx hb dX0_dip_0 rfl (lv_at hl 0 rfl) ?_
  refine lv_iload_n hx hb dX0_dip_1 rfl (lv_at hl 1 rfl) ?_
  obtain ⟨r2, e1, h⟩ := obd h
  refine rc_V0 (rest := []) (st1 := [.int r2]) hF (w_X0_isCloth hSk a1 e1) (cwV 1 hts (lw_V q715 q717 qs15 q100 q718) rfl rfl rfl hd_X0_isCloth ⟨Nat.le_of_ble_eq_true rfl, Nat.le_of_ble_eq_true rfl⟩) cfX0 (sk_64 hSk) hK hW hR hS rfl hl.1 rfl (Nat.le_of_ble_eq_true rfl) rfl dX0_dip_2 ⟨rfl, rfl⟩ ⟨Nat.zero_le _, Nat.zero_le _⟩ (fun H locs hR hS => ?_)
  have J15 : ∀  (H : Heap) (locs : List Loc) (ls : Array Slot), Rep G sh g gl gr n H → va_S (own G) s.heap H locs → lv_has ls 3 [] → j_X0_dip_15 g  = some (r, go) → W p l e rm_X0_dip s m ([.ref (adr G 64), .int a1, .int a2] : List Value).toArray below meth c H locs 0 0 (MQ below (QR G (some (.int r)) sh go gl gr n) ([.ref (adr G 64), .int a1, .int a2] : List Value).toArray s rm_X0_dip.cells rm_X0_dip.slots (own G)) (F0 m 15 ls []) := by
    intro  H locs ls hR hS hl h
    unfold j_X0_dip_15 at h
    refine lv_iconst (v := (-1)) hx hb dX0_dip_15 ki_m1 ?_
    obtain ⟨rfl, rfl⟩ := s2i h
    exact r_iret0 hx hb hr hlk hR hS (Nat.zero_le _) (Nat.zero_le _) dX0_dip_16
  refine lv_if_eq (tgt := 15) hx hb dX0_dip_5 (by decide) (fun c3 => ?_) (fun c3 => ?_)
  · replace h := ifp h c3
    exact J15  _ _ _ hR hS (lv_sub hl [] rfl) h
  · replace h := ifn h c3
    refine lv_iload_n hx hb dX0_dip_8 rfl (lv_at hl 2 rfl) ?_
    obtain ⟨r5, e4, h⟩ := obd h
    refine rc_S0 (rest := []) (st1 := [.int r5]) hF (w_X0_isVat hSk a2 e4) (va_cwS 1 hts (lw_S q682 q683 q100 q684) rfl rfl rfl he_X0_isVat ⟨Nat.le_of_ble_eq_true rfl, Nat.le_of_ble_eq_true rfl⟩) hW hR hS rfl hl.1 rfl (Nat.le_of_ble_eq_true rfl) rfl dX0_dip_9 ⟨rfl, rfl⟩ ⟨Nat.zero_le _, Nat.zero_le _⟩ (fun H locs hR hS => ?_)
    refine lv_if_ne (tgt := 17) hx hb dX0_dip_12 (by decide) (fun c6 => ?_) (fun c6 => ?_)
    · replace h := ifn h c6
      refine lv_aload_n hx hb dX0_dip_17 rfl (lv_at hl 0 rfl) ?_
      refine lv_aload_n hx hb dX0_dip_18 rfl (lv_at hl 0 rfl) ?_
      refine r_getr hx hb hts cfX0 hown hK hR (sk_64 hSk) 0 (by decide) rfl (sr_64_0 hSk) (hts _ q449) (fun _ h => h) dX0_dip_19 ?_
      refine lv_iload_n hx hb dX0_dip_22 rfl (lv_at hl 1 rfl) ?_
      refine lv_iload_n hx hb dX0_dip_23 rfl (lv_at hl 2 rfl) ?_
      obtain ⟨g8, e7, h⟩ := obd h
      refine rc_V0 (rest := []) (st1 := []) hF (w_X0_dips hSk 65 a1 a2 (isMl_65) e7) (cwV 3 hts (lw_V q825 q827 qs17 q100 q828) rfl rfl rfl hd_X0_dips ⟨Nat.le_of_ble_eq_true rfl, Nat.le_of_ble_eq_true rfl⟩) cfX0 (sk_64 hSk) hK hW hR hS rfl hl.1 rfl (Nat.le_of_ble_eq_true rfl) rfl dX0_dip_24 ⟨rfl, rfl⟩ ⟨Nat.zero_le _, Nat.zero_le _⟩ (fun H locs hR hS => ?_)
      refine lv_iconst (v := 1) hx hb dX0_dip_27 ki_1 ?_
      refine lv_aload_n hx hb dX0_dip_28 rfl (lv_at hl 0 rfl) ?_
      refine r_getr hx hb hts cfX0 hown hK hR (sk_64 hSk) 0 (by decide) rfl (sr_64_0 hSk) (hts _ q449) (fun _ h => h) dX0_dip_29 ?_
      refine r_getrN hx hb hts cfX1 hown hK hR (sk_65 hSk) 9 (by decide) rfl (sr_65_9 hSk) (hW.nestF q183) (fun _ h => h) dX0_dip_32 ?_
      refine lv_iload_n hx hb dX0_dip_35 rfl (lv_at hl 1 rfl) ?_
      obtain ⟨v10, e9, h⟩ := obd h
      refine r_ldi hx hb hK hR (sk_71 hSk) e9 dX0_dip_36 ?_
      refine lv_iadd hx hb dX0_dip_37 ?_
      obtain ⟨rfl, rfl⟩ := s2i h
      exact r_iret0 hx hb hr hlk hR hS (Nat.zero_le _) (Nat.zero_le _) dX0_dip_38
    · replace h := ifp h c6
      exact J15  _ _ _ hR hS (lv_sub hl [] rfl) h
def rm_X0_dayGoes : Room := { frames := 8, cells := 0, slots := 0, locals := 326 }
theorem hd_X0_dayGoes : yX0_dayGoes.cls = "IntentVats" ∧ yX0_dayGoes.cls ≠ "java/lang/invoke/MethodHandle" ∧ yX0_dayGoes.cls ≠ "java/lang/invoke/VarHandle" ∧ (parseMethodDescriptor yX0_dayGoes.desc).map (fun d => d.parameters.length) = some 1 := by decide +kernel
theorem he_X0_dayGoes : yX0_dayGoes.cls ≠ "java/lang/invoke/MethodHandle" ∧ yX0_dayGoes.cls ≠ "java/lang/invoke/VarHandle" ∧ (parseMethodDescriptor yX0_dayGoes.desc).map (fun d => d.parameters.length) = some 1 := hd_X0_dayGoes.2

set_option maxHeartbeats 4000000 in
set_option maxRecDepth 100000 in
theorem w_X0_dayGoes {l : Launch} {G : Gx} {sh : SM} {g : GM} {gl : LM} {gr : RM} {n : Nat} (hSk : Sk sh gr) (b1 : Nat) (hm_b1 : isMl b1) {go : GM} (h : f_X0_dayGoes g b1 = some go) : MetI l G yX0_dayGoes (ws_ yX0_dayGoes cX0_dayGoes 4 (Option.none : Option Jvm.ClassFile.FieldType)) rm_X0_dayGoes [.ref (adr G 64), .ref (adr G b1)] sh g gl gr n none sh go gl gr n := by
  refine MetI.of (by decide) (Nat.le_of_ble_eq_true rfl) ?_
  intro p e s m below meth c ls hx hb hr hml hown hts hlk hnm hW hK hR hS hl
  have hown : s.vm.findClass RX0 = some m.cls := hown
  have hF : CallFix p m c cX0_dayGoes 4 s ([.ref (adr G 64), .ref (adr G b1)] : List Value).toArray lw_all RX0 := ⟨hx, hb, hml, hown, hts⟩
  have hl : lv_has ls 4 [(0, .ref (adr G 64)), (1, .ref (adr G b1))] := hl
  unfold f_X0_dayGoes at h
  refine lv_aload_n hx hb dX0_dayGoes_0 rfl (lv_at hl 1 rfl) ?_
  obtain ⟨r2, e1, h⟩ := obd h
  refine rc_V0 (rest := []) (st1 := [.int r2]) hF (w_X1_vatNow hSk b1 hm_b1 e1) (cwV 0 hts (lw_V q853 q854 q855 q101 q856) rfl rfl rfl hd_X1_vatNow ⟨Nat.le_of_ble_eq_true rfl, Nat.le_of_ble_eq_true rfl⟩) cfX1 (mls_0 hSk hm_b1) hK hW hR hS rfl hl.1 rfl (Nat.le_of_ble_eq_true rfl) rfl dX0_dayGoes_1 ⟨rfl, rfl⟩ ⟨Nat.zero_le _, Nat.zero_le _⟩ (fun H locs hR hS => ?_)
  refine lv_istore_n (lv' := [(2, .int r2), (0, .ref (adr G 64)), (1, .ref (adr G b1))]) hx hb dX0_dayGoes_4 rfl hl (by decide) rfl (fun ls hl => ?_)
  refine lv_iconst (v := 0) hx hb dX0_dayGoes_5 ki_0 ?_
  refine lv_istore_n (lv' := [(3, .int 0), (2, .int r2), (0, .ref (adr G 64)), (1, .ref (adr G b1))]) hx hb dX0_dayGoes_6 rfl hl (by decide) rfl (fun ls hl => ?_)
  have J7 : ∀ (k7 : Nat) (x3 : Int32) (g4 : GM) (H : Heap) (locs : List Loc) (ls : Array Slot), Rep G sh g4 gl gr n H → va_S (own G) s.heap H locs → lv_has ls 4 [(0, .ref (adr G 64)), (1, .ref (adr G b1)), (2, .int r2), (3, .int x3)] → l_X0_dayGoes_7 b1 r2 k7 x3 g4 = some go → W p l e rm_X0_dayGoes s m ([.ref (adr G 64), .ref (adr G b1)] : List Value).toArray below meth c H locs 0 0 (MQ below (QR G none sh go gl gr n) ([.ref (adr G 64), .ref (adr G b1)] : List Value).toArray s rm_X0_dayGoes.cells rm_X0_dayGoes.slots (own G)) (F0 m 7 ls []) := by
    intro k7
    induction k7 with
    | zero => intro _ _ _ _ _ _ _ _; exact nofun
    | succ k7 ih7 =>
      intro x3 g4 H locs ls hR hS hl h
      unfold l_X0_dayGoes_7 b_X0_dayGoes_7 at h
      refine lv_iload_n hx hb dX0_dayGoes_7 rfl (lv_at hl 3 rfl) ?_
      refine lv_aload_n hx hb dX0_dayGoes_8 rfl (lv_at hl 1 rfl) ?_
      refine r_getiN hx hb hts cfX1 hown hK hR (mls_0 hSk hm_b1) 0 (by decide) rfl (hW.nestF q153) (fun _ h => h) dX0_dayGoes_9 ?_
      have J41 : ∀  (H : Heap) (locs : List Loc) (ls : Array Slot), Rep G sh g4 gl gr n H → va_S (own G) s.heap H locs → lv_has ls 4 [(0, .ref (adr G 64)), (1, .ref (adr G b1))] → j_X0_dayGoes_41 b1 g4  = some go → W p l e rm_X0_dayGoes s m ([.ref (adr G 64), .ref (adr G b1)] : List Value).toArray below meth c H locs 0 0 (MQ below (QR G none sh go gl gr n) ([.ref (adr G 64), .ref (adr G b1)] : List Value).toArray s rm_X0_dayGoes.cells rm_X0_dayGoes.slots (own G)) (F0 m 41 ls []) := by
        intro  H locs ls hR hS hl h
        unfold j_X0_dayGoes_41 at h
        refine lv_iconst (v := 0) hx hb dX0_dayGoes_41 ki_0 ?_
        refine lv_istore_n (lv' := [(3, .int 0), (0, .ref (adr G 64)), (1, .ref (adr G b1))]) hx hb dX0_dayGoes_42 rfl hl (by decide) rfl (fun ls hl => ?_)
        have J43 : ∀ (k43 : Nat) (x5 : Int32) (g6 : GM) (H : Heap) (locs : List Loc) (ls : Array Slot), Rep G sh g6 gl gr n H → va_S (own G) s.heap H locs → lv_has ls 4 [(0, .ref (adr G 64)), (1, .ref (adr G b1)), (3, .int x5)] → l_X0_dayGoes_43 b1 k43 x5 g6 = some go → W p l e rm_X0_dayGoes s m ([.ref (adr G 64), .ref (adr G b1)] : List Value).toArray below meth c H locs 0 0 (MQ below (QR G none sh go gl gr n) ([.ref (adr G 64), .ref (adr G b1)] : List Value).toArray s rm_X0_dayGoes.cells rm_X0_dayGoes.slots (own G)) (F0 m 43 ls []) := by
          intro k43
          induction k43 with
          | zero => intro _ _ _ _ _ _ _ _; exact nofun
          | succ k43 ih43 =>
            intro x5 g6 H locs ls hR hS hl h
            unfold l_X0_dayGoes_43 b_X0_dayGoes_43 at h
            refine lv_iload_n hx hb dX0_dayGoes_43 rfl (lv_at hl 2 rfl) ?_
            refine lv_aload_n hx hb dX0_dayGoes_44 rfl (lv_at hl 1 rfl) ?_
            refine r_getiN hx hb hts cfX1 hown hK hR (mls_0 hSk hm_b1) 0 (by decide) rfl (hW.nestF q153) (fun _ h => h) dX0_dayGoes_45 ?_
            refine lv_icmp_ge (tgt := 99) hx hb dX0_dayGoes_48 (by decide) (fun c7 => ?_) (fun c7 => ?_)
            · replace h := ifp h c7
              refine lv_iconst (v := 0) hx hb dX0_dayGoes_99 ki_0 ?_
              refine lv_istore_n (lv' := [(3, .int 0), (0, .ref (adr G 64)), (1, .ref (adr G b1))]) hx hb dX0_dayGoes_100 rfl hl (by decide) rfl (fun ls hl => ?_)
              have J101 : ∀ (k101 : Nat) (x8 : Int32) (g9 : GM) (H : Heap) (locs : List Loc) (ls : Array Slot), Rep G sh g9 gl gr n H → va_S (own G) s.heap H locs → lv_has ls 4 [(1, .ref (adr G b1)), (3, .int x8)] → l_X0_dayGoes_101 b1 k101 x8 g9 = some go → W p l e rm_X0_dayGoes s m ([.ref (adr G 64), .ref (adr G b1)] : List Value).toArray below meth c H locs 0 0 (MQ below (QR G none sh go gl gr n) ([.ref (adr G 64), .ref (adr G b1)] : List Value).toArray s rm_X0_dayGoes.cells rm_X0_dayGoes.slots (own G)) (F0 m 101 ls []) := by
                intro k101
                induction k101 with
                | zero => intro _ _ _ _ _ _ _ _; exact nofun
                | succ k101 ih101 =>
                  intro x8 g9 H locs ls hR hS hl h
                  unfold l_X0_dayGoes_101 b_X0_dayGoes_101 at h
                  refine lv_iload_n hx hb dX0_dayGoes_101 rfl (lv_at hl 1 rfl) ?_
                  refine lv_bipush (v := 8) hx hb dX0_dayGoes_102 kb_8 ?_
                  refine lv_icmp_ge (tgt := 132) hx hb dX0_dayGoes_104 (by decide) (fun c10 => ?_) (fun c10 => ?_)
                  · replace h := ifp h c10
                    refine lv_aload_n hx hb dX0_dayGoes_132 rfl (lv_at hl 0 rfl) ?_
                    refine lv_dup hx hb dX0_dayGoes_133 rfl ?_
                    refine r_getiN hx hb hts cfX1 hown hK hR (mls_0 hSk hm_b1) 1 (by decide) rfl (hW.nestF q156) (fun _ h => h) dX0_dayGoes_134 ?_
                    refine lv_iconst (v := 1) hx hb dX0_dayGoes_137 ki_1 ?_
                    refine lv_iadd hx hb dX0_dayGoes_138 ?_
                    obtain ⟨g12, e11, h⟩ := obd h
                    refine r_putiN hx hb hts cfX1 hown hK hR hS (mls_0 hSk hm_b1) 1 (by decide) rfl (hW.nestF q156) (fun _ h => h) rfl rfl rfl e11 dX0_dayGoes_139 (fun H locs hR hS => ?_)
                    obtain rfl := s1i h
                    exact r_vret0 hx hb hr hlk hR hS (Nat.zero_le _) (Nat.zero_le _) dX0_dayGoes_142
                  · replace h := ifn h c10
                    refine lv_aload_n hx hb dX0_dayGoes_107 rfl (lv_at hl 0 rfl) ?_
                    refine r_getrN hx hb hts cfX1 hown hK hR (mls_0 hSk hm_b1) 6 (by decide) rfl (mlr_6 hSk hm_b1) (hW.nestF q175) (fun _ h => h) dX0_dayGoes_108 ?_
                    refine lv_iload_n hx hb dX0_dayGoes_111 rfl (lv_at hl 1 rfl) ?_
                    refine lv_bipush (v := 9) hx hb dX0_dayGoes_112 kb_9 ?_
                    refine lv_aload_n hx hb dX0_dayGoes_114 rfl (lv_at hl 0 rfl) ?_
                    refine r_getrN hx hb hts cfX1 hown hK hR (mls_0 hSk hm_b1) 6 (by decide) rfl (mlr_6 hSk hm_b1) (hW.nestF q175) (fun _ h => h) dX0_dayGoes_115 ?_
                    refine lv_iload_n hx hb dX0_dayGoes_118 rfl (lv_at hl 1 rfl) ?_
                    obtain ⟨v14, e13, h⟩ := obd h
                    refine r_ldi hx hb hK hR (mls_3 hSk hm_b1) e13 dX0_dayGoes_119 ?_
                    refine lv_iconst (v := 1) hx hb dX0_dayGoes_120 ki_1 ?_
                    refine lv_iadd hx hb dX0_dayGoes_121 ?_
                    refine va_mmin hx hb (hml.trans hl.1.symm) hown (hts _ q839) (hts _ q834) (hts _ q123) (hts _ q835) (Nat.le_of_ble_eq_true rfl) (Nat.le_of_ble_eq_true rfl) (Nat.zero_le _) (Nat.zero_le _) dX0_dayGoes_122 ?_
                    obtain ⟨g16, e15, h⟩ := obd h
                    refine r_sti hx hb hK hR hS (mls_3 hSk hm_b1) e15 dX0_dayGoes_125 (fun H locs hR hS => ?_)
                    refine lv_iinc (v := x8 + 1) (lv' := [(3, .int (x8 + 1)), (1, .ref (adr G b1))]) hx hb dX0_dayGoes_126 hl (k := 1) rfl rfl (by decide) rfl (fun ls hl => ?_)
                    refine lv_goto (tgt := 101) hx hb dX0_dayGoes_129 (by decide) ?_
                    exact ih101 (x8 + 1) g16 _ _ _ hR hS (lv_sub hl [1, 0] rfl) h
              exact J101 fuel 0 g6 _ _ _ hR hS (lv_sub hl [2, 0] rfl) h
            · replace h := ifn h c7
              refine lv_aload_n hx hb dX0_dayGoes_51 rfl (lv_at hl 1 rfl) ?_
              refine lv_iload_n hx hb dX0_dayGoes_52 rfl (lv_at hl 2 rfl) ?_
              obtain ⟨r18, e17, h⟩ := obd h
              refine rc_V0 (rest := []) (st1 := [.int r18]) hF (w_X1_isHung hSk b1 x5 hm_b1 e17) (cwV 1 hts (lw_V q719 q720 q721 q101 q722) rfl rfl rfl hd_X1_isHung ⟨Nat.le_of_ble_eq_true rfl, Nat.le_of_ble_eq_true rfl⟩) cfX1 (mls_0 hSk hm_b1) hK hW hR hS rfl hl.1 rfl (Nat.le_of_ble_eq_true rfl) rfl dX0_dayGoes_53 ⟨rfl, rfl⟩ ⟨Nat.zero_le _, Nat.zero_le _⟩ (fun H locs hR hS => ?_)
              have J93 : ∀ (g19 : GM) (H : Heap) (locs : List Loc) (ls : Array Slot), Rep G sh g19 gl gr n H → va_S (own G) s.heap H locs → lv_has ls 4 [(0, .ref (adr G 64)), (1, .ref (adr G b1)), (3, .int x5)] → j_X0_dayGoes_93 x5 (l_X0_dayGoes_43 b1 k43) g19 = some go → W p l e rm_X0_dayGoes s m ([.ref (adr G 64), .ref (adr G b1)] : List Value).toArray below meth c H locs 0 0 (MQ below (QR G none sh go gl gr n) ([.ref (adr G 64), .ref (adr G b1)] : List Value).toArray s rm_X0_dayGoes.cells rm_X0_dayGoes.slots (own G)) (F0 m 93 ls []) := by
                intro g19 H locs ls hR hS hl h
                unfold j_X0_dayGoes_93 at h
                refine lv_iinc (v := x5 + 1) (lv' := [(3, .int (x5 + 1)), (0, .ref (adr G 64)), (1, .ref (adr G b1))]) hx hb dX0_dayGoes_93 hl (k := 2) rfl rfl (by decide) rfl (fun ls hl => ?_)
                refine lv_goto (tgt := 43) hx hb dX0_dayGoes_96 (by decide) ?_
                exact ih43 (x5 + 1) g19 _ _ _ hR hS (lv_sub hl [1, 2, 0] rfl) h
              refine lv_if_eq (tgt := 93) hx hb dX0_dayGoes_56 (by decide) (fun c20 => ?_) (fun c20 => ?_)
              · replace h := ifp h c20
                exact J93 g6 _ _ _ hR hS (lv_sub hl [0, 1, 2] rfl) h
              · replace h := ifn h c20
                refine lv_aload_n hx hb dX0_dayGoes_59 rfl (lv_at hl 1 rfl) ?_
                refine r_getrN hx hb hts cfX1 hown hK hR (mls_0 hSk hm_b1) 9 (by decide) rfl (mlr_9 hSk hm_b1) (hW.nestF q183) (fun _ h => h) dX0_dayGoes_60 ?_
                refine lv_iload_n hx hb dX0_dayGoes_63 rfl (lv_at hl 2 rfl) ?_
                obtain ⟨v22, e21, h⟩ := obd h
                refine r_ldi hx hb hK hR (mls_6 hSk hm_b1) e21 dX0_dayGoes_64 ?_
                refine lv_iconst (v := (-1)) hx hb dX0_dayGoes_65 ki_m1 ?_
                refine lv_icmp_eq (tgt := 93) hx hb dX0_dayGoes_66 (by decide) (fun c23 => ?_) (fun c23 => ?_)
                · replace h := ifp h c23
                  exact J93 g6 _ _ _ hR hS (lv_sub hl [0, 1, 2] rfl) h
                · replace h := ifn h c23
                  refine lv_aload_n hx hb dX0_dayGoes_69 rfl (lv_at hl 1 rfl) ?_
                  refine r_getrN hx hb hts cfX1 hown hK hR (mls_0 hSk hm_b1) 10 (by decide) rfl (mlr_10 hSk hm_b1) (hW.nestF q186) (fun _ h => h) dX0_dayGoes_70 ?_
                  refine lv_iload_n hx hb dX0_dayGoes_73 rfl (lv_at hl 2 rfl) ?_
                  refine lv_dup2_11 hx hb dX0_dayGoes_74 rfl rfl ?_
                  obtain ⟨v25, e24, h⟩ := obd h
                  refine r_ldi hx hb hK hR (mls_7 hSk hm_b1) e24 dX0_dayGoes_75 ?_
                  refine lv_aload_n hx hb dX0_dayGoes_76 rfl (lv_at hl 0 rfl) ?_
                  refine lv_aload_n hx hb dX0_dayGoes_77 rfl (lv_at hl 1 rfl) ?_
                  refine lv_iload_n hx hb dX0_dayGoes_78 rfl (lv_at hl 2 rfl) ?_
                  obtain ⟨r27, e26, h⟩ := obd h
                  refine rc_V0 (rest := [.int v25, .int x5, .ref (adr G (b1 + 7))]) (st1 := [.ref (adr G r27), .int v25, .int x5, .ref (adr G (b1 + 7))]) hF (w_X0_wayOf hSk b1 x5 hm_b1 e26) (cwV 2 hts (lw_V q730 q732 qs16 q100 q733) rfl rfl rfl hd_X0_wayOf ⟨Nat.le_of_ble_eq_true rfl, Nat.le_of_ble_eq_true rfl⟩) cfX0 (sk_64 hSk) hK hW hR hS rfl hl.1 rfl (Nat.le_of_ble_eq_true rfl) rfl dX0_dayGoes_79 ⟨rfl, rfl⟩ ⟨Nat.zero_le _, Nat.zero_le _⟩ (fun H locs hR hS => ?_)
                  refine lv_aload_n hx hb dX0_dayGoes_82 rfl (lv_at hl 1 rfl) ?_
                  obtain ⟨r29, e28, h⟩ := obd h
                  refine r_W_fades (rest := [.int v25, .int x5, .ref (adr G (b1 + 7))]) hF  hSk  hm_b1 e28 (Nat.le_of_ble_eq_true rfl) (Nat.le_of_ble_eq_true rfl) hK hW hR hS hl.1 (Nat.le_of_ble_eq_true rfl) dX0_dayGoes_83 ⟨Nat.zero_le _, Nat.zero_le _⟩ (fun H locs hR hS => ?_)
                  refine lv_isub hx hb dX0_dayGoes_86 ?_
                  obtain ⟨g31, e30, h⟩ := obd h
                  refine r_sti hx hb hK hR hS (mls_7 hSk hm_b1) e30 dX0_dayGoes_87 (fun H locs hR hS => ?_)
                  refine lv_aload_n hx hb dX0_dayGoes_88 rfl (lv_at hl 1 rfl) ?_
                  refine lv_iload_n hx hb dX0_dayGoes_89 rfl (lv_at hl 2 rfl) ?_
                  obtain ⟨g33, e32, h⟩ := obd h
                  refine rc_V0 (rest := []) (st1 := []) hF (w_X1_settles hSk b1 x5 hm_b1 e32) (cwV 1 hts (lw_V q829 q830 q831 q101 q832) rfl rfl rfl hd_X1_settles ⟨Nat.le_of_ble_eq_true rfl, Nat.le_of_ble_eq_true rfl⟩) cfX1 (mls_0 hSk hm_b1) hK hW hR hS rfl hl.1 rfl (Nat.le_of_ble_eq_true rfl) rfl dX0_dayGoes_90 ⟨rfl, rfl⟩ ⟨Nat.zero_le _, Nat.zero_le _⟩ (fun H locs hR hS => ?_)
                  exact J93 g33 _ _ _ hR hS (lv_sub hl [0, 1, 2] rfl) h
        exact J43 fuel 0 g4 _ _ _ hR hS (lv_sub hl [1, 2, 0] rfl) h
      refine lv_icmp_ge (tgt := 41) hx hb dX0_dayGoes_12 (by decide) (fun c34 => ?_) (fun c34 => ?_)
      · replace h := ifp h c34
        exact J41  _ _ _ hR hS (lv_sub hl [0, 1] rfl) h
      · replace h := ifn h c34
        refine lv_iload_n hx hb dX0_dayGoes_15 rfl (lv_at hl 2 rfl) ?_
        refine lv_iconst (v := (-1)) hx hb dX0_dayGoes_16 ki_m1 ?_
        refine lv_icmp_eq (tgt := 41) hx hb dX0_dayGoes_17 (by decide) (fun c35 => ?_) (fun c35 => ?_)
        · replace h := ifp h c35
          exact J41  _ _ _ hR hS (lv_sub hl [0, 1] rfl) h
        · replace h := ifn h c35
          refine lv_aload_n hx hb dX0_dayGoes_20 rfl (lv_at hl 1 rfl) ?_
          refine lv_iload_n hx hb dX0_dayGoes_21 rfl (lv_at hl 3 rfl) ?_
          obtain ⟨r37, e36, h⟩ := obd h
          refine rc_V0 (rest := []) (st1 := [.int r37]) hF (w_X1_isHung hSk b1 x3 hm_b1 e36) (cwV 1 hts (lw_V q719 q720 q721 q101 q722) rfl rfl rfl hd_X1_isHung ⟨Nat.le_of_ble_eq_true rfl, Nat.le_of_ble_eq_true rfl⟩) cfX1 (mls_0 hSk hm_b1) hK hW hR hS rfl hl.1 rfl (Nat.le_of_ble_eq_true rfl) rfl dX0_dayGoes_22 ⟨rfl, rfl⟩ ⟨Nat.zero_le _, Nat.zero_le _⟩ (fun H locs hR hS => ?_)
          have J35 : ∀ (g38 : GM) (H : Heap) (locs : List Loc) (ls : Array Slot), Rep G sh g38 gl gr n H → va_S (own G) s.heap H locs → lv_has ls 4 [(0, .ref (adr G 64)), (1, .ref (adr G b1)), (2, .int r2), (3, .int x3)] → j_X0_dayGoes_35 x3 (l_X0_dayGoes_7 b1 r2 k7) g38 = some go → W p l e rm_X0_dayGoes s m ([.ref (adr G 64), .ref (adr G b1)] : List Value).toArray below meth c H locs 0 0 (MQ below (QR G none sh go gl gr n) ([.ref (adr G 64), .ref (adr G b1)] : List Value).toArray s rm_X0_dayGoes.cells rm_X0_dayGoes.slots (own G)) (F0 m 35 ls []) := by
            intro g38 H locs ls hR hS hl h
            unfold j_X0_dayGoes_35 at h
            refine lv_iinc (v := x3 + 1) (lv' := [(3, .int (x3 + 1)), (0, .ref (adr G 64)), (1, .ref (adr G b1)), (2, .int r2)]) hx hb dX0_dayGoes_35 hl (k := 3) rfl rfl (by decide) rfl (fun ls hl => ?_)
            refine lv_goto (tgt := 7) hx hb dX0_dayGoes_38 (by decide) ?_
            exact ih7 (x3 + 1) g38 _ _ _ hR hS (lv_sub hl [1, 2, 3, 0] rfl) h
          refine lv_if_ne (tgt := 35) hx hb dX0_dayGoes_25 (by decide) (fun c39 => ?_) (fun c39 => ?_)
          · replace h := ifn h c39
            exact J35 g4 _ _ _ hR hS (lv_sub hl [0, 1, 2, 3] rfl) h
          · replace h := ifp h c39
            refine lv_aload_n hx hb dX0_dayGoes_28 rfl (lv_at hl 0 rfl) ?_
            refine lv_aload_n hx hb dX0_dayGoes_29 rfl (lv_at hl 1 rfl) ?_
            refine lv_iload_n hx hb dX0_dayGoes_30 rfl (lv_at hl 3 rfl) ?_
            refine lv_iload_n hx hb dX0_dayGoes_31 rfl (lv_at hl 2 rfl) ?_
            obtain ⟨g41, e40, h⟩ := obd h
            refine rc_V0 (rest := []) (st1 := []) hF (w_X0_dips hSk b1 x3 r2 hm_b1 e40) (cwV 3 hts (lw_V q825 q827 qs17 q100 q828) rfl rfl rfl hd_X0_dips ⟨Nat.le_of_ble_eq_true rfl, Nat.le_of_ble_eq_true rfl⟩) cfX0 (sk_64 hSk) hK hW hR hS rfl hl.1 rfl (Nat.le_of_ble_eq_true rfl) rfl dX0_dayGoes_32 ⟨rfl, rfl⟩ ⟨Nat.zero_le _, Nat.zero_le _⟩ (fun H locs hR hS => ?_)
            exact J35 g41 _ _ _ hR hS (lv_sub hl [0, 1, 2, 3] rfl) h
  exact J7 fuel 0 g _ _ _ hR hS (lv_sub hl [2, 3, 1, 0] rfl) h
def rm_X0_daysGo : Room := { frames := 9, cells := 0, slots := 0, locals := 349 }
theorem hd_X0_daysGo : yX0_daysGo.cls = "IntentVats" ∧ yX0_daysGo.cls ≠ "java/lang/invoke/MethodHandle" ∧ yX0_daysGo.cls ≠ "java/lang/invoke/VarHandle" ∧ (parseMethodDescriptor yX0_daysGo.desc).map (fun d => d.parameters.length) = some 2 := by decide +kernel
theorem he_X0_daysGo : yX0_daysGo.cls ≠ "java/lang/invoke/MethodHandle" ∧ yX0_daysGo.cls ≠ "java/lang/invoke/VarHandle" ∧ (parseMethodDescriptor yX0_daysGo.desc).map (fun d => d.parameters.length) = some 2 := hd_X0_daysGo.2

set_option maxHeartbeats 4000000 in
set_option maxRecDepth 100000 in
theorem w_X0_daysGo {l : Launch} {G : Gx} {sh : SM} {g : GM} {gl : LM} {gr : RM} {n : Nat} (hSk : Sk sh gr) (b1 : Nat) (a2 : Int32) (hm_b1 : isMl b1) {go : GM} (h : f_X0_daysGo g b1 a2 = some go) : MetI l G yX0_daysGo (ws_ yX0_daysGo cX0_daysGo 4 (Option.none : Option Jvm.ClassFile.FieldType)) rm_X0_daysGo [.ref (adr G 64), .ref (adr G b1), .int a2] sh g gl gr n none sh go gl gr n := by
  refine MetI.of (by decide) (Nat.le_of_ble_eq_true rfl) ?_
  intro p e s m below meth c ls hx hb hr hml hown hts hlk hnm hW hK hR hS hl
  have hown : s.vm.findClass RX0 = some m.cls := hown
  have hF : CallFix p m c cX0_daysGo 4 s ([.ref (adr G 64), .ref (adr G b1), .int a2] : List Value).toArray lw_all RX0 := ⟨hx, hb, hml, hown, hts⟩
  have hl : lv_has ls 4 [(0, .ref (adr G 64)), (1, .ref (adr G b1)), (2, .int a2)] := hl
  unfold f_X0_daysGo at h
  refine lv_iconst (v := 0) hx hb dX0_daysGo_0 ki_0 ?_
  refine lv_istore_n (lv' := [(3, .int 0), (0, .ref (adr G 64)), (1, .ref (adr G b1)), (2, .int a2)]) hx hb dX0_daysGo_1 rfl hl (by decide) rfl (fun ls hl => ?_)
  have J2 : ∀ (k2 : Nat) (x1 : Int32) (g2 : GM) (H : Heap) (locs : List Loc) (ls : Array Slot), Rep G sh g2 gl gr n H → va_S (own G) s.heap H locs → lv_has ls 4 [(0, .ref (adr G 64)), (1, .ref (adr G b1)), (2, .int a2), (3, .int x1)] → l_X0_daysGo_2 b1 a2 k2 x1 g2 = some go → W p l e rm_X0_daysGo s m ([.ref (adr G 64), .ref (adr G b1), .int a2] : List Value).toArray below meth c H locs 0 0 (MQ below (QR G none sh go gl gr n) ([.ref (adr G 64), .ref (adr G b1), .int a2] : List Value).toArray s rm_X0_daysGo.cells rm_X0_daysGo.slots (own G)) (F0 m 2 ls []) := by
    intro k2
    induction k2 with
    | zero => intro _ _ _ _ _ _ _ _; exact nofun
    | succ k2 ih2 =>
      intro x1 g2 H locs ls hR hS hl h
      unfold l_X0_daysGo_2 b_X0_daysGo_2 at h
      refine lv_iload_n hx hb dX0_daysGo_2 rfl (lv_at hl 3 rfl) ?_
      refine lv_iload_n hx hb dX0_daysGo_3 rfl (lv_at hl 2 rfl) ?_
      refine lv_icmp_ge (tgt := 18) hx hb dX0_daysGo_4 (by decide) (fun c3 => ?_) (fun c3 => ?_)
      · replace h := ifp h c3
        obtain rfl := s1i h
        exact r_vret0 hx hb hr hlk hR hS (Nat.zero_le _) (Nat.zero_le _) dX0_daysGo_18
      · replace h := ifn h c3
        refine lv_aload_n hx hb dX0_daysGo_7 rfl (lv_at hl 0 rfl) ?_
        refine lv_aload_n hx hb dX0_daysGo_8 rfl (lv_at hl 1 rfl) ?_
        obtain ⟨g5, e4, h⟩ := obd h
        refine rc_V0 (rest := []) (st1 := []) hF (w_X0_dayGoes hSk b1 hm_b1 e4) (cwV 1 hts (lw_V q849 q851 qs19 q100 q852) rfl rfl rfl hd_X0_dayGoes ⟨Nat.le_of_ble_eq_true rfl, Nat.le_of_ble_eq_true rfl⟩) cfX0 (sk_64 hSk) hK hW hR hS rfl hl.1 rfl (Nat.le_of_ble_eq_true rfl) rfl dX0_daysGo_9 ⟨rfl, rfl⟩ ⟨Nat.zero_le _, Nat.zero_le _⟩ (fun H locs hR hS => ?_)
        refine lv_iinc (v := x1 + 1) (lv' := [(3, .int (x1 + 1)), (0, .ref (adr G 64)), (1, .ref (adr G b1)), (2, .int a2)]) hx hb dX0_daysGo_12 hl (k := 3) rfl rfl (by decide) rfl (fun ls hl => ?_)
        refine lv_goto (tgt := 2) hx hb dX0_daysGo_15 (by decide) ?_
        exact ih2 (x1 + 1) g5 _ _ _ hR hS (lv_sub hl [1, 2, 3, 0] rfl) h
  exact J2 fuel 0 g _ _ _ hR hS (lv_sub hl [1, 2, 3, 0] rfl) h
def rm_X0_days : Room := { frames := 10, cells := 0, slots := 0, locals := 372 }
theorem hd_X0_days : yX0_days.cls = "IntentVats" ∧ yX0_days.cls ≠ "java/lang/invoke/MethodHandle" ∧ yX0_days.cls ≠ "java/lang/invoke/VarHandle" ∧ (parseMethodDescriptor yX0_days.desc).map (fun d => d.parameters.length) = some 1 := by decide +kernel
theorem he_X0_days : yX0_days.cls ≠ "java/lang/invoke/MethodHandle" ∧ yX0_days.cls ≠ "java/lang/invoke/VarHandle" ∧ (parseMethodDescriptor yX0_days.desc).map (fun d => d.parameters.length) = some 1 := hd_X0_days.2

set_option maxHeartbeats 4000000 in
set_option maxRecDepth 100000 in
theorem w_X0_days {l : Launch} {G : Gx} {sh : SM} {g : GM} {gl : LM} {gr : RM} {n : Nat} (hSk : Sk sh gr) (a1 : Int32)  {r : Int32} {go : GM} (h : f_X0_days g a1 = some (r, go)) : MetI l G yX0_days (ws_ yX0_days cX0_days 2 (Option.some Jvm.ClassFile.FieldType.int)) rm_X0_days [.ref (adr G 64), .int a1] sh g gl gr n (some (.int r)) sh go gl gr n := by
  refine MetI.of (by decide) (Nat.le_of_ble_eq_true rfl) ?_
  intro p e s m below meth c ls hx hb hr hml hown hts hlk hnm hW hK hR hS hl
  have hown : s.vm.findClass RX0 = some m.cls := hown
  have hF : CallFix p m c cX0_days 2 s ([.ref (adr G 64), .int a1] : List Value).toArray lw_all RX0 := ⟨hx, hb, hml, hown, hts⟩
  have hl : lv_has ls 2 [(0, .ref (adr G 64)), (1, .int a1)] := hl
  unfold f_X0_days at h
  refine lv_iload_n hx hb dX0_days_0 rfl (lv_at hl 1 rfl) ?_
  refine lv_iconst (v := 1) hx hb dX0_days_1 ki_1 ?_
  refine lv_bipush (v := 60) hx hb dX0_days_2 kb_60 ?_
  obtain ⟨r2, e1, h⟩ := obd h
  refine rc_S0 (rest := []) (st1 := [.int r2]) hF (w_X0_in hSk a1 1 60 e1) (va_cwS 3 hts (lw_S q508 q509 q100 q510) rfl rfl rfl he_X0_in ⟨Nat.le_of_ble_eq_true rfl, Nat.le_of_ble_eq_true rfl⟩) hW hR hS rfl hl.1 rfl (Nat.le_of_ble_eq_true rfl) rfl dX0_days_4 ⟨rfl, rfl⟩ ⟨Nat.zero_le _, Nat.zero_le _⟩ (fun H locs hR hS => ?_)
  refine lv_if_ne (tgt := 12) hx hb dX0_days_7 (by decide) (fun c3 => ?_) (fun c3 => ?_)
  · replace h := ifn h c3
    refine lv_aload_n hx hb dX0_days_12 rfl (lv_at hl 0 rfl) ?_
    refine lv_aload_n hx hb dX0_days_13 rfl (lv_at hl 0 rfl) ?_
    refine r_getr hx hb hts cfX0 hown hK hR (sk_64 hSk) 0 (by decide) rfl (sr_64_0 hSk) (hts _ q449) (fun _ h => h) dX0_days_14 ?_
    refine lv_iload_n hx hb dX0_days_17 rfl (lv_at hl 1 rfl) ?_
    obtain ⟨g5, e4, h⟩ := obd h
    refine rc_V0 (rest := []) (st1 := []) hF (w_X0_daysGo hSk 65 a1 (isMl_65) e4) (cwV 2 hts (lw_V q845 q847 qs18 q100 q848) rfl rfl rfl hd_X0_daysGo ⟨Nat.le_of_ble_eq_true rfl, Nat.le_of_ble_eq_true rfl⟩) cfX0 (sk_64 hSk) hK hW hR hS rfl hl.1 rfl (Nat.le_of_ble_eq_true rfl) rfl dX0_days_18 ⟨rfl, rfl⟩ ⟨Nat.zero_le _, Nat.zero_le _⟩ (fun H locs hR hS => ?_)
    refine lv_aload_n hx hb dX0_days_21 rfl (lv_at hl 0 rfl) ?_
    refine r_getr hx hb hts cfX0 hown hK hR (sk_64 hSk) 0 (by decide) rfl (sr_64_0 hSk) (hts _ q449) (fun _ h => h) dX0_days_22 ?_
    obtain ⟨r7, e6, h⟩ := obd h
    refine rc_V0 (rest := []) (st1 := [.int r7]) hF (w_X1_depths hSk 65 (isMl_65) e6) (cwV 0 hts (lw_V q857 q858 q859 q101 q860) rfl rfl rfl hd_X1_depths ⟨Nat.le_of_ble_eq_true rfl, Nat.le_of_ble_eq_true rfl⟩) cfX1 (sk_65 hSk) hK hW hR hS rfl hl.1 rfl (Nat.le_of_ble_eq_true rfl) rfl dX0_days_25 ⟨rfl, rfl⟩ ⟨Nat.zero_le _, Nat.zero_le _⟩ (fun H locs hR hS => ?_)
    obtain ⟨rfl, rfl⟩ := s2i h
    exact r_iret0 hx hb hr hlk hR hS (Nat.zero_le _) (Nat.zero_le _) dX0_days_28
  · replace h := ifp h c3
    refine lv_iconst (v := (-1)) hx hb dX0_days_10 ki_m1 ?_
    obtain ⟨rfl, rfl⟩ := s2i h
    exact r_iret0 hx hb hr hlk hR hS (Nat.zero_le _) (Nat.zero_le _) dX0_days_11
def rm_X0_seed : Room := { frames := 1, cells := 0, slots := 0, locals := 12 }
theorem hd_X0_seed : yX0_seed.cls = "IntentVats" ∧ yX0_seed.cls ≠ "java/lang/invoke/MethodHandle" ∧ yX0_seed.cls ≠ "java/lang/invoke/VarHandle" ∧ (parseMethodDescriptor yX0_seed.desc).map (fun d => d.parameters.length) = some 1 := by decide +kernel
theorem he_X0_seed : yX0_seed.cls ≠ "java/lang/invoke/MethodHandle" ∧ yX0_seed.cls ≠ "java/lang/invoke/VarHandle" ∧ (parseMethodDescriptor yX0_seed.desc).map (fun d => d.parameters.length) = some 1 := hd_X0_seed.2

set_option maxHeartbeats 4000000 in
set_option maxRecDepth 100000 in
theorem w_X0_seed {l : Launch} {G : Gx} {sh : SM} {g : GM} {gl : LM} {gr : RM} {n : Nat} (hSk : Sk sh gr) (a1 : Int32)  {r : Int32} {go : GM} (h : f_X0_seed g a1 = some (r, go)) : MetI l G yX0_seed (ws_ yX0_seed cX0_seed 3 (Option.some Jvm.ClassFile.FieldType.int)) rm_X0_seed [.ref (adr G 64), .int a1] sh g gl gr n (some (.int r)) sh go gl gr n := by
  refine MetI.of (by decide) (Nat.le_of_ble_eq_true rfl) ?_
  intro p e s m below meth c ls hx hb hr hml hown hts hlk hnm hW hK hR hS hl
  have hown : s.vm.findClass RX0 = some m.cls := hown
  have hF : CallFix p m c cX0_seed 3 s ([.ref (adr G 64), .int a1] : List Value).toArray lw_all RX0 := ⟨hx, hb, hml, hown, hts⟩
  have hl : lv_has ls 3 [(0, .ref (adr G 64)), (1, .int a1)] := hl
  unfold f_X0_seed at h
  refine lv_aload_n hx hb dX0_seed_0 rfl (lv_at hl 0 rfl) ?_
  refine r_getr hx hb hts cfX0 hown hK hR (sk_64 hSk) 0 (by decide) rfl (sr_64_0 hSk) (hts _ q449) (fun _ h => h) dX0_seed_1 ?_
  refine r_getiN hx hb hts cfX1 hown hK hR (sk_65 hSk) 3 (by decide) rfl (hW.nestF q160) (fun _ h => h) dX0_seed_4 ?_
  refine lv_istore_n (lv' := [(2, .int (g 65 3)), (0, .ref (adr G 64)), (1, .int a1)]) hx hb dX0_seed_7 rfl hl (by decide) rfl (fun ls hl => ?_)
  refine lv_aload_n hx hb dX0_seed_8 rfl (lv_at hl 1 rfl) ?_
  refine r_getr hx hb hts cfX0 hown hK hR (sk_64 hSk) 0 (by decide) rfl (sr_64_0 hSk) (hts _ q449) (fun _ h => h) dX0_seed_9 ?_
  refine lv_iload_n hx hb dX0_seed_12 rfl (lv_at hl 2 rfl) ?_
  obtain ⟨g2, e1, h⟩ := obd h
  refine r_putiN hx hb hts cfX1 hown hK hR hS (sk_65 hSk) 3 (by decide) rfl (hW.nestF q160) (fun _ h => h) rfl rfl rfl e1 dX0_seed_13 (fun H locs hR hS => ?_)
  refine lv_iload_n hx hb dX0_seed_16 rfl (lv_at hl 0 rfl) ?_
  obtain ⟨rfl, rfl⟩ := s2i h
  exact r_iret0 hx hb hr hlk hR hS (Nat.zero_le _) (Nat.zero_le _) dX0_seed_17
def rm_X0_dayByDraws : Room := { frames := 9, cells := 0, slots := 0, locals := 349 }
theorem hd_X0_dayByDraws : yX0_dayByDraws.cls = "IntentVats" ∧ yX0_dayByDraws.cls ≠ "java/lang/invoke/MethodHandle" ∧ yX0_dayByDraws.cls ≠ "java/lang/invoke/VarHandle" ∧ (parseMethodDescriptor yX0_dayByDraws.desc).map (fun d => d.parameters.length) = some 1 := by decide +kernel
theorem he_X0_dayByDraws : yX0_dayByDraws.cls ≠ "java/lang/invoke/MethodHandle" ∧ yX0_dayByDraws.cls ≠ "java/lang/invoke/VarHandle" ∧ (parseMethodDescriptor yX0_dayByDraws.desc).map (fun d => d.parameters.length) = some 1 := hd_X0_dayByDraws.2

set_option maxHeartbeats 4000000 in
set_option maxRecDepth 100000 in
theorem w_X0_dayByDraws {l : Launch} {G : Gx} {sh : SM} {g : GM} {gl : LM} {gr : RM} {n : Nat} (hSk : Sk sh gr) (b1 : Nat) (hm_b1 : isMl b1) {go : GM} (h : f_X0_dayByDraws g b1 = some go) : MetI l G yX0_dayByDraws (ws_ yX0_dayByDraws cX0_dayByDraws 3 (Option.none : Option Jvm.ClassFile.FieldType)) rm_X0_dayByDraws [.ref (adr G 64), .ref (adr G b1)] sh g gl gr n none sh go gl gr n := by
  refine MetI.of (by decide) (Nat.le_of_ble_eq_true rfl) ?_
  intro p e s m below meth c ls hx hb hr hml hown hts hlk hnm hW hK hR hS hl
  have hown : s.vm.findClass RX0 = some m.cls := hown
  have hF : CallFix p m c cX0_dayByDraws 3 s ([.ref (adr G 64), .ref (adr G b1)] : List Value).toArray lw_all RX0 := ⟨hx, hb, hml, hown, hts⟩
  have hl : lv_has ls 3 [(0, .ref (adr G 64)), (1, .ref (adr G b1))] := hl
  unfold f_X0_dayByDraws at h
  refine lv_aload_n hx hb dX0_dayByDraws_0 rfl (lv_at hl 1 rfl) ?_
  refine r_getiN hx hb hts cfX1 hown hK hR (mls_0 hSk hm_b1) 0 (by decide) rfl (hW.nestF q153) (fun _ h => h) dX0_dayByDraws_1 ?_
  have J46 : ∀ (g1 : GM) (H : Heap) (locs : List Loc) (ls : Array Slot), Rep G sh g1 gl gr n H → va_S (own G) s.heap H locs → lv_has ls 3 [(0, .ref (adr G 64)), (1, .ref (adr G b1))] → j_X0_dayByDraws_46 b1 g1 = some go → W p l e rm_X0_dayByDraws s m ([.ref (adr G 64), .ref (adr G b1)] : List Value).toArray below meth c H locs 0 0 (MQ below (QR G none sh go gl gr n) ([.ref (adr G 64), .ref (adr G b1)] : List Value).toArray s rm_X0_dayByDraws.cells rm_X0_dayByDraws.slots (own G)) (F0 m 46 ls []) := by
    intro g1 H locs ls hR hS hl h
    unfold j_X0_dayByDraws_46 at h
    refine lv_aload_n hx hb dX0_dayByDraws_46 rfl (lv_at hl 0 rfl) ?_
    refine lv_aload_n hx hb dX0_dayByDraws_47 rfl (lv_at hl 1 rfl) ?_
    obtain ⟨g3, e2, h⟩ := obd h
    refine rc_V0 (rest := []) (st1 := []) hF (w_X0_dayGoes hSk b1 hm_b1 e2) (cwV 1 hts (lw_V q849 q851 qs19 q100 q852) rfl rfl rfl hd_X0_dayGoes ⟨Nat.le_of_ble_eq_true rfl, Nat.le_of_ble_eq_true rfl⟩) cfX0 (sk_64 hSk) hK hW hR hS rfl hl.1 rfl (Nat.le_of_ble_eq_true rfl) rfl dX0_dayByDraws_48 ⟨rfl, rfl⟩ ⟨Nat.zero_le _, Nat.zero_le _⟩ (fun H locs hR hS => ?_)
    obtain rfl := s1i h
    exact r_vret0 hx hb hr hlk hR hS (Nat.zero_le _) (Nat.zero_le _) dX0_dayByDraws_51
  refine lv_if_le (tgt := 46) hx hb dX0_dayByDraws_4 (by decide) (fun c4 => ?_) (fun c4 => ?_)
  · replace h := ifp h c4
    exact J46 g _ _ _ hR hS (lv_sub hl [0, 1] rfl) h
  · replace h := ifn h c4
    refine lv_aload_n hx hb dX0_dayByDraws_7 rfl (lv_at hl 1 rfl) ?_
    obtain ⟨r6, g7, e5, h⟩ := obd2 h
    refine rc_V0 (rest := []) (st1 := [.int r6]) hF (w_X1_draw hSk b1 hm_b1 e5) (cwV 0 hts (lw_V q873 q874 q875 q101 q876) rfl rfl rfl hd_X1_draw ⟨Nat.le_of_ble_eq_true rfl, Nat.le_of_ble_eq_true rfl⟩) cfX1 (mls_0 hSk hm_b1) hK hW hR hS rfl hl.1 rfl (Nat.le_of_ble_eq_true rfl) rfl dX0_dayByDraws_8 ⟨rfl, rfl⟩ ⟨Nat.zero_le _, Nat.zero_le _⟩ (fun H locs hR hS => ?_)
    refine lv_aload_n hx hb dX0_dayByDraws_11 rfl (lv_at hl 1 rfl) ?_
    refine r_getiN hx hb hts cfX1 hown hK hR (mls_0 hSk hm_b1) 0 (by decide) rfl (hW.nestF q153) (fun _ h => h) dX0_dayByDraws_12 ?_
    obtain ⟨c8, h⟩ := ogrd h
    refine lv_irem hx hb dX0_dayByDraws_15 c8 ?_
    refine lv_istore_n (lv' := [(2, .int (r6 - r6 / (g7 b1 0) * (g7 b1 0))), (0, .ref (adr G 64)), (1, .ref (adr G b1))]) hx hb dX0_dayByDraws_16 rfl hl (by decide) rfl (fun ls hl => ?_)
    refine lv_aload_n hx hb dX0_dayByDraws_17 rfl (lv_at hl 2 rfl) ?_
    obtain ⟨r10, g11, e9, h⟩ := obd2 h
    refine rc_V0 (rest := []) (st1 := [.int r10]) hF (w_X1_draw hSk b1 hm_b1 e9) (cwV 0 hts (lw_V q873 q874 q875 q101 q876) rfl rfl rfl hd_X1_draw ⟨Nat.le_of_ble_eq_true rfl, Nat.le_of_ble_eq_true rfl⟩) cfX1 (mls_0 hSk hm_b1) hK hW hR hS rfl hl.1 rfl (Nat.le_of_ble_eq_true rfl) rfl dX0_dayByDraws_18 ⟨rfl, rfl⟩ ⟨Nat.zero_le _, Nat.zero_le _⟩ (fun H locs hR hS => ?_)
    refine lv_bipush (v := 100) hx hb dX0_dayByDraws_21 kb_100 ?_
    refine lv_irem hx hb dX0_dayByDraws_23 (by decide) ?_
    refine lv_aload_n hx hb dX0_dayByDraws_24 rfl (lv_at hl 2 rfl) ?_
    refine r_getrN hx hb hts cfX1 hown hK hR (mls_0 hSk hm_b1) 4 (by decide) rfl (mlr_4 hSk hm_b1) (hW.nestF q169) (fun _ h => h) dX0_dayByDraws_25 ?_
    refine lv_iconst (v := 3) hx hb dX0_dayByDraws_28 ki_3 ?_
    obtain ⟨v13, e12, h⟩ := obd h
    refine r_ldi hx hb hK hR (mls_1 hSk hm_b1) e12 dX0_dayByDraws_29 ?_
    refine lv_icmp_ge (tgt := 46) hx hb dX0_dayByDraws_30 (by decide) (fun c14 => ?_) (fun c14 => ?_)
    · replace h := ifp h c14
      exact J46 g11 _ _ _ hR hS (lv_sub hl [1, 2] rfl) h
    · replace h := ifn h c14
      refine lv_aload_n hx hb dX0_dayByDraws_33 rfl (lv_at hl 1 rfl) ?_
      refine lv_aload_n hx hb dX0_dayByDraws_34 rfl (lv_at hl 2 rfl) ?_
      refine lv_iload_n hx hb dX0_dayByDraws_35 rfl (lv_at hl 0 rfl) ?_
      refine lv_aload_n hx hb dX0_dayByDraws_36 rfl (lv_at hl 2 rfl) ?_
      obtain ⟨r16, g17, e15, h⟩ := obd2 h
      refine rc_V0 (rest := [.int (r6 - r6 / (g7 b1 0) * (g7 b1 0)), .ref (adr G b1), .ref (adr G 64)]) (st1 := [.int r16, .int (r6 - r6 / (g7 b1 0) * (g7 b1 0)), .ref (adr G b1), .ref (adr G 64)]) hF (w_X1_draw hSk b1 hm_b1 e15) (cwV 0 hts (lw_V q873 q874 q875 q101 q876) rfl rfl rfl hd_X1_draw ⟨Nat.le_of_ble_eq_true rfl, Nat.le_of_ble_eq_true rfl⟩) cfX1 (mls_0 hSk hm_b1) hK hW hR hS rfl hl.1 rfl (Nat.le_of_ble_eq_true rfl) rfl dX0_dayByDraws_37 ⟨rfl, rfl⟩ ⟨Nat.zero_le _, Nat.zero_le _⟩ (fun H locs hR hS => ?_)
      refine lv_bipush (v := 8) hx hb dX0_dayByDraws_40 kb_8 ?_
      refine lv_irem hx hb dX0_dayByDraws_42 (by decide) ?_
      obtain ⟨g19, e18, h⟩ := obd h
      refine rc_V0 (rest := []) (st1 := []) hF (w_X0_dips hSk b1 (r6 - r6 / (g7 b1 0) * (g7 b1 0)) (r16 - r16 / 8 * 8) hm_b1 e18) (cwV 3 hts (lw_V q825 q827 qs17 q100 q828) rfl rfl rfl hd_X0_dips ⟨Nat.le_of_ble_eq_true rfl, Nat.le_of_ble_eq_true rfl⟩) cfX0 (sk_64 hSk) hK hW hR hS rfl hl.1 rfl (Nat.le_of_ble_eq_true rfl) rfl dX0_dayByDraws_43 ⟨rfl, rfl⟩ ⟨Nat.zero_le _, Nat.zero_le _⟩ (fun H locs hR hS => ?_)
      exact J46 g19 _ _ _ hR hS (lv_sub hl [1, 2] rfl) h
def rm_X0_day : Room := { frames := 10, cells := 0, slots := 0, locals := 371 }
theorem hd_X0_day : yX0_day.cls = "IntentVats" ∧ yX0_day.cls ≠ "java/lang/invoke/MethodHandle" ∧ yX0_day.cls ≠ "java/lang/invoke/VarHandle" ∧ (parseMethodDescriptor yX0_day.desc).map (fun d => d.parameters.length) = some 0 := by decide +kernel
theorem he_X0_day : yX0_day.cls ≠ "java/lang/invoke/MethodHandle" ∧ yX0_day.cls ≠ "java/lang/invoke/VarHandle" ∧ (parseMethodDescriptor yX0_day.desc).map (fun d => d.parameters.length) = some 0 := hd_X0_day.2

set_option maxHeartbeats 4000000 in
set_option maxRecDepth 100000 in
theorem w_X0_day {l : Launch} {G : Gx} {sh : SM} {g : GM} {gl : LM} {gr : RM} {n : Nat} (hSk : Sk sh gr)   {r : Int32} {go : GM} (h : f_X0_day g  = some (r, go)) : MetI l G yX0_day (ws_ yX0_day cX0_day 1 (Option.some Jvm.ClassFile.FieldType.int)) rm_X0_day [.ref (adr G 64)] sh g gl gr n (some (.int r)) sh go gl gr n := by
  refine MetI.of (by decide) (Nat.le_of_ble_eq_true rfl) ?_
  intro p e s m below meth c ls hx hb hr hml hown hts hlk hnm hW hK hR hS hl
  have hown : s.vm.findClass RX0 = some m.cls := hown
  have hF : CallFix p m c cX0_day 1 s ([.ref (adr G 64)] : List Value).toArray lw_all RX0 := ⟨hx, hb, hml, hown, hts⟩
  have hl : lv_has ls 1 [(0, .ref (adr G 64))] := hl
  unfold f_X0_day at h
  refine lv_aload_n hx hb dX0_day_0 rfl (lv_at hl 0 rfl) ?_
  refine lv_aload_n hx hb dX0_day_1 rfl (lv_at hl 0 rfl) ?_
  refine r_getr hx hb hts cfX0 hown hK hR (sk_64 hSk) 0 (by decide) rfl (sr_64_0 hSk) (hts _ q449) (fun _ h => h) dX0_day_2 ?_
  obtain ⟨g2, e1, h⟩ := obd h
  refine rc_V0 (rest := []) (st1 := []) hF (w_X0_dayByDraws hSk 65 (isMl_65) e1) (cwV 1 hts (lw_V q869 q871 qs20 q100 q872) rfl rfl rfl hd_X0_dayByDraws ⟨Nat.le_of_ble_eq_true rfl, Nat.le_of_ble_eq_true rfl⟩) cfX0 (sk_64 hSk) hK hW hR hS rfl hl.1 rfl (Nat.le_of_ble_eq_true rfl) rfl dX0_day_5 ⟨rfl, rfl⟩ ⟨Nat.zero_le _, Nat.zero_le _⟩ (fun H locs hR hS => ?_)
  refine lv_aload_n hx hb dX0_day_8 rfl (lv_at hl 0 rfl) ?_
  refine r_getr hx hb hts cfX0 hown hK hR (sk_64 hSk) 0 (by decide) rfl (sr_64_0 hSk) (hts _ q449) (fun _ h => h) dX0_day_9 ?_
  obtain ⟨r4, e3, h⟩ := obd h
  refine rc_V0 (rest := []) (st1 := [.int r4]) hF (w_X1_depths hSk 65 (isMl_65) e3) (cwV 0 hts (lw_V q857 q858 q859 q101 q860) rfl rfl rfl hd_X1_depths ⟨Nat.le_of_ble_eq_true rfl, Nat.le_of_ble_eq_true rfl⟩) cfX1 (sk_65 hSk) hK hW hR hS rfl hl.1 rfl (Nat.le_of_ble_eq_true rfl) rfl dX0_day_12 ⟨rfl, rfl⟩ ⟨Nat.zero_le _, Nat.zero_le _⟩ (fun H locs hR hS => ?_)
  obtain ⟨rfl, rfl⟩ := s2i h
  exact r_iret0 hx hb hr hlk hR hS (Nat.zero_le _) (Nat.zero_le _) dX0_day_15
def rm_X0_luck : Room := { frames := 10, cells := 0, slots := 0, locals := 371 }
theorem hd_X0_luck : yX0_luck.cls = "IntentVats" ∧ yX0_luck.cls ≠ "java/lang/invoke/MethodHandle" ∧ yX0_luck.cls ≠ "java/lang/invoke/VarHandle" ∧ (parseMethodDescriptor yX0_luck.desc).map (fun d => d.parameters.length) = some 1 := by decide +kernel
theorem he_X0_luck : yX0_luck.cls ≠ "java/lang/invoke/MethodHandle" ∧ yX0_luck.cls ≠ "java/lang/invoke/VarHandle" ∧ (parseMethodDescriptor yX0_luck.desc).map (fun d => d.parameters.length) = some 1 := hd_X0_luck.2

set_option maxHeartbeats 4000000 in
set_option maxRecDepth 100000 in
theorem w_X0_luck {l : Launch} {G : Gx} {sh : SM} {g : GM} {gl : LM} {gr : RM} {n : Nat} (hSk : Sk sh gr) (a1 : Int32)  {r : Int32} {go : GM} (h : f_X0_luck g a1 = some (r, go)) : MetI l G yX0_luck (ws_ yX0_luck cX0_luck 6 (Option.some Jvm.ClassFile.FieldType.int)) rm_X0_luck [.ref (adr G 64), .int a1] sh g gl gr n (some (.int r)) sh go gl gr n := by
  refine MetI.of (by decide) (Nat.le_of_ble_eq_true rfl) ?_
  intro p e s m below meth c ls hx hb hr hml hown hts hlk hnm hW hK hR hS hl
  have hown : s.vm.findClass RX0 = some m.cls := hown
  have hF : CallFix p m c cX0_luck 6 s ([.ref (adr G 64), .int a1] : List Value).toArray lw_all RX0 := ⟨hx, hb, hml, hown, hts⟩
  have hl : lv_has ls 6 [(0, .ref (adr G 64)), (1, .int a1)] := hl
  unfold f_X0_luck at h
  refine lv_iload_n hx hb dX0_luck_0 rfl (lv_at hl 1 rfl) ?_
  refine lv_iconst (v := 1) hx hb dX0_luck_1 ki_1 ?_
  refine lv_bipush (v := 30) hx hb dX0_luck_2 kb_30 ?_
  obtain ⟨r2, e1, h⟩ := obd h
  refine rc_S0 (rest := []) (st1 := [.int r2]) hF (w_X0_in hSk a1 1 30 e1) (va_cwS 3 hts (lw_S q508 q509 q100 q510) rfl rfl rfl he_X0_in ⟨Nat.le_of_ble_eq_true rfl, Nat.le_of_ble_eq_true rfl⟩) hW hR hS rfl hl.1 rfl (Nat.le_of_ble_eq_true rfl) rfl dX0_luck_4 ⟨rfl, rfl⟩ ⟨Nat.zero_le _, Nat.zero_le _⟩ (fun H locs hR hS => ?_)
  refine lv_if_ne (tgt := 12) hx hb dX0_luck_7 (by decide) (fun c3 => ?_) (fun c3 => ?_)
  · replace h := ifn h c3
    refine lv_aload_n hx hb dX0_luck_12 rfl (lv_at hl 0 rfl) ?_
    refine r_getr hx hb hts cfX0 hown hK hR (sk_64 hSk) 3 (by decide) rfl (sr_64_3 hSk) (hts _ q452) (fun _ h => h) dX0_luck_13 ?_
    refine lv_aload_n hx hb dX0_luck_16 rfl (lv_at hl 0 rfl) ?_
    refine r_getr hx hb hts cfX0 hown hK hR (sk_64 hSk) 0 (by decide) rfl (sr_64_0 hSk) (hts _ q449) (fun _ h => h) dX0_luck_17 ?_
    obtain ⟨g5, e4, h⟩ := obd h
    refine rc_V0 (rest := []) (st1 := []) hF (w_X1_become hSk 92 65 (isMl_92) (isMl_65) e4) (cwV 1 hts (lw_V q516 q517 q518 q101 q519) rfl rfl rfl hd_X1_become ⟨Nat.le_of_ble_eq_true rfl, Nat.le_of_ble_eq_true rfl⟩) cfX1 (sk_92 hSk) hK hW hR hS rfl hl.1 rfl (Nat.le_of_ble_eq_true rfl) rfl dX0_luck_20 ⟨rfl, rfl⟩ ⟨Nat.zero_le _, Nat.zero_le _⟩ (fun H locs hR hS => ?_)
    refine lv_aload_n hx hb dX0_luck_23 rfl (lv_at hl 0 rfl) ?_
    refine lv_aload_n hx hb dX0_luck_24 rfl (lv_at hl 0 rfl) ?_
    refine r_getr hx hb hts cfX0 hown hK hR (sk_64 hSk) 3 (by decide) rfl (sr_64_3 hSk) (hts _ q452) (fun _ h => h) dX0_luck_25 ?_
    obtain ⟨g7, e6, h⟩ := obd h
    refine rc_V0 (rest := []) (st1 := []) hF (w_X0_dayGoes hSk 92 (isMl_92) e6) (cwV 1 hts (lw_V q849 q851 qs19 q100 q852) rfl rfl rfl hd_X0_dayGoes ⟨Nat.le_of_ble_eq_true rfl, Nat.le_of_ble_eq_true rfl⟩) cfX0 (sk_64 hSk) hK hW hR hS rfl hl.1 rfl (Nat.le_of_ble_eq_true rfl) rfl dX0_luck_28 ⟨rfl, rfl⟩ ⟨Nat.zero_le _, Nat.zero_le _⟩ (fun H locs hR hS => ?_)
    refine lv_aload_n hx hb dX0_luck_31 rfl (lv_at hl 0 rfl) ?_
    refine r_getr hx hb hts cfX0 hown hK hR (sk_64 hSk) 3 (by decide) rfl (sr_64_3 hSk) (hts _ q452) (fun _ h => h) dX0_luck_32 ?_
    obtain ⟨r9, e8, h⟩ := obd h
    refine rc_V0 (rest := []) (st1 := [.int r9]) hF (w_X1_depths hSk 92 (isMl_92) e8) (cwV 0 hts (lw_V q857 q858 q859 q101 q860) rfl rfl rfl hd_X1_depths ⟨Nat.le_of_ble_eq_true rfl, Nat.le_of_ble_eq_true rfl⟩) cfX1 (sk_92 hSk) hK hW hR hS rfl hl.1 rfl (Nat.le_of_ble_eq_true rfl) rfl dX0_luck_35 ⟨rfl, rfl⟩ ⟨Nat.zero_le _, Nat.zero_le _⟩ (fun H locs hR hS => ?_)
    refine lv_istore_n (lv' := [(2, .int r9), (0, .ref (adr G 64)), (1, .int a1)]) hx hb dX0_luck_38 rfl hl (by decide) rfl (fun ls hl => ?_)
    refine lv_iconst (v := 0) hx hb dX0_luck_39 ki_0 ?_
    refine lv_istore_n (lv' := [(3, .int 0), (2, .int r9), (0, .ref (adr G 64)), (1, .int a1)]) hx hb dX0_luck_40 rfl hl (by decide) rfl (fun ls hl => ?_)
    refine lv_aload_n hx hb dX0_luck_41 rfl (lv_at hl 2 rfl) ?_
    refine r_getr hx hb hts cfX0 hown hK hR (sk_64 hSk) 0 (by decide) rfl (sr_64_0 hSk) (hts _ q449) (fun _ h => h) dX0_luck_42 ?_
    refine r_getiN hx hb hts cfX1 hown hK hR (sk_65 hSk) 3 (by decide) rfl (hW.nestF q160) (fun _ h => h) dX0_luck_45 ?_
    refine lv_istore (lv' := [(4, .int (g7 65 3)), (3, .int 0), (2, .int r9), (0, .ref (adr G 64)), (1, .int a1)]) hx hb dX0_luck_48 hl (by decide) rfl (fun ls hl => ?_)
    refine lv_iconst (v := 0) hx hb dX0_luck_50 ki_0 ?_
    refine lv_istore (lv' := [(5, .int 0), (4, .int (g7 65 3)), (3, .int 0), (2, .int r9), (0, .ref (adr G 64)), (1, .int a1)]) hx hb dX0_luck_51 hl (by decide) rfl (fun ls hl => ?_)
    have J53 : ∀ (k53 : Nat) (x10 : Int32) (x11 : Int32) (x12 : Int32) (g13 : GM) (H : Heap) (locs : List Loc) (ls : Array Slot), Rep G sh g13 gl gr n H → va_S (own G) s.heap H locs → lv_has ls 6 [(0, .ref (adr G 64)), (1, .int a1), (2, .int r9), (3, .int x10), (4, .int x11), (5, .int x12)] → l_X0_luck_53 a1 r9 k53 x10 x11 x12 g13 = some (r, go) → W p l e rm_X0_luck s m ([.ref (adr G 64), .int a1] : List Value).toArray below meth c H locs 0 0 (MQ below (QR G (some (.int r)) sh go gl gr n) ([.ref (adr G 64), .int a1] : List Value).toArray s rm_X0_luck.cells rm_X0_luck.slots (own G)) (F0 m 53 ls []) := by
      intro k53
      induction k53 with
      | zero => intro _ _ _ _ _ _ _ _ _ _; exact nofun
      | succ k53 ih53 =>
        intro x10 x11 x12 g13 H locs ls hR hS hl h
        unfold l_X0_luck_53 b_X0_luck_53 at h
        refine lv_iload hx hb dX0_luck_53 (lv_at hl 5 rfl) ?_
        refine lv_iload_n hx hb dX0_luck_55 rfl (lv_at hl 1 rfl) ?_
        refine lv_icmp_ge (tgt := 121) hx hb dX0_luck_56 (by decide) (fun c14 => ?_) (fun c14 => ?_)
        · replace h := ifp h c14
          refine lv_iload_n hx hb dX0_luck_121 rfl (lv_at hl 3 rfl) ?_
          obtain ⟨rfl, rfl⟩ := s2i h
          exact r_iret0 hx hb hr hlk hR hS (Nat.zero_le _) (Nat.zero_le _) dX0_luck_122
        · replace h := ifn h c14
          refine lv_aload_n hx hb dX0_luck_59 rfl (lv_at hl 0 rfl) ?_
          refine r_getr hx hb hts cfX0 hown hK hR (sk_64 hSk) 3 (by decide) rfl (sr_64_3 hSk) (hts _ q452) (fun _ h => h) dX0_luck_60 ?_
          refine lv_aload_n hx hb dX0_luck_63 rfl (lv_at hl 0 rfl) ?_
          refine r_getr hx hb hts cfX0 hown hK hR (sk_64 hSk) 0 (by decide) rfl (sr_64_0 hSk) (hts _ q449) (fun _ h => h) dX0_luck_64 ?_
          obtain ⟨g16, e15, h⟩ := obd h
          refine rc_V0 (rest := []) (st1 := []) hF (w_X1_become hSk 92 65 (isMl_92) (isMl_65) e15) (cwV 1 hts (lw_V q516 q517 q518 q101 q519) rfl rfl rfl hd_X1_become ⟨Nat.le_of_ble_eq_true rfl, Nat.le_of_ble_eq_true rfl⟩) cfX1 (sk_92 hSk) hK hW hR hS rfl hl.1 rfl (Nat.le_of_ble_eq_true rfl) rfl dX0_luck_67 ⟨rfl, rfl⟩ ⟨Nat.zero_le _, Nat.zero_le _⟩ (fun H locs hR hS => ?_)
          refine lv_aload_n hx hb dX0_luck_70 rfl (lv_at hl 0 rfl) ?_
          refine r_getr hx hb hts cfX0 hown hK hR (sk_64 hSk) 3 (by decide) rfl (sr_64_3 hSk) (hts _ q452) (fun _ h => h) dX0_luck_71 ?_
          refine lv_iload hx hb dX0_luck_74 (lv_at hl 4 rfl) ?_
          obtain ⟨g18, e17, h⟩ := obd h
          refine r_putiN hx hb hts cfX1 hown hK hR hS (sk_92 hSk) 3 (by decide) rfl (hW.nestF q160) (fun _ h => h) rfl rfl rfl e17 dX0_luck_76 (fun H locs hR hS => ?_)
          refine lv_aload_n hx hb dX0_luck_79 rfl (lv_at hl 0 rfl) ?_
          refine lv_aload_n hx hb dX0_luck_80 rfl (lv_at hl 0 rfl) ?_
          refine r_getr hx hb hts cfX0 hown hK hR (sk_64 hSk) 3 (by decide) rfl (sr_64_3 hSk) (hts _ q452) (fun _ h => h) dX0_luck_81 ?_
          obtain ⟨g20, e19, h⟩ := obd h
          refine rc_V0 (rest := []) (st1 := []) hF (w_X0_dayByDraws hSk 92 (isMl_92) e19) (cwV 1 hts (lw_V q869 q871 qs20 q100 q872) rfl rfl rfl hd_X0_dayByDraws ⟨Nat.le_of_ble_eq_true rfl, Nat.le_of_ble_eq_true rfl⟩) cfX0 (sk_64 hSk) hK hW hR hS rfl hl.1 rfl (Nat.le_of_ble_eq_true rfl) rfl dX0_luck_84 ⟨rfl, rfl⟩ ⟨Nat.zero_le _, Nat.zero_le _⟩ (fun H locs hR hS => ?_)
          refine lv_iload_n hx hb dX0_luck_87 rfl (lv_at hl 3 rfl) ?_
          refine lv_aload_n hx hb dX0_luck_88 rfl (lv_at hl 0 rfl) ?_
          refine r_getr hx hb hts cfX0 hown hK hR (sk_64 hSk) 3 (by decide) rfl (sr_64_3 hSk) (hts _ q452) (fun _ h => h) dX0_luck_89 ?_
          obtain ⟨r22, e21, h⟩ := obd h
          refine rc_V0 (rest := [.int x10]) (st1 := [.int r22, .int x10]) hF (w_X1_depths hSk 92 (isMl_92) e21) (cwV 0 hts (lw_V q857 q858 q859 q101 q860) rfl rfl rfl hd_X1_depths ⟨Nat.le_of_ble_eq_true rfl, Nat.le_of_ble_eq_true rfl⟩) cfX1 (sk_92 hSk) hK hW hR hS rfl hl.1 rfl (Nat.le_of_ble_eq_true rfl) rfl dX0_luck_92 ⟨rfl, rfl⟩ ⟨Nat.zero_le _, Nat.zero_le _⟩ (fun H locs hR hS => ?_)
          refine lv_iload_n hx hb dX0_luck_95 rfl (lv_at hl 2 rfl) ?_
          have J104 : ∀ (x23 : Int32) (H : Heap) (locs : List Loc) (ls : Array Slot), Rep G sh g20 gl gr n H → va_S (own G) s.heap H locs → lv_has ls 6 [(0, .ref (adr G 64)), (1, .int a1), (2, .int r9), (5, .int x12)] → j_X0_luck_104 x10 x12 (l_X0_luck_53 a1 r9 k53) g20 x23 = some (r, go) → W p l e rm_X0_luck s m ([.ref (adr G 64), .int a1] : List Value).toArray below meth c H locs 0 0 (MQ below (QR G (some (.int r)) sh go gl gr n) ([.ref (adr G 64), .int a1] : List Value).toArray s rm_X0_luck.cells rm_X0_luck.slots (own G)) (F0 m 104 ls [.int x23, .int x10]) := by
            intro x23 H locs ls hR hS hl h
            unfold j_X0_luck_104 at h
            refine lv_iadd hx hb dX0_luck_104 ?_
            refine lv_istore_n (lv' := [(3, .int (x10 + x23)), (0, .ref (adr G 64)), (1, .int a1), (2, .int r9), (5, .int x12)]) hx hb dX0_luck_105 rfl hl (by decide) rfl (fun ls hl => ?_)
            refine lv_aload_n hx hb dX0_luck_106 rfl (lv_at hl 1 rfl) ?_
            refine r_getr hx hb hts cfX0 hown hK hR (sk_64 hSk) 3 (by decide) rfl (sr_64_3 hSk) (hts _ q452) (fun _ h => h) dX0_luck_107 ?_
            refine r_getiN hx hb hts cfX1 hown hK hR (sk_92 hSk) 3 (by decide) rfl (hW.nestF q160) (fun _ h => h) dX0_luck_110 ?_
            refine lv_istore (lv' := [(4, .int (g20 92 3)), (3, .int (x10 + x23)), (0, .ref (adr G 64)), (1, .int a1), (2, .int r9), (5, .int x12)]) hx hb dX0_luck_113 hl (by decide) rfl (fun ls hl => ?_)
            refine lv_iinc (v := x12 + 1) (lv' := [(5, .int (x12 + 1)), (4, .int (g20 92 3)), (3, .int (x10 + x23)), (0, .ref (adr G 64)), (1, .int a1), (2, .int r9)]) hx hb dX0_luck_115 hl (k := 5) rfl rfl (by decide) rfl (fun ls hl => ?_)
            refine lv_goto (tgt := 53) hx hb dX0_luck_118 (by decide) ?_
            exact ih53 (x10 + x23) (g20 92 3) (x12 + 1) g20 _ _ _ hR hS (lv_sub hl [3, 4, 5, 2, 1, 0] rfl) h
          refine lv_icmp_le (tgt := 103) hx hb dX0_luck_96 (by decide) (fun c24 => ?_) (fun c24 => ?_)
          · replace h := ifp h c24
            refine lv_iconst (v := 0) hx hb dX0_luck_103 ki_0 ?_
            exact J104 0 _ _ _ hR hS (lv_sub hl [0, 1, 2, 5] rfl) h
          · replace h := ifn h c24
            refine lv_iconst (v := 1) hx hb dX0_luck_99 ki_1 ?_
            refine lv_goto (tgt := 104) hx hb dX0_luck_100 (by decide) ?_
            exact J104 1 _ _ _ hR hS (lv_sub hl [0, 1, 2, 5] rfl) h
    exact J53 fuel 0 (g7 65 3) 0 g7 _ _ _ hR hS (lv_sub hl [4, 5, 3, 2, 1, 0] rfl) h
  · replace h := ifp h c3
    refine lv_iconst (v := (-1)) hx hb dX0_luck_10 ki_m1 ?_
    obtain ⟨rfl, rfl⟩ := s2i h
    exact r_iret0 hx hb hr hlk hR hS (Nat.zero_le _) (Nat.zero_le _) dX0_luck_11
def rm_X0_state : Room := { frames := 5, cells := 0, slots := 0, locals := 99 }
theorem hd_X0_state : yX0_state.cls = "IntentVats" ∧ yX0_state.cls ≠ "java/lang/invoke/MethodHandle" ∧ yX0_state.cls ≠ "java/lang/invoke/VarHandle" ∧ (parseMethodDescriptor yX0_state.desc).map (fun d => d.parameters.length) = some 1 := by decide +kernel
theorem he_X0_state : yX0_state.cls ≠ "java/lang/invoke/MethodHandle" ∧ yX0_state.cls ≠ "java/lang/invoke/VarHandle" ∧ (parseMethodDescriptor yX0_state.desc).map (fun d => d.parameters.length) = some 1 := hd_X0_state.2

set_option maxHeartbeats 4000000 in
set_option maxRecDepth 100000 in
theorem w_X0_state {l : Launch} {G : Gx} {sh : SM} {g : GM} {gl : LM} {gr : RM} {n : Nat} (hSk : Sk sh gr) (a1 : Int32)  {r : Int32} (h : f_X0_state g a1 = some r) : MetI l G yX0_state (ws_ yX0_state cX0_state 2 (Option.some Jvm.ClassFile.FieldType.int)) rm_X0_state [.ref (adr G 64), .int a1] sh g gl gr n (some (.int r)) sh g gl gr n := by
  refine MetI.of (by decide) (Nat.le_of_ble_eq_true rfl) ?_
  intro p e s m below meth c ls hx hb hr hml hown hts hlk hnm hW hK hR hS hl
  have hown : s.vm.findClass RX0 = some m.cls := hown
  have hF : CallFix p m c cX0_state 2 s ([.ref (adr G 64), .int a1] : List Value).toArray lw_all RX0 := ⟨hx, hb, hml, hown, hts⟩
  have hl : lv_has ls 2 [(0, .ref (adr G 64)), (1, .int a1)] := hl
  unfold f_X0_state at h
  refine lv_iload_n hx hb dX0_state_0 rfl (lv_at hl 1 rfl) ?_
  by_cases c1 : a1 = 0
  · replace h := ifp h c1
    refine lv_tableIn (off := 39) (tgt := 40) hx hb dX0_state_1 (by rw [c1]; decide) (by rw [c1]; decide) (by rw [c1]; decide) (by decide) ?_
    refine lv_aload_n hx hb dX0_state_40 rfl (lv_at hl 0 rfl) ?_
    refine r_getr hx hb hts cfX0 hown hK hR (sk_64 hSk) 0 (by decide) rfl (sr_64_0 hSk) (hts _ q449) (fun _ h => h) dX0_state_41 ?_
    refine r_getiN hx hb hts cfX1 hown hK hR (sk_65 hSk) 1 (by decide) rfl (hW.nestF q156) (fun _ h => h) dX0_state_44 ?_
    obtain rfl := s1i h
    exact r_iret0 hx hb hr hlk hR hS (Nat.zero_le _) (Nat.zero_le _) dX0_state_47
  · replace h := ifn h c1
    by_cases c2 : a1 = 1
    · replace h := ifp h c2
      refine lv_tableIn (off := 47) (tgt := 48) hx hb dX0_state_1 (by rw [c2]; decide) (by rw [c2]; decide) (by rw [c2]; decide) (by decide) ?_
      refine lv_iconst (v := 1) hx hb dX0_state_48 ki_1 ?_
      refine lv_aload_n hx hb dX0_state_49 rfl (lv_at hl 0 rfl) ?_
      refine r_getr hx hb hts cfX0 hown hK hR (sk_64 hSk) 0 (by decide) rfl (sr_64_0 hSk) (hts _ q449) (fun _ h => h) dX0_state_50 ?_
      obtain ⟨r4, e3, h⟩ := obd h
      refine rc_V0 (rest := [.int 1]) (st1 := [.int r4, .int 1]) hF (w_X1_vatNow hSk 65 (isMl_65) e3) (cwV 0 hts (lw_V q853 q854 q855 q101 q856) rfl rfl rfl hd_X1_vatNow ⟨Nat.le_of_ble_eq_true rfl, Nat.le_of_ble_eq_true rfl⟩) cfX1 (sk_65 hSk) hK hW hR hS rfl hl.1 rfl (Nat.le_of_ble_eq_true rfl) rfl dX0_state_53 ⟨rfl, rfl⟩ ⟨Nat.zero_le _, Nat.zero_le _⟩ (fun H locs hR hS => ?_)
      refine lv_iadd hx hb dX0_state_56 ?_
      obtain rfl := s1i h
      exact r_iret0 hx hb hr hlk hR hS (Nat.zero_le _) (Nat.zero_le _) dX0_state_57
    · replace h := ifn h c2
      by_cases c5 : a1 = 2
      · replace h := ifp h c5
        refine lv_tableIn (off := 57) (tgt := 58) hx hb dX0_state_1 (by rw [c5]; decide) (by rw [c5]; decide) (by rw [c5]; decide) (by decide) ?_
        refine lv_aload_n hx hb dX0_state_58 rfl (lv_at hl 0 rfl) ?_
        refine r_getr hx hb hts cfX0 hown hK hR (sk_64 hSk) 0 (by decide) rfl (sr_64_0 hSk) (hts _ q449) (fun _ h => h) dX0_state_59 ?_
        refine r_getiN hx hb hts cfX1 hown hK hR (sk_65 hSk) 2 (by decide) rfl (hW.nestF q158) (fun _ h => h) dX0_state_62 ?_
        obtain rfl := s1i h
        exact r_iret0 hx hb hr hlk hR hS (Nat.zero_le _) (Nat.zero_le _) dX0_state_65
      · replace h := ifn h c5
        by_cases c6 : a1 = 3
        · replace h := ifp h c6
          refine lv_tableIn (off := 65) (tgt := 66) hx hb dX0_state_1 (by rw [c6]; decide) (by rw [c6]; decide) (by rw [c6]; decide) (by decide) ?_
          refine lv_aload_n hx hb dX0_state_66 rfl (lv_at hl 0 rfl) ?_
          refine r_getr hx hb hts cfX0 hown hK hR (sk_64 hSk) 0 (by decide) rfl (sr_64_0 hSk) (hts _ q449) (fun _ h => h) dX0_state_67 ?_
          obtain ⟨r8, e7, h⟩ := obd h
          refine rc_V0 (rest := []) (st1 := [.int r8]) hF (w_X1_aboutAny hSk 65 (isMl_65) e7) (cwV 0 hts (lw_V q886 q887 q888 q101 q889) rfl rfl rfl hd_X1_aboutAny ⟨Nat.le_of_ble_eq_true rfl, Nat.le_of_ble_eq_true rfl⟩) cfX1 (sk_65 hSk) hK hW hR hS rfl hl.1 rfl (Nat.le_of_ble_eq_true rfl) rfl dX0_state_70 ⟨rfl, rfl⟩ ⟨Nat.zero_le _, Nat.zero_le _⟩ (fun H locs hR hS => ?_)
          obtain rfl := s1i h
          exact r_iret0 hx hb hr hlk hR hS (Nat.zero_le _) (Nat.zero_le _) dX0_state_73
        · replace h := ifn h c6
          by_cases c9 : a1 = 4
          · replace h := ifp h c9
            refine lv_tableIn (off := 73) (tgt := 74) hx hb dX0_state_1 (by rw [c9]; decide) (by rw [c9]; decide) (by rw [c9]; decide) (by decide) ?_
            refine lv_aload_n hx hb dX0_state_74 rfl (lv_at hl 0 rfl) ?_
            refine r_getr hx hb hts cfX0 hown hK hR (sk_64 hSk) 0 (by decide) rfl (sr_64_0 hSk) (hts _ q449) (fun _ h => h) dX0_state_75 ?_
            obtain ⟨r11, e10, h⟩ := obd h
            refine rc_V0 (rest := []) (st1 := [.int r11]) hF (w_X1_depths hSk 65 (isMl_65) e10) (cwV 0 hts (lw_V q857 q858 q859 q101 q860) rfl rfl rfl hd_X1_depths ⟨Nat.le_of_ble_eq_true rfl, Nat.le_of_ble_eq_true rfl⟩) cfX1 (sk_65 hSk) hK hW hR hS rfl hl.1 rfl (Nat.le_of_ble_eq_true rfl) rfl dX0_state_78 ⟨rfl, rfl⟩ ⟨Nat.zero_le _, Nat.zero_le _⟩ (fun H locs hR hS => ?_)
            obtain rfl := s1i h
            exact r_iret0 hx hb hr hlk hR hS (Nat.zero_le _) (Nat.zero_le _) dX0_state_81
          · replace h := ifn h c9
            by_cases c12 : a1 = 5
            · replace h := ifp h c12
              refine lv_tableIn (off := 81) (tgt := 82) hx hb dX0_state_1 (by rw [c12]; decide) (by rw [c12]; decide) (by rw [c12]; decide) (by decide) ?_
              refine lv_aload_n hx hb dX0_state_82 rfl (lv_at hl 0 rfl) ?_
              refine r_getr hx hb hts cfX0 hown hK hR (sk_64 hSk) 0 (by decide) rfl (sr_64_0 hSk) (hts _ q449) (fun _ h => h) dX0_state_83 ?_
              obtain ⟨r14, e13, h⟩ := obd h
              refine rc_V0 (rest := []) (st1 := [.int r14]) hF (w_X1_atOdds hSk 65 (isMl_65) e13) (cwV 0 hts (lw_V q890 q891 q892 q101 q893) rfl rfl rfl hd_X1_atOdds ⟨Nat.le_of_ble_eq_true rfl, Nat.le_of_ble_eq_true rfl⟩) cfX1 (sk_65 hSk) hK hW hR hS rfl hl.1 rfl (Nat.le_of_ble_eq_true rfl) rfl dX0_state_86 ⟨rfl, rfl⟩ ⟨Nat.zero_le _, Nat.zero_le _⟩ (fun H locs hR hS => ?_)
              obtain rfl := s1i h
              exact r_iret0 hx hb hr hlk hR hS (Nat.zero_le _) (Nat.zero_le _) dX0_state_89
            · replace h := ifn h c12
              have dc1 : Int32.toInt a1 ≠ 0 := ne32 c1 (by decide)
              have dc2 : Int32.toInt a1 ≠ 1 := ne32 c2 (by decide)
              have dc5 : Int32.toInt a1 ≠ 2 := ne32 c5 (by decide)
              have dc6 : Int32.toInt a1 ≠ 3 := ne32 c6 (by decide)
              have dc9 : Int32.toInt a1 ≠ 4 := ne32 c9 (by decide)
              have dc12 : Int32.toInt a1 ≠ 5 := ne32 c12 (by decide)
              refine lv_tableOut (tgt := 90) hx hb dX0_state_1 (by omega) (by decide) ?_
              refine lv_iconst (v := (-1)) hx hb dX0_state_90 ki_m1 ?_
              obtain rfl := s1i h
              exact r_iret0 hx hb hr hlk hR hS (Nat.zero_le _) (Nat.zero_le _) dX0_state_91
def rm_X0_isAsked : Room := { frames := 3, cells := 0, slots := 0, locals := 55 }
theorem hd_X0_isAsked : yX0_isAsked.cls = "IntentVats" ∧ yX0_isAsked.cls ≠ "java/lang/invoke/MethodHandle" ∧ yX0_isAsked.cls ≠ "java/lang/invoke/VarHandle" ∧ (parseMethodDescriptor yX0_isAsked.desc).map (fun d => d.parameters.length) = some 3 := by decide +kernel
theorem he_X0_isAsked : yX0_isAsked.cls ≠ "java/lang/invoke/MethodHandle" ∧ yX0_isAsked.cls ≠ "java/lang/invoke/VarHandle" ∧ (parseMethodDescriptor yX0_isAsked.desc).map (fun d => d.parameters.length) = some 3 := hd_X0_isAsked.2

set_option maxHeartbeats 4000000 in
set_option maxRecDepth 100000 in
theorem w_X0_isAsked {l : Launch} {G : Gx} {sh : SM} {g : GM} {gl : LM} {gr : RM} {n : Nat} (hSk : Sk sh gr) (a1 : Int32) (a2 : Int32) (a3 : Int32)  {r : Int32} (h : f_X0_isAsked g a1 a2 a3 = some r) : MetI l G yX0_isAsked (ws_ yX0_isAsked cX0_isAsked 4 (Option.some Jvm.ClassFile.FieldType.boolean)) rm_X0_isAsked [.ref (adr G 64), .int a1, .int a2, .int a3] sh g gl gr n (some (.int r)) sh g gl gr n := by
  refine MetI.of (by decide) (Nat.le_of_ble_eq_true rfl) ?_
  intro p e s m below meth c ls hx hb hr hml hown hts hlk hnm hW hK hR hS hl
  have hown : s.vm.findClass RX0 = some m.cls := hown
  have hF : CallFix p m c cX0_isAsked 4 s ([.ref (adr G 64), .int a1, .int a2, .int a3] : List Value).toArray lw_all RX0 := ⟨hx, hb, hml, hown, hts⟩
  have hl : lv_has ls 4 [(0, .ref (adr G 64)), (1, .int a1), (2, .int a2), (3, .int a3)] := hl
  unfold f_X0_isAsked at h
  refine lv_aload_n hx hb dX0_isAsked_0 rfl (lv_at hl 0 rfl) ?_
  refine lv_iload_n hx hb dX0_isAsked_1 rfl (lv_at hl 1 rfl) ?_
  obtain ⟨r2, e1, h⟩ := obd h
  refine rc_V0 (rest := []) (st1 := [.int r2]) hF (w_X0_isCloth hSk a1 e1) (cwV 1 hts (lw_V q715 q717 qs15 q100 q718) rfl rfl rfl hd_X0_isCloth ⟨Nat.le_of_ble_eq_true rfl, Nat.le_of_ble_eq_true rfl⟩) cfX0 (sk_64 hSk) hK hW hR hS rfl hl.1 rfl (Nat.le_of_ble_eq_true rfl) rfl dX0_isAsked_2 ⟨rfl, rfl⟩ ⟨Nat.zero_le _, Nat.zero_le _⟩ (fun H locs hR hS => ?_)
  have J22 : ∀ (x3 : Int32) (H : Heap) (locs : List Loc) (ls : Array Slot), Rep G sh g gl gr n H → va_S (own G) s.heap H locs → lv_has ls 4 [] → j_X0_isAsked_22  x3 = some r → W p l e rm_X0_isAsked s m ([.ref (adr G 64), .int a1, .int a2, .int a3] : List Value).toArray below meth c H locs 0 0 (MQ below (QR G (some (.int r)) sh g gl gr n) ([.ref (adr G 64), .int a1, .int a2, .int a3] : List Value).toArray s rm_X0_isAsked.cells rm_X0_isAsked.slots (own G)) (F0 m 22 ls [.int x3]) := by
    intro x3 H locs ls hR hS hl h
    unfold j_X0_isAsked_22 at h
    obtain ⟨c4, h⟩ := ogrd h
    obtain rfl := s1i h
    exact r_zret0 hx hb hr hlk hR hS (Nat.zero_le _) (Nat.zero_le _) (nb01 c4) dX0_isAsked_22
  have J21 : ∀  (H : Heap) (locs : List Loc) (ls : Array Slot), Rep G sh g gl gr n H → va_S (own G) s.heap H locs → lv_has ls 4 [] → j_X0_isAsked_21   = some r → W p l e rm_X0_isAsked s m ([.ref (adr G 64), .int a1, .int a2, .int a3] : List Value).toArray below meth c H locs 0 0 (MQ below (QR G (some (.int r)) sh g gl gr n) ([.ref (adr G 64), .int a1, .int a2, .int a3] : List Value).toArray s rm_X0_isAsked.cells rm_X0_isAsked.slots (own G)) (F0 m 21 ls []) := by
    intro  H locs ls hR hS hl h
    unfold j_X0_isAsked_21 at h
    refine lv_iconst (v := 0) hx hb dX0_isAsked_21 ki_0 ?_
    exact J22 0 _ _ _ hR hS (lv_sub hl [] rfl) h
  refine lv_if_eq (tgt := 21) hx hb dX0_isAsked_5 (by decide) (fun c5 => ?_) (fun c5 => ?_)
  · replace h := ifp h c5
    exact J21  _ _ _ hR hS (lv_sub hl [] rfl) h
  · replace h := ifn h c5
    refine lv_iload_n hx hb dX0_isAsked_8 rfl (lv_at hl 2 rfl) ?_
    refine lv_iconst (v := 0) hx hb dX0_isAsked_9 ki_0 ?_
    refine lv_iload_n hx hb dX0_isAsked_10 rfl (lv_at hl 3 rfl) ?_
    obtain ⟨r7, e6, h⟩ := obd h
    refine rc_S0 (rest := []) (st1 := [.int r7]) hF (w_X0_in hSk a2 0 a3 e6) (va_cwS 3 hts (lw_S q508 q509 q100 q510) rfl rfl rfl he_X0_in ⟨Nat.le_of_ble_eq_true rfl, Nat.le_of_ble_eq_true rfl⟩) hW hR hS rfl hl.1 rfl (Nat.le_of_ble_eq_true rfl) rfl dX0_isAsked_11 ⟨rfl, rfl⟩ ⟨Nat.zero_le _, Nat.zero_le _⟩ (fun H locs hR hS => ?_)
    refine lv_if_eq (tgt := 21) hx hb dX0_isAsked_14 (by decide) (fun c8 => ?_) (fun c8 => ?_)
    · replace h := ifp h c8
      exact J21  _ _ _ hR hS (lv_sub hl [] rfl) h
    · replace h := ifn h c8
      refine lv_iconst (v := 1) hx hb dX0_isAsked_17 ki_1 ?_
      refine lv_goto (tgt := 22) hx hb dX0_isAsked_18 (by decide) ?_
      exact J22 1 _ _ _ hR hS (lv_sub hl [] rfl) h
def rm_X0_gone : Room := { frames := 10, cells := 0, slots := 0, locals := 372 }
theorem hd_X0_gone : yX0_gone.cls = "IntentVats" ∧ yX0_gone.cls ≠ "java/lang/invoke/MethodHandle" ∧ yX0_gone.cls ≠ "java/lang/invoke/VarHandle" ∧ (parseMethodDescriptor yX0_gone.desc).map (fun d => d.parameters.length) = some 2 := by decide +kernel
theorem he_X0_gone : yX0_gone.cls ≠ "java/lang/invoke/MethodHandle" ∧ yX0_gone.cls ≠ "java/lang/invoke/VarHandle" ∧ (parseMethodDescriptor yX0_gone.desc).map (fun d => d.parameters.length) = some 2 := hd_X0_gone.2

set_option maxHeartbeats 4000000 in
set_option maxRecDepth 100000 in
theorem w_X0_gone {l : Launch} {G : Gx} {sh : SM} {g : GM} {gl : LM} {gr : RM} {n : Nat} (hSk : Sk sh gr) (a1 : Int32) (a2 : Int32)  {r : Int32} {go : GM} (h : f_X0_gone g a1 a2 = some (r, go)) : MetI l G yX0_gone (ws_ yX0_gone cX0_gone 3 (Option.some Jvm.ClassFile.FieldType.int)) rm_X0_gone [.ref (adr G 64), .int a1, .int a2] sh g gl gr n (some (.int r)) sh go gl gr n := by
  refine MetI.of (by decide) (Nat.le_of_ble_eq_true rfl) ?_
  intro p e s m below meth c ls hx hb hr hml hown hts hlk hnm hW hK hR hS hl
  have hown : s.vm.findClass RX0 = some m.cls := hown
  have hF : CallFix p m c cX0_gone 3 s ([.ref (adr G 64), .int a1, .int a2] : List Value).toArray lw_all RX0 := ⟨hx, hb, hml, hown, hts⟩
  have hl : lv_has ls 3 [(0, .ref (adr G 64)), (1, .int a1), (2, .int a2)] := hl
  unfold f_X0_gone at h
  refine lv_aload_n hx hb dX0_gone_0 rfl (lv_at hl 0 rfl) ?_
  refine lv_iload_n hx hb dX0_gone_1 rfl (lv_at hl 1 rfl) ?_
  refine lv_iload_n hx hb dX0_gone_2 rfl (lv_at hl 2 rfl) ?_
  refine lv_bipush (v := 60) hx hb dX0_gone_3 kb_60 ?_
  obtain ⟨r2, e1, h⟩ := obd h
  refine rc_V0 (rest := []) (st1 := [.int r2]) hF (w_X0_isAsked hSk a1 a2 60 e1) (cwV 3 hts (lw_V q903 q905 qs21 q100 q906) rfl rfl rfl hd_X0_isAsked ⟨Nat.le_of_ble_eq_true rfl, Nat.le_of_ble_eq_true rfl⟩) cfX0 (sk_64 hSk) hK hW hR hS rfl hl.1 rfl (Nat.le_of_ble_eq_true rfl) rfl dX0_gone_5 ⟨rfl, rfl⟩ ⟨Nat.zero_le _, Nat.zero_le _⟩ (fun H locs hR hS => ?_)
  refine lv_if_ne (tgt := 13) hx hb dX0_gone_8 (by decide) (fun c3 => ?_) (fun c3 => ?_)
  · replace h := ifn h c3
    refine lv_aload_n hx hb dX0_gone_13 rfl (lv_at hl 0 rfl) ?_
    refine r_getr hx hb hts cfX0 hown hK hR (sk_64 hSk) 3 (by decide) rfl (sr_64_3 hSk) (hts _ q452) (fun _ h => h) dX0_gone_14 ?_
    refine lv_aload_n hx hb dX0_gone_17 rfl (lv_at hl 0 rfl) ?_
    refine r_getr hx hb hts cfX0 hown hK hR (sk_64 hSk) 0 (by decide) rfl (sr_64_0 hSk) (hts _ q449) (fun _ h => h) dX0_gone_18 ?_
    obtain ⟨g5, e4, h⟩ := obd h
    refine rc_V0 (rest := []) (st1 := []) hF (w_X1_become hSk 92 65 (isMl_92) (isMl_65) e4) (cwV 1 hts (lw_V q516 q517 q518 q101 q519) rfl rfl rfl hd_X1_become ⟨Nat.le_of_ble_eq_true rfl, Nat.le_of_ble_eq_true rfl⟩) cfX1 (sk_92 hSk) hK hW hR hS rfl hl.1 rfl (Nat.le_of_ble_eq_true rfl) rfl dX0_gone_21 ⟨rfl, rfl⟩ ⟨Nat.zero_le _, Nat.zero_le _⟩ (fun H locs hR hS => ?_)
    refine lv_aload_n hx hb dX0_gone_24 rfl (lv_at hl 0 rfl) ?_
    refine lv_aload_n hx hb dX0_gone_25 rfl (lv_at hl 0 rfl) ?_
    refine r_getr hx hb hts cfX0 hown hK hR (sk_64 hSk) 3 (by decide) rfl (sr_64_3 hSk) (hts _ q452) (fun _ h => h) dX0_gone_26 ?_
    refine lv_iload_n hx hb dX0_gone_29 rfl (lv_at hl 2 rfl) ?_
    obtain ⟨g7, e6, h⟩ := obd h
    refine rc_V0 (rest := []) (st1 := []) hF (w_X0_daysGo hSk 92 a2 (isMl_92) e6) (cwV 2 hts (lw_V q845 q847 qs18 q100 q848) rfl rfl rfl hd_X0_daysGo ⟨Nat.le_of_ble_eq_true rfl, Nat.le_of_ble_eq_true rfl⟩) cfX0 (sk_64 hSk) hK hW hR hS rfl hl.1 rfl (Nat.le_of_ble_eq_true rfl) rfl dX0_gone_30 ⟨rfl, rfl⟩ ⟨Nat.zero_le _, Nat.zero_le _⟩ (fun H locs hR hS => ?_)
    refine lv_iconst (v := 1) hx hb dX0_gone_33 ki_1 ?_
    refine lv_aload_n hx hb dX0_gone_34 rfl (lv_at hl 0 rfl) ?_
    refine r_getr hx hb hts cfX0 hown hK hR (sk_64 hSk) 3 (by decide) rfl (sr_64_3 hSk) (hts _ q452) (fun _ h => h) dX0_gone_35 ?_
    refine r_getrN hx hb hts cfX1 hown hK hR (sk_92 hSk) 9 (by decide) rfl (sr_92_9 hSk) (hW.nestF q183) (fun _ h => h) dX0_gone_38 ?_
    refine lv_iload_n hx hb dX0_gone_41 rfl (lv_at hl 1 rfl) ?_
    obtain ⟨v9, e8, h⟩ := obd h
    refine r_ldi hx hb hK hR (sk_98 hSk) e8 dX0_gone_42 ?_
    refine lv_iadd hx hb dX0_gone_43 ?_
    obtain ⟨rfl, rfl⟩ := s2i h
    exact r_iret0 hx hb hr hlk hR hS (Nat.zero_le _) (Nat.zero_le _) dX0_gone_44
  · replace h := ifp h c3
    refine lv_iconst (v := (-1)) hx hb dX0_gone_11 ki_m1 ?_
    obtain ⟨rfl, rfl⟩ := s2i h
    exact r_iret0 hx hb hr hlk hR hS (Nat.zero_le _) (Nat.zero_le _) dX0_gone_12
def rm_X0_depth : Room := { frames := 10, cells := 0, slots := 0, locals := 372 }
theorem hd_X0_depth : yX0_depth.cls = "IntentVats" ∧ yX0_depth.cls ≠ "java/lang/invoke/MethodHandle" ∧ yX0_depth.cls ≠ "java/lang/invoke/VarHandle" ∧ (parseMethodDescriptor yX0_depth.desc).map (fun d => d.parameters.length) = some 2 := by decide +kernel
theorem he_X0_depth : yX0_depth.cls ≠ "java/lang/invoke/MethodHandle" ∧ yX0_depth.cls ≠ "java/lang/invoke/VarHandle" ∧ (parseMethodDescriptor yX0_depth.desc).map (fun d => d.parameters.length) = some 2 := hd_X0_depth.2

set_option maxHeartbeats 4000000 in
set_option maxRecDepth 100000 in
theorem w_X0_depth {l : Launch} {G : Gx} {sh : SM} {g : GM} {gl : LM} {gr : RM} {n : Nat} (hSk : Sk sh gr) (a1 : Int32) (a2 : Int32)  {r : Int32} {go : GM} (h : f_X0_depth g a1 a2 = some (r, go)) : MetI l G yX0_depth (ws_ yX0_depth cX0_depth 3 (Option.some Jvm.ClassFile.FieldType.int)) rm_X0_depth [.ref (adr G 64), .int a1, .int a2] sh g gl gr n (some (.int r)) sh go gl gr n := by
  refine MetI.of (by decide) (Nat.le_of_ble_eq_true rfl) ?_
  intro p e s m below meth c ls hx hb hr hml hown hts hlk hnm hW hK hR hS hl
  have hown : s.vm.findClass RX0 = some m.cls := hown
  have hF : CallFix p m c cX0_depth 3 s ([.ref (adr G 64), .int a1, .int a2] : List Value).toArray lw_all RX0 := ⟨hx, hb, hml, hown, hts⟩
  have hl : lv_has ls 3 [(0, .ref (adr G 64)), (1, .int a1), (2, .int a2)] := hl
  unfold f_X0_depth at h
  refine lv_aload_n hx hb dX0_depth_0 rfl (lv_at hl 0 rfl) ?_
  refine lv_iload_n hx hb dX0_depth_1 rfl (lv_at hl 1 rfl) ?_
  refine lv_iload_n hx hb dX0_depth_2 rfl (lv_at hl 2 rfl) ?_
  refine lv_bipush (v := 60) hx hb dX0_depth_3 kb_60 ?_
  obtain ⟨r2, e1, h⟩ := obd h
  refine rc_V0 (rest := []) (st1 := [.int r2]) hF (w_X0_isAsked hSk a1 a2 60 e1) (cwV 3 hts (lw_V q903 q905 qs21 q100 q906) rfl rfl rfl hd_X0_isAsked ⟨Nat.le_of_ble_eq_true rfl, Nat.le_of_ble_eq_true rfl⟩) cfX0 (sk_64 hSk) hK hW hR hS rfl hl.1 rfl (Nat.le_of_ble_eq_true rfl) rfl dX0_depth_5 ⟨rfl, rfl⟩ ⟨Nat.zero_le _, Nat.zero_le _⟩ (fun H locs hR hS => ?_)
  refine lv_if_ne (tgt := 13) hx hb dX0_depth_8 (by decide) (fun c3 => ?_) (fun c3 => ?_)
  · replace h := ifn h c3
    refine lv_aload_n hx hb dX0_depth_13 rfl (lv_at hl 0 rfl) ?_
    refine r_getr hx hb hts cfX0 hown hK hR (sk_64 hSk) 3 (by decide) rfl (sr_64_3 hSk) (hts _ q452) (fun _ h => h) dX0_depth_14 ?_
    refine lv_aload_n hx hb dX0_depth_17 rfl (lv_at hl 0 rfl) ?_
    refine r_getr hx hb hts cfX0 hown hK hR (sk_64 hSk) 0 (by decide) rfl (sr_64_0 hSk) (hts _ q449) (fun _ h => h) dX0_depth_18 ?_
    obtain ⟨g5, e4, h⟩ := obd h
    refine rc_V0 (rest := []) (st1 := []) hF (w_X1_become hSk 92 65 (isMl_92) (isMl_65) e4) (cwV 1 hts (lw_V q516 q517 q518 q101 q519) rfl rfl rfl hd_X1_become ⟨Nat.le_of_ble_eq_true rfl, Nat.le_of_ble_eq_true rfl⟩) cfX1 (sk_92 hSk) hK hW hR hS rfl hl.1 rfl (Nat.le_of_ble_eq_true rfl) rfl dX0_depth_21 ⟨rfl, rfl⟩ ⟨Nat.zero_le _, Nat.zero_le _⟩ (fun H locs hR hS => ?_)
    refine lv_aload_n hx hb dX0_depth_24 rfl (lv_at hl 0 rfl) ?_
    refine lv_aload_n hx hb dX0_depth_25 rfl (lv_at hl 0 rfl) ?_
    refine r_getr hx hb hts cfX0 hown hK hR (sk_64 hSk) 3 (by decide) rfl (sr_64_3 hSk) (hts _ q452) (fun _ h => h) dX0_depth_26 ?_
    refine lv_iload_n hx hb dX0_depth_29 rfl (lv_at hl 2 rfl) ?_
    obtain ⟨g7, e6, h⟩ := obd h
    refine rc_V0 (rest := []) (st1 := []) hF (w_X0_daysGo hSk 92 a2 (isMl_92) e6) (cwV 2 hts (lw_V q845 q847 qs18 q100 q848) rfl rfl rfl hd_X0_daysGo ⟨Nat.le_of_ble_eq_true rfl, Nat.le_of_ble_eq_true rfl⟩) cfX0 (sk_64 hSk) hK hW hR hS rfl hl.1 rfl (Nat.le_of_ble_eq_true rfl) rfl dX0_depth_30 ⟨rfl, rfl⟩ ⟨Nat.zero_le _, Nat.zero_le _⟩ (fun H locs hR hS => ?_)
    refine lv_aload_n hx hb dX0_depth_33 rfl (lv_at hl 0 rfl) ?_
    refine r_getr hx hb hts cfX0 hown hK hR (sk_64 hSk) 3 (by decide) rfl (sr_64_3 hSk) (hts _ q452) (fun _ h => h) dX0_depth_34 ?_
    refine r_getrN hx hb hts cfX1 hown hK hR (sk_92 hSk) 10 (by decide) rfl (sr_92_10 hSk) (hW.nestF q186) (fun _ h => h) dX0_depth_37 ?_
    refine lv_iload_n hx hb dX0_depth_40 rfl (lv_at hl 1 rfl) ?_
    obtain ⟨v9, e8, h⟩ := obd h
    refine r_ldi hx hb hK hR (sk_99 hSk) e8 dX0_depth_41 ?_
    obtain ⟨rfl, rfl⟩ := s2i h
    exact r_iret0 hx hb hr hlk hR hS (Nat.zero_le _) (Nat.zero_le _) dX0_depth_42
  · replace h := ifp h c3
    refine lv_iconst (v := (-1)) hx hb dX0_depth_11 ki_m1 ?_
    obtain ⟨rfl, rfl⟩ := s2i h
    exact r_iret0 hx hb hr hlk hR hS (Nat.zero_le _) (Nat.zero_le _) dX0_depth_12
