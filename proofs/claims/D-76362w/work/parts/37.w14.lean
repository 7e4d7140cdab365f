/-! walks: X14_runs, X14_plainRubs, X14_linenRubs, X14_rubs, X14_plainSteeps, X14_steepsAct, X14_plainParts, X14_parts, X14_plainDries, X14_driesAct, X14_act, X14_trace, X14_purposesAbout, X14_many, X14_keep, X14_again -/
def rm_X14_runs : Room := { frames := 1, cells := 0, slots := 0, locals := 12 }
theorem hd_X14_runs : yX14_runs.cls = "IntentVatsModel" ∧ yX14_runs.cls ≠ "java/lang/invoke/MethodHandle" ∧ yX14_runs.cls ≠ "java/lang/invoke/VarHandle" ∧ (parseMethodDescriptor yX14_runs.desc).map (fun d => d.parameters.length) = some 1 := by decide +kernel
theorem he_X14_runs : yX14_runs.cls ≠ "java/lang/invoke/MethodHandle" ∧ yX14_runs.cls ≠ "java/lang/invoke/VarHandle" ∧ (parseMethodDescriptor yX14_runs.desc).map (fun d => d.parameters.length) = some 1 := hd_X14_runs.2

set_option maxHeartbeats 4000000 in
set_option maxRecDepth 100000 in
theorem w_X14_runs {l : Launch} {G : Gx} {sh : SM} {g : GM} {gl : LM} {gr : RM} {n : Nat} (hSk : Sk sh gr) (a1 : Int32)  {go : GM} (h : f_X14_runs g a1 = some go) : MetI l G yX14_runs (ws_ yX14_runs cX14_runs 2 (Option.none : Option Jvm.ClassFile.FieldType)) rm_X14_runs [.ref (adr G 128), .int a1] sh g gl gr n none sh go gl gr n := by
  refine MetI.of (by decide) (Nat.le_of_ble_eq_true rfl) ?_
  intro p e s m below meth c ls hx hb hr hml hown hts hlk hnm hW hK hR hS hl
  have hown : s.vm.findClass RX14 = some m.cls := hown
  have hF : CallFix p m c cX14_runs 2 s ([.ref (adr G 128), .int a1] : List Value).toArray lw_all RX14 := ⟨hx, hb, hml, hown, hts⟩
  have hl : lv_has ls 2 [(0, .ref (adr G 128)), (1, .int a1)] := hl
  unfold f_X14_runs at h
  refine lv_aload_n hx hb dX14_runs_0 rfl (lv_at hl 0 rfl) ?_
  refine r_geti hx hb hts cfX14 hown hK hR (sk_128 hSk) 20 (by decide) rfl (hts _ q1541) (fun _ h => h) dX14_runs_1 ?_
  refine lv_bipush (v := 30) hx hb dX14_runs_4 kb_30 ?_
  have J29 : ∀ (g1 : GM) (H : Heap) (locs : List Loc) (ls : Array Slot), Rep G sh g1 gl gr n H → va_S (own G) s.heap H locs → lv_has ls 2 [] → j_X14_runs_29  g1 = some go → W p l e rm_X14_runs s m ([.ref (adr G 128), .int a1] : List Value).toArray below meth c H locs 0 0 (MQ below (QR G none sh go gl gr n) ([.ref (adr G 128), .int a1] : List Value).toArray s rm_X14_runs.cells rm_X14_runs.slots (own G)) (F0 m 29 ls []) := by
    intro g1 H locs ls hR hS hl h
    unfold j_X14_runs_29 at h
    obtain rfl := s1i h
    exact r_vret0 hx hb hr hlk hR hS (Nat.zero_le _) (Nat.zero_le _) dX14_runs_29
  refine lv_icmp_ge (tgt := 29) hx hb dX14_runs_6 (by decide) (fun c2 => ?_) (fun c2 => ?_)
  · replace h := ifp h c2
    exact J29 g _ _ _ hR hS (lv_sub hl [] rfl) h
  · replace h := ifn h c2
    refine lv_aload_n hx hb dX14_runs_9 rfl (lv_at hl 0 rfl) ?_
    refine r_getr hx hb hts cfX14 hown hK hR (sk_128 hSk) 19 (by decide) rfl (sr_128_19 hSk) (hts _ q1540) (fun _ h => h) dX14_runs_10 ?_
    refine lv_aload_n hx hb dX14_runs_13 rfl (lv_at hl 0 rfl) ?_
    refine r_geti hx hb hts cfX14 hown hK hR (sk_128 hSk) 20 (by decide) rfl (hts _ q1541) (fun _ h => h) dX14_runs_14 ?_
    refine lv_iload_n hx hb dX14_runs_17 rfl (lv_at hl 1 rfl) ?_
    obtain ⟨g4, e3, h⟩ := obd h
    refine r_sti hx hb hK hR hS (sk_142 hSk) e3 dX14_runs_18 (fun H locs hR hS => ?_)
    refine lv_aload_n hx hb dX14_runs_19 rfl (lv_at hl 0 rfl) ?_
    refine lv_dup hx hb dX14_runs_20 rfl ?_
    refine r_geti hx hb hts cfX14 hown hK hR (sk_128 hSk) 20 (by decide) rfl (hts _ q1541) (fun _ h => h) dX14_runs_21 ?_
    refine lv_iconst (v := 1) hx hb dX14_runs_24 ki_1 ?_
    refine lv_iadd hx hb dX14_runs_25 ?_
    obtain ⟨g6, e5, h⟩ := obd h
    refine r_puti hx hb hts cfX14 hown hK hR hS (sk_128 hSk) 20 (by decide) rfl (hts _ q1541) (fun _ h => h) (Or.inl rfl) rfl rfl e5 dX14_runs_26 (fun H locs hR hS => ?_)
    exact J29 g6 _ _ _ hR hS (lv_sub hl [] rfl) h
def rm_X14_plainRubs : Room := { frames := 2, cells := 0, slots := 0, locals := 33 }
theorem hd_X14_plainRubs : yX14_plainRubs.cls = "IntentVatsModel" ∧ yX14_plainRubs.cls ≠ "java/lang/invoke/MethodHandle" ∧ yX14_plainRubs.cls ≠ "java/lang/invoke/VarHandle" ∧ (parseMethodDescriptor yX14_plainRubs.desc).map (fun d => d.parameters.length) = some 1 := by decide +kernel
theorem he_X14_plainRubs : yX14_plainRubs.cls ≠ "java/lang/invoke/MethodHandle" ∧ yX14_plainRubs.cls ≠ "java/lang/invoke/VarHandle" ∧ (parseMethodDescriptor yX14_plainRubs.desc).map (fun d => d.parameters.length) = some 1 := hd_X14_plainRubs.2

set_option maxHeartbeats 4000000 in
set_option maxRecDepth 100000 in
theorem w_X14_plainRubs {l : Launch} {G : Gx} {sh : SM} {g : GM} {gl : LM} {gr : RM} {n : Nat} (hSk : Sk sh gr) (a1 : Int32)  {r : Int32} {go : GM} (h : f_X14_plainRubs g a1 = some (r, go)) : MetI l G yX14_plainRubs (ws_ yX14_plainRubs cX14_plainRubs 2 (Option.some Jvm.ClassFile.FieldType.int)) rm_X14_plainRubs [.ref (adr G 128), .int a1] sh g gl gr n (some (.int r)) sh go gl gr n := by
  refine MetI.of (by decide) (Nat.le_of_ble_eq_true rfl) ?_
  intro p e s m below meth c ls hx hb hr hml hown hts hlk hnm hW hK hR hS hl
  have hown : s.vm.findClass RX14 = some m.cls := hown
  have hF : CallFix p m c cX14_plainRubs 2 s ([.ref (adr G 128), .int a1] : List Value).toArray lw_all RX14 := ⟨hx, hb, hml, hown, hts⟩
  have hl : lv_has ls 2 [(0, .ref (adr G 128)), (1, .int a1)] := hl
  unfold f_X14_plainRubs at h
  refine lv_aload_n hx hb dX14_plainRubs_0 rfl (lv_at hl 0 rfl) ?_
  refine lv_bipush (v := 10) hx hb dX14_plainRubs_1 kb_10 ?_
  obtain ⟨g2, e1, h⟩ := obd h
  refine rc_V0 (rest := []) (st1 := []) hF (w_X14_runs hSk 10 e1) (cwV 1 hts (lw_V q2039 q2041 qs90 q117 q2042) rfl rfl rfl hd_X14_runs ⟨Nat.le_of_ble_eq_true rfl, Nat.le_of_ble_eq_true rfl⟩) cfX14 (sk_128 hSk) hK hW hR hS rfl hl.1 rfl (Nat.le_of_ble_eq_true rfl) rfl dX14_plainRubs_3 ⟨rfl, rfl⟩ ⟨Nat.zero_le _, Nat.zero_le _⟩ (fun H locs hR hS => ?_)
  refine lv_iload_n hx hb dX14_plainRubs_6 rfl (lv_at hl 1 rfl) ?_
  refine lv_iconst (v := 5) hx hb dX14_plainRubs_7 ki_5 ?_
  refine lv_imul hx hb dX14_plainRubs_8 ?_
  refine lv_aload_n hx hb dX14_plainRubs_9 rfl (lv_at hl 0 rfl) ?_
  refine r_geti hx hb hts cfX14 hown hK hR (sk_128 hSk) 22 (by decide) rfl (hts _ q1543) (fun _ h => h) dX14_plainRubs_10 ?_
  refine lv_iadd hx hb dX14_plainRubs_13 ?_
  obtain ⟨rfl, rfl⟩ := s2i h
  exact r_iret0 hx hb hr hlk hR hS (Nat.zero_le _) (Nat.zero_le _) dX14_plainRubs_14
def rm_X14_linenRubs : Room := { frames := 3, cells := 0, slots := 0, locals := 54 }
theorem hd_X14_linenRubs : yX14_linenRubs.cls = "IntentVatsModel" ∧ yX14_linenRubs.cls ≠ "java/lang/invoke/MethodHandle" ∧ yX14_linenRubs.cls ≠ "java/lang/invoke/VarHandle" ∧ (parseMethodDescriptor yX14_linenRubs.desc).map (fun d => d.parameters.length) = some 1 := by decide +kernel
theorem he_X14_linenRubs : yX14_linenRubs.cls ≠ "java/lang/invoke/MethodHandle" ∧ yX14_linenRubs.cls ≠ "java/lang/invoke/VarHandle" ∧ (parseMethodDescriptor yX14_linenRubs.desc).map (fun d => d.parameters.length) = some 1 := hd_X14_linenRubs.2

set_option maxHeartbeats 4000000 in
set_option maxRecDepth 100000 in
theorem w_X14_linenRubs {l : Launch} {G : Gx} {sh : SM} {g : GM} {gl : LM} {gr : RM} {n : Nat} (hSk : Sk sh gr) (a1 : Int32)  {r : Int32} {go : GM} (h : f_X14_linenRubs g a1 = some (r, go)) : MetI l G yX14_linenRubs (ws_ yX14_linenRubs cX14_linenRubs 2 (Option.some Jvm.ClassFile.FieldType.int)) rm_X14_linenRubs [.ref (adr G 128), .int a1] sh g gl gr n (some (.int r)) sh go gl gr n := by
  refine MetI.of (by decide) (Nat.le_of_ble_eq_true rfl) ?_
  intro p e s m below meth c ls hx hb hr hml hown hts hlk hnm hW hK hR hS hl
  have hown : s.vm.findClass RX14 = some m.cls := hown
  have hF : CallFix p m c cX14_linenRubs 2 s ([.ref (adr G 128), .int a1] : List Value).toArray lw_all RX14 := ⟨hx, hb, hml, hown, hts⟩
  have hl : lv_has ls 2 [(0, .ref (adr G 128)), (1, .int a1)] := hl
  unfold f_X14_linenRubs at h
  refine lv_aload_n hx hb dX14_linenRubs_0 rfl (lv_at hl 0 rfl) ?_
  refine lv_bipush (v := 30) hx hb dX14_linenRubs_1 kb_30 ?_
  obtain ⟨g2, e1, h⟩ := obd h
  refine rc_V0 (rest := []) (st1 := []) hF (w_X14_runs hSk 30 e1) (cwV 1 hts (lw_V q2039 q2041 qs90 q117 q2042) rfl rfl rfl hd_X14_runs ⟨Nat.le_of_ble_eq_true rfl, Nat.le_of_ble_eq_true rfl⟩) cfX14 (sk_128 hSk) hK hW hR hS rfl hl.1 rfl (Nat.le_of_ble_eq_true rfl) rfl dX14_linenRubs_3 ⟨rfl, rfl⟩ ⟨Nat.zero_le _, Nat.zero_le _⟩ (fun H locs hR hS => ?_)
  refine lv_aload_n hx hb dX14_linenRubs_6 rfl (lv_at hl 0 rfl) ?_
  refine lv_iload_n hx hb dX14_linenRubs_7 rfl (lv_at hl 1 rfl) ?_
  obtain ⟨r4, g5, e3, h⟩ := obd2 h
  refine rc_V0 (rest := []) (st1 := [.int r4]) hF (w_X14_plainRubs hSk a1 e3) (cwV 1 hts (lw_V q2043 q2045 qs91 q117 q2046) rfl rfl rfl hd_X14_plainRubs ⟨Nat.le_of_ble_eq_true rfl, Nat.le_of_ble_eq_true rfl⟩) cfX14 (sk_128 hSk) hK hW hR hS rfl hl.1 rfl (Nat.le_of_ble_eq_true rfl) rfl dX14_linenRubs_8 ⟨rfl, rfl⟩ ⟨Nat.zero_le _, Nat.zero_le _⟩ (fun H locs hR hS => ?_)
  refine lv_iconst (v := 2) hx hb dX14_linenRubs_11 ki_2 ?_
  refine lv_imul hx hb dX14_linenRubs_12 ?_
  obtain ⟨rfl, rfl⟩ := s2i h
  exact r_iret0 hx hb hr hlk hR hS (Nat.zero_le _) (Nat.zero_le _) dX14_linenRubs_13
def rm_X14_rubs : Room := { frames := 4, cells := 0, slots := 0, locals := 75 }
theorem hd_X14_rubs : yX14_rubs.cls = "IntentVatsModel" ∧ yX14_rubs.cls ≠ "java/lang/invoke/MethodHandle" ∧ yX14_rubs.cls ≠ "java/lang/invoke/VarHandle" ∧ (parseMethodDescriptor yX14_rubs.desc).map (fun d => d.parameters.length) = some 1 := by decide +kernel
theorem he_X14_rubs : yX14_rubs.cls ≠ "java/lang/invoke/MethodHandle" ∧ yX14_rubs.cls ≠ "java/lang/invoke/VarHandle" ∧ (parseMethodDescriptor yX14_rubs.desc).map (fun d => d.parameters.length) = some 1 := hd_X14_rubs.2

set_option maxHeartbeats 4000000 in
set_option maxRecDepth 100000 in
theorem w_X14_rubs {l : Launch} {G : Gx} {sh : SM} {g : GM} {gl : LM} {gr : RM} {n : Nat} (hSk : Sk sh gr) (a1 : Int32)  {r : Int32} {go : GM} (h : f_X14_rubs g a1 = some (r, go)) : MetI l G yX14_rubs (ws_ yX14_rubs cX14_rubs 2 (Option.some Jvm.ClassFile.FieldType.int)) rm_X14_rubs [.ref (adr G 128), .int a1] sh g gl gr n (some (.int r)) sh go gl gr n := by
  refine MetI.of (by decide) (Nat.le_of_ble_eq_true rfl) ?_
  intro p e s m below meth c ls hx hb hr hml hown hts hlk hnm hW hK hR hS hl
  have hown : s.vm.findClass RX14 = some m.cls := hown
  have hF : CallFix p m c cX14_rubs 2 s ([.ref (adr G 128), .int a1] : List Value).toArray lw_all RX14 := ⟨hx, hb, hml, hown, hts⟩
  have hl : lv_has ls 2 [(0, .ref (adr G 128)), (1, .int a1)] := hl
  unfold f_X14_rubs at h
  refine lv_aload_n hx hb dX14_rubs_0 rfl (lv_at hl 0 rfl) ?_
  refine r_geti hx hb hts cfX14 hown hK hR (sk_128 hSk) 21 (by decide) rfl (hts _ q1542) (fun _ h => h) dX14_rubs_1 ?_
  by_cases c1 : (g 128 21) = 2
  · replace h := ifp h c1
    refine lv_tableIn (off := 28) (tgt := 32) hx hb dX14_rubs_4 (by rw [c1]; decide) (by rw [c1]; decide) (by rw [c1]; decide) (by decide) ?_
    refine lv_aload_n hx hb dX14_rubs_32 rfl (lv_at hl 0 rfl) ?_
    refine lv_iload_n hx hb dX14_rubs_33 rfl (lv_at hl 1 rfl) ?_
    obtain ⟨r3, g4, e2, h⟩ := obd2 h
    refine rc_V0 (rest := []) (st1 := [.int r3]) hF (w_X14_linenRubs hSk a1 e2) (cwV 1 hts (lw_V q2035 q2037 qs89 q117 q2038) rfl rfl rfl hd_X14_linenRubs ⟨Nat.le_of_ble_eq_true rfl, Nat.le_of_ble_eq_true rfl⟩) cfX14 (sk_128 hSk) hK hW hR hS rfl hl.1 rfl (Nat.le_of_ble_eq_true rfl) rfl dX14_rubs_34 ⟨rfl, rfl⟩ ⟨Nat.zero_le _, Nat.zero_le _⟩ (fun H locs hR hS => ?_)
    obtain ⟨rfl, rfl⟩ := s2i h
    exact r_iret0 hx hb hr hlk hR hS (Nat.zero_le _) (Nat.zero_le _) dX14_rubs_37
  · replace h := ifn h c1
    by_cases c5 : (g 128 21) = 3
    · replace h := ifp h c5
      refine lv_tableIn (off := 48) (tgt := 52) hx hb dX14_rubs_4 (by rw [c5]; decide) (by rw [c5]; decide) (by rw [c5]; decide) (by decide) ?_
      refine lv_aload_n hx hb dX14_rubs_52 rfl (lv_at hl 0 rfl) ?_
      refine lv_bipush (v := 51) hx hb dX14_rubs_53 kb_51 ?_
      obtain ⟨g7, e6, h⟩ := obd h
      refine rc_V0 (rest := []) (st1 := []) hF (w_X14_runs hSk 51 e6) (cwV 1 hts (lw_V q2039 q2041 qs90 q117 q2042) rfl rfl rfl hd_X14_runs ⟨Nat.le_of_ble_eq_true rfl, Nat.le_of_ble_eq_true rfl⟩) cfX14 (sk_128 hSk) hK hW hR hS rfl hl.1 rfl (Nat.le_of_ble_eq_true rfl) rfl dX14_rubs_55 ⟨rfl, rfl⟩ ⟨Nat.zero_le _, Nat.zero_le _⟩ (fun H locs hR hS => ?_)
      refine lv_aload_n hx hb dX14_rubs_58 rfl (lv_at hl 0 rfl) ?_
      refine lv_iload_n hx hb dX14_rubs_59 rfl (lv_at hl 1 rfl) ?_
      obtain ⟨r9, g10, e8, h⟩ := obd2 h
      refine rc_V0 (rest := []) (st1 := [.int r9]) hF (w_X14_plainRubs hSk a1 e8) (cwV 1 hts (lw_V q2043 q2045 qs91 q117 q2046) rfl rfl rfl hd_X14_plainRubs ⟨Nat.le_of_ble_eq_true rfl, Nat.le_of_ble_eq_true rfl⟩) cfX14 (sk_128 hSk) hK hW hR hS rfl hl.1 rfl (Nat.le_of_ble_eq_true rfl) rfl dX14_rubs_60 ⟨rfl, rfl⟩ ⟨Nat.zero_le _, Nat.zero_le _⟩ (fun H locs hR hS => ?_)
      refine lv_iconst (v := 2) hx hb dX14_rubs_63 ki_2 ?_
      refine lv_isub hx hb dX14_rubs_64 ?_
      obtain ⟨rfl, rfl⟩ := s2i h
      exact r_iret0 hx hb hr hlk hR hS (Nat.zero_le _) (Nat.zero_le _) dX14_rubs_65
    · replace h := ifn h c5
      by_cases c11 : (g 128 21) = 4
      · replace h := ifp h c11
        refine lv_tableIn (off := 34) (tgt := 38) hx hb dX14_rubs_4 (by rw [c11]; decide) (by rw [c11]; decide) (by rw [c11]; decide) (by decide) ?_
        refine lv_aload_n hx hb dX14_rubs_38 rfl (lv_at hl 0 rfl) ?_
        refine lv_bipush (v := 40) hx hb dX14_rubs_39 kb_40 ?_
        obtain ⟨g13, e12, h⟩ := obd h
        refine rc_V0 (rest := []) (st1 := []) hF (w_X14_runs hSk 40 e12) (cwV 1 hts (lw_V q2039 q2041 qs90 q117 q2042) rfl rfl rfl hd_X14_runs ⟨Nat.le_of_ble_eq_true rfl, Nat.le_of_ble_eq_true rfl⟩) cfX14 (sk_128 hSk) hK hW hR hS rfl hl.1 rfl (Nat.le_of_ble_eq_true rfl) rfl dX14_rubs_41 ⟨rfl, rfl⟩ ⟨Nat.zero_le _, Nat.zero_le _⟩ (fun H locs hR hS => ?_)
        refine lv_iconst (v := 0) hx hb dX14_rubs_44 ki_0 ?_
        refine lv_aload_n hx hb dX14_rubs_45 rfl (lv_at hl 0 rfl) ?_
        refine lv_iload_n hx hb dX14_rubs_46 rfl (lv_at hl 1 rfl) ?_
        obtain ⟨r15, g16, e14, h⟩ := obd2 h
        refine rc_V0 (rest := [.int 0]) (st1 := [.int r15, .int 0]) hF (w_X14_linenRubs hSk a1 e14) (cwV 1 hts (lw_V q2035 q2037 qs89 q117 q2038) rfl rfl rfl hd_X14_linenRubs ⟨Nat.le_of_ble_eq_true rfl, Nat.le_of_ble_eq_true rfl⟩) cfX14 (sk_128 hSk) hK hW hR hS rfl hl.1 rfl (Nat.le_of_ble_eq_true rfl) rfl dX14_rubs_47 ⟨rfl, rfl⟩ ⟨Nat.zero_le _, Nat.zero_le _⟩ (fun H locs hR hS => ?_)
        refine lv_isub hx hb dX14_rubs_50 ?_
        obtain ⟨rfl, rfl⟩ := s2i h
        exact r_iret0 hx hb hr hlk hR hS (Nat.zero_le _) (Nat.zero_le _) dX14_rubs_51
      · replace h := ifn h c11
        have dc1 : Int32.toInt (g 128 21) ≠ 2 := ne32 c1 (by decide)
        have dc5 : Int32.toInt (g 128 21) ≠ 3 := ne32 c5 (by decide)
        have dc11 : Int32.toInt (g 128 21) ≠ 4 := ne32 c11 (by decide)
        refine lv_tableOut (tgt := 66) hx hb dX14_rubs_4 (by omega) (by decide) ?_
        refine lv_aload_n hx hb dX14_rubs_66 rfl (lv_at hl 0 rfl) ?_
        refine lv_iload_n hx hb dX14_rubs_67 rfl (lv_at hl 1 rfl) ?_
        obtain ⟨r18, g19, e17, h⟩ := obd2 h
        refine rc_V0 (rest := []) (st1 := [.int r18]) hF (w_X14_plainRubs hSk a1 e17) (cwV 1 hts (lw_V q2043 q2045 qs91 q117 q2046) rfl rfl rfl hd_X14_plainRubs ⟨Nat.le_of_ble_eq_true rfl, Nat.le_of_ble_eq_true rfl⟩) cfX14 (sk_128 hSk) hK hW hR hS rfl hl.1 rfl (Nat.le_of_ble_eq_true rfl) rfl dX14_rubs_68 ⟨rfl, rfl⟩ ⟨Nat.zero_le _, Nat.zero_le _⟩ (fun H locs hR hS => ?_)
        obtain ⟨rfl, rfl⟩ := s2i h
        exact r_iret0 hx hb hr hlk hR hS (Nat.zero_le _) (Nat.zero_le _) dX14_rubs_71
def rm_X14_plainSteeps : Room := { frames := 5, cells := 0, slots := 0, locals := 96 }
theorem hd_X14_plainSteeps : yX14_plainSteeps.cls = "IntentVatsModel" ∧ yX14_plainSteeps.cls ≠ "java/lang/invoke/MethodHandle" ∧ yX14_plainSteeps.cls ≠ "java/lang/invoke/VarHandle" ∧ (parseMethodDescriptor yX14_plainSteeps.desc).map (fun d => d.parameters.length) = some 1 := by decide +kernel
theorem he_X14_plainSteeps : yX14_plainSteeps.cls ≠ "java/lang/invoke/MethodHandle" ∧ yX14_plainSteeps.cls ≠ "java/lang/invoke/VarHandle" ∧ (parseMethodDescriptor yX14_plainSteeps.desc).map (fun d => d.parameters.length) = some 1 := hd_X14_plainSteeps.2

set_option maxHeartbeats 4000000 in
set_option maxRecDepth 100000 in
theorem w_X14_plainSteeps {l : Launch} {G : Gx} {sh : SM} {g : GM} {gl : LM} {gr : RM} {n : Nat} (hSk : Sk sh gr) (a1 : Int32)  {r : Int32} {go : GM} (h : f_X14_plainSteeps g a1 = some (r, go)) : MetI l G yX14_plainSteeps (ws_ yX14_plainSteeps cX14_plainSteeps 2 (Option.some Jvm.ClassFile.FieldType.int)) rm_X14_plainSteeps [.ref (adr G 128), .int a1] sh g gl gr n (some (.int r)) sh go gl gr n := by
  refine MetI.of (by decide) (Nat.le_of_ble_eq_true rfl) ?_
  intro p e s m below meth c ls hx hb hr hml hown hts hlk hnm hW hK hR hS hl
  have hown : s.vm.findClass RX14 = some m.cls := hown
  have hF : CallFix p m c cX14_plainSteeps 2 s ([.ref (adr G 128), .int a1] : List Value).toArray lw_all RX14 := ⟨hx, hb, hml, hown, hts⟩
  have hl : lv_has ls 2 [(0, .ref (adr G 128)), (1, .int a1)] := hl
  unfold f_X14_plainSteeps at h
  refine lv_aload_n hx hb dX14_plainSteeps_0 rfl (lv_at hl 0 rfl) ?_
  refine lv_bipush (v := 11) hx hb dX14_plainSteeps_1 kb_11 ?_
  obtain ⟨g2, e1, h⟩ := obd h
  refine rc_V0 (rest := []) (st1 := []) hF (w_X14_runs hSk 11 e1) (cwV 1 hts (lw_V q2039 q2041 qs90 q117 q2042) rfl rfl rfl hd_X14_runs ⟨Nat.le_of_ble_eq_true rfl, Nat.le_of_ble_eq_true rfl⟩) cfX14 (sk_128 hSk) hK hW hR hS rfl hl.1 rfl (Nat.le_of_ble_eq_true rfl) rfl dX14_plainSteeps_3 ⟨rfl, rfl⟩ ⟨Nat.zero_le _, Nat.zero_le _⟩ (fun H locs hR hS => ?_)
  refine lv_aload_n hx hb dX14_plainSteeps_6 rfl (lv_at hl 0 rfl) ?_
  refine lv_iload_n hx hb dX14_plainSteeps_7 rfl (lv_at hl 1 rfl) ?_
  obtain ⟨r4, g5, e3, h⟩ := obd2 h
  refine rc_V0 (rest := []) (st1 := [.int r4]) hF (w_X14_rubs hSk a1 e3) (cwV 1 hts (lw_V q2031 q2033 qs88 q117 q2034) rfl rfl rfl hd_X14_rubs ⟨Nat.le_of_ble_eq_true rfl, Nat.le_of_ble_eq_true rfl⟩) cfX14 (sk_128 hSk) hK hW hR hS rfl hl.1 rfl (Nat.le_of_ble_eq_true rfl) rfl dX14_plainSteeps_8 ⟨rfl, rfl⟩ ⟨Nat.zero_le _, Nat.zero_le _⟩ (fun H locs hR hS => ?_)
  refine lv_aload_n hx hb dX14_plainSteeps_11 rfl (lv_at hl 0 rfl) ?_
  refine r_geti hx hb hts cfX14 hown hK hR (sk_128 hSk) 23 (by decide) rfl (hts _ q1544) (fun _ h => h) dX14_plainSteeps_12 ?_
  refine lv_bipush (v := 9) hx hb dX14_plainSteeps_15 kb_9 ?_
  refine lv_imul hx hb dX14_plainSteeps_17 ?_
  refine lv_iadd hx hb dX14_plainSteeps_18 ?_
  obtain ⟨rfl, rfl⟩ := s2i h
  exact r_iret0 hx hb hr hlk hR hS (Nat.zero_le _) (Nat.zero_le _) dX14_plainSteeps_19
def rm_X14_steepsAct : Room := { frames := 6, cells := 0, slots := 0, locals := 117 }
theorem hd_X14_steepsAct : yX14_steepsAct.cls = "IntentVatsModel" ∧ yX14_steepsAct.cls ≠ "java/lang/invoke/MethodHandle" ∧ yX14_steepsAct.cls ≠ "java/lang/invoke/VarHandle" ∧ (parseMethodDescriptor yX14_steepsAct.desc).map (fun d => d.parameters.length) = some 1 := by decide +kernel
theorem he_X14_steepsAct : yX14_steepsAct.cls ≠ "java/lang/invoke/MethodHandle" ∧ yX14_steepsAct.cls ≠ "java/lang/invoke/VarHandle" ∧ (parseMethodDescriptor yX14_steepsAct.desc).map (fun d => d.parameters.length) = some 1 := hd_X14_steepsAct.2

set_option maxHeartbeats 4000000 in
set_option maxRecDepth 100000 in
theorem w_X14_steepsAct {l : Launch} {G : Gx} {sh : SM} {g : GM} {gl : LM} {gr : RM} {n : Nat} (hSk : Sk sh gr) (a1 : Int32)  {r : Int32} {go : GM} (h : f_X14_steepsAct g a1 = some (r, go)) : MetI l G yX14_steepsAct (ws_ yX14_steepsAct cX14_steepsAct 3 (Option.some Jvm.ClassFile.FieldType.int)) rm_X14_steepsAct [.ref (adr G 128), .int a1] sh g gl gr n (some (.int r)) sh go gl gr n := by
  refine MetI.of (by decide) (Nat.le_of_ble_eq_true rfl) ?_
  intro p e s m below meth c ls hx hb hr hml hown hts hlk hnm hW hK hR hS hl
  have hown : s.vm.findClass RX14 = some m.cls := hown
  have hF : CallFix p m c cX14_steepsAct 3 s ([.ref (adr G 128), .int a1] : List Value).toArray lw_all RX14 := ⟨hx, hb, hml, hown, hts⟩
  have hl : lv_has ls 3 [(0, .ref (adr G 128)), (1, .int a1)] := hl
  unfold f_X14_steepsAct at h
  refine lv_aload_n hx hb dX14_steepsAct_0 rfl (lv_at hl 0 rfl) ?_
  refine r_geti hx hb hts cfX14 hown hK hR (sk_128 hSk) 21 (by decide) rfl (hts _ q1542) (fun _ h => h) dX14_steepsAct_1 ?_
  refine lv_iconst (v := 1) hx hb dX14_steepsAct_4 ki_1 ?_
  have J16 : ∀  (H : Heap) (locs : List Loc) (ls : Array Slot), Rep G sh g gl gr n H → va_S (own G) s.heap H locs → lv_has ls 3 [(0, .ref (adr G 128)), (1, .int a1)] → j_X14_steepsAct_16 g a1  = some (r, go) → W p l e rm_X14_steepsAct s m ([.ref (adr G 128), .int a1] : List Value).toArray below meth c H locs 0 0 (MQ below (QR G (some (.int r)) sh go gl gr n) ([.ref (adr G 128), .int a1] : List Value).toArray s rm_X14_steepsAct.cells rm_X14_steepsAct.slots (own G)) (F0 m 16 ls []) := by
    intro  H locs ls hR hS hl h
    unfold j_X14_steepsAct_16 at h
    refine lv_aload_n hx hb dX14_steepsAct_16 rfl (lv_at hl 0 rfl) ?_
    refine lv_bipush (v := 20) hx hb dX14_steepsAct_17 kb_20 ?_
    obtain ⟨g2, e1, h⟩ := obd h
    refine rc_V0 (rest := []) (st1 := []) hF (w_X14_runs hSk 20 e1) (cwV 1 hts (lw_V q2039 q2041 qs90 q117 q2042) rfl rfl rfl hd_X14_runs ⟨Nat.le_of_ble_eq_true rfl, Nat.le_of_ble_eq_true rfl⟩) cfX14 (sk_128 hSk) hK hW hR hS rfl hl.1 rfl (Nat.le_of_ble_eq_true rfl) rfl dX14_steepsAct_19 ⟨rfl, rfl⟩ ⟨Nat.zero_le _, Nat.zero_le _⟩ (fun H locs hR hS => ?_)
    refine lv_aload_n hx hb dX14_steepsAct_22 rfl (lv_at hl 0 rfl) ?_
    refine lv_iload_n hx hb dX14_steepsAct_23 rfl (lv_at hl 1 rfl) ?_
    obtain ⟨r4, g5, e3, h⟩ := obd2 h
    refine rc_V0 (rest := []) (st1 := [.int r4]) hF (w_X14_plainSteeps hSk a1 e3) (cwV 1 hts (lw_V q2051 q2053 qs93 q117 q2054) rfl rfl rfl hd_X14_plainSteeps ⟨Nat.le_of_ble_eq_true rfl, Nat.le_of_ble_eq_true rfl⟩) cfX14 (sk_128 hSk) hK hW hR hS rfl hl.1 rfl (Nat.le_of_ble_eq_true rfl) rfl dX14_steepsAct_24 ⟨rfl, rfl⟩ ⟨Nat.zero_le _, Nat.zero_le _⟩ (fun H locs hR hS => ?_)
    refine lv_bipush (v := 6) hx hb dX14_steepsAct_27 kb_6 ?_
    refine lv_isub hx hb dX14_steepsAct_29 ?_
    obtain ⟨rfl, rfl⟩ := s2i h
    exact r_iret0 hx hb hr hlk hR hS (Nat.zero_le _) (Nat.zero_le _) dX14_steepsAct_30
  refine lv_icmp_eq (tgt := 16) hx hb dX14_steepsAct_5 (by decide) (fun c6 => ?_) (fun c6 => ?_)
  · replace h := ifp h c6
    exact J16  _ _ _ hR hS (lv_sub hl [0, 1] rfl) h
  · replace h := ifn h c6
    refine lv_aload_n hx hb dX14_steepsAct_8 rfl (lv_at hl 0 rfl) ?_
    refine r_geti hx hb hts cfX14 hown hK hR (sk_128 hSk) 21 (by decide) rfl (hts _ q1542) (fun _ h => h) dX14_steepsAct_9 ?_
    refine lv_iconst (v := 3) hx hb dX14_steepsAct_12 ki_3 ?_
    refine lv_icmp_ne (tgt := 31) hx hb dX14_steepsAct_13 (by decide) (fun c7 => ?_) (fun c7 => ?_)
    · replace h := ifn h c7
      refine lv_aload_n hx hb dX14_steepsAct_31 rfl (lv_at hl 0 rfl) ?_
      refine r_geti hx hb hts cfX14 hown hK hR (sk_128 hSk) 21 (by decide) rfl (hts _ q1542) (fun _ h => h) dX14_steepsAct_32 ?_
      refine lv_iconst (v := 4) hx hb dX14_steepsAct_35 ki_4 ?_
      refine lv_icmp_ne (tgt := 62) hx hb dX14_steepsAct_36 (by decide) (fun c8 => ?_) (fun c8 => ?_)
      · replace h := ifn h c8
        refine lv_aload_n hx hb dX14_steepsAct_62 rfl (lv_at hl 0 rfl) ?_
        refine lv_iload_n hx hb dX14_steepsAct_63 rfl (lv_at hl 1 rfl) ?_
        obtain ⟨r10, g11, e9, h⟩ := obd2 h
        refine rc_V0 (rest := []) (st1 := [.int r10]) hF (w_X14_plainSteeps hSk a1 e9) (cwV 1 hts (lw_V q2051 q2053 qs93 q117 q2054) rfl rfl rfl hd_X14_plainSteeps ⟨Nat.le_of_ble_eq_true rfl, Nat.le_of_ble_eq_true rfl⟩) cfX14 (sk_128 hSk) hK hW hR hS rfl hl.1 rfl (Nat.le_of_ble_eq_true rfl) rfl dX14_steepsAct_64 ⟨rfl, rfl⟩ ⟨Nat.zero_le _, Nat.zero_le _⟩ (fun H locs hR hS => ?_)
        obtain ⟨rfl, rfl⟩ := s2i h
        exact r_iret0 hx hb hr hlk hR hS (Nat.zero_le _) (Nat.zero_le _) dX14_steepsAct_67
      · replace h := ifp h c8
        refine lv_aload_n hx hb dX14_steepsAct_39 rfl (lv_at hl 0 rfl) ?_
        refine lv_bipush (v := 41) hx hb dX14_steepsAct_40 kb_41 ?_
        obtain ⟨g13, e12, h⟩ := obd h
        refine rc_V0 (rest := []) (st1 := []) hF (w_X14_runs hSk 41 e12) (cwV 1 hts (lw_V q2039 q2041 qs90 q117 q2042) rfl rfl rfl hd_X14_runs ⟨Nat.le_of_ble_eq_true rfl, Nat.le_of_ble_eq_true rfl⟩) cfX14 (sk_128 hSk) hK hW hR hS rfl hl.1 rfl (Nat.le_of_ble_eq_true rfl) rfl dX14_steepsAct_42 ⟨rfl, rfl⟩ ⟨Nat.zero_le _, Nat.zero_le _⟩ (fun H locs hR hS => ?_)
        refine lv_aload_n hx hb dX14_steepsAct_45 rfl (lv_at hl 0 rfl) ?_
        refine lv_iload_n hx hb dX14_steepsAct_46 rfl (lv_at hl 1 rfl) ?_
        obtain ⟨r15, g16, e14, h⟩ := obd2 h
        refine rc_V0 (rest := []) (st1 := [.int r15]) hF (w_X14_plainSteeps hSk a1 e14) (cwV 1 hts (lw_V q2051 q2053 qs93 q117 q2054) rfl rfl rfl hd_X14_plainSteeps ⟨Nat.le_of_ble_eq_true rfl, Nat.le_of_ble_eq_true rfl⟩) cfX14 (sk_128 hSk) hK hW hR hS rfl hl.1 rfl (Nat.le_of_ble_eq_true rfl) rfl dX14_steepsAct_47 ⟨rfl, rfl⟩ ⟨Nat.zero_le _, Nat.zero_le _⟩ (fun H locs hR hS => ?_)
        refine lv_istore_n (lv' := [(2, .int r15), (0, .ref (adr G 128)), (1, .int a1)]) hx hb dX14_steepsAct_50 rfl hl (by decide) rfl (fun ls hl => ?_)
        refine lv_iload_n hx hb dX14_steepsAct_51 rfl (lv_at hl 0 rfl) ?_
        refine lv_aload_n hx hb dX14_steepsAct_52 rfl (lv_at hl 1 rfl) ?_
        refine lv_aload_n hx hb dX14_steepsAct_53 rfl (lv_at hl 1 rfl) ?_
        refine r_geti hx hb hts cfX14 hown hK hR (sk_128 hSk) 23 (by decide) rfl (hts _ q1544) (fun _ h => h) dX14_steepsAct_54 ?_
        obtain ⟨r18, g19, e17, h⟩ := obd2 h
        refine rc_V0 (rest := [.int r15]) (st1 := [.int r18, .int r15]) hF (w_X14_rubs hSk (g16 128 23) e17) (cwV 1 hts (lw_V q2031 q2033 qs88 q117 q2034) rfl rfl rfl hd_X14_rubs ⟨Nat.le_of_ble_eq_true rfl, Nat.le_of_ble_eq_true rfl⟩) cfX14 (sk_128 hSk) hK hW hR hS rfl hl.1 rfl (Nat.le_of_ble_eq_true rfl) rfl dX14_steepsAct_57 ⟨rfl, rfl⟩ ⟨Nat.zero_le _, Nat.zero_le _⟩ (fun H locs hR hS => ?_)
        refine lv_ixor hx hb dX14_steepsAct_60 ?_
        obtain ⟨rfl, rfl⟩ := s2i h
        exact r_iret0 hx hb hr hlk hR hS (Nat.zero_le _) (Nat.zero_le _) dX14_steepsAct_61
    · replace h := ifp h c7
      exact J16  _ _ _ hR hS (lv_sub hl [0, 1] rfl) h
def rm_X14_plainParts : Room := { frames := 2, cells := 0, slots := 0, locals := 33 }
theorem hd_X14_plainParts : yX14_plainParts.cls = "IntentVatsModel" ∧ yX14_plainParts.cls ≠ "java/lang/invoke/MethodHandle" ∧ yX14_plainParts.cls ≠ "java/lang/invoke/VarHandle" ∧ (parseMethodDescriptor yX14_plainParts.desc).map (fun d => d.parameters.length) = some 1 := by decide +kernel
theorem he_X14_plainParts : yX14_plainParts.cls ≠ "java/lang/invoke/MethodHandle" ∧ yX14_plainParts.cls ≠ "java/lang/invoke/VarHandle" ∧ (parseMethodDescriptor yX14_plainParts.desc).map (fun d => d.parameters.length) = some 1 := hd_X14_plainParts.2

set_option maxHeartbeats 4000000 in
set_option maxRecDepth 100000 in
theorem w_X14_plainParts {l : Launch} {G : Gx} {sh : SM} {g : GM} {gl : LM} {gr : RM} {n : Nat} (hSk : Sk sh gr) (a1 : Int32)  {r : Int32} {go : GM} (h : f_X14_plainParts g a1 = some (r, go)) : MetI l G yX14_plainParts (ws_ yX14_plainParts cX14_plainParts 2 (Option.some Jvm.ClassFile.FieldType.int)) rm_X14_plainParts [.ref (adr G 128), .int a1] sh g gl gr n (some (.int r)) sh go gl gr n := by
  refine MetI.of (by decide) (Nat.le_of_ble_eq_true rfl) ?_
  intro p e s m below meth c ls hx hb hr hml hown hts hlk hnm hW hK hR hS hl
  have hown : s.vm.findClass RX14 = some m.cls := hown
  have hF : CallFix p m c cX14_plainParts 2 s ([.ref (adr G 128), .int a1] : List Value).toArray lw_all RX14 := ⟨hx, hb, hml, hown, hts⟩
  have hl : lv_has ls 2 [(0, .ref (adr G 128)), (1, .int a1)] := hl
  unfold f_X14_plainParts at h
  refine lv_aload_n hx hb dX14_plainParts_0 rfl (lv_at hl 0 rfl) ?_
  refine lv_bipush (v := 12) hx hb dX14_plainParts_1 kb_12 ?_
  obtain ⟨g2, e1, h⟩ := obd h
  refine rc_V0 (rest := []) (st1 := []) hF (w_X14_runs hSk 12 e1) (cwV 1 hts (lw_V q2039 q2041 qs90 q117 q2042) rfl rfl rfl hd_X14_runs ⟨Nat.le_of_ble_eq_true rfl, Nat.le_of_ble_eq_true rfl⟩) cfX14 (sk_128 hSk) hK hW hR hS rfl hl.1 rfl (Nat.le_of_ble_eq_true rfl) rfl dX14_plainParts_3 ⟨rfl, rfl⟩ ⟨Nat.zero_le _, Nat.zero_le _⟩ (fun H locs hR hS => ?_)
  refine lv_aload_n hx hb dX14_plainParts_6 rfl (lv_at hl 0 rfl) ?_
  refine lv_aload_n hx hb dX14_plainParts_7 rfl (lv_at hl 0 rfl) ?_
  refine r_geti hx hb hts cfX14 hown hK hR (sk_128 hSk) 24 (by decide) rfl (hts _ q1545) (fun _ h => h) dX14_plainParts_8 ?_
  have J30 : ∀ (x3 : Int32) (H : Heap) (locs : List Loc) (ls : Array Slot), Rep G sh g2 gl gr n H → va_S (own G) s.heap H locs → lv_has ls 2 [(0, .ref (adr G 128)), (1, .int a1)] → j_X14_plainParts_30 a1 g2 x3 = some (r, go) → W p l e rm_X14_plainParts s m ([.ref (adr G 128), .int a1] : List Value).toArray below meth c H locs 0 0 (MQ below (QR G (some (.int r)) sh go gl gr n) ([.ref (adr G 128), .int a1] : List Value).toArray s rm_X14_plainParts.cells rm_X14_plainParts.slots (own G)) (F0 m 30 ls [.int x3, .ref (adr G 128)]) := by
    intro x3 H locs ls hR hS hl h
    unfold j_X14_plainParts_30 at h
    obtain ⟨c4, h⟩ := ogrd h
    obtain ⟨g6, e5, h⟩ := obd h
    refine r_puti hx hb hts cfX14 hown hK hR hS (sk_128 hSk) 24 (by decide) rfl (hts _ q1545) (fun _ h => h) (Or.inl rfl) (nb01 c4) (fb01 c4) e5 dX14_plainParts_30 (fun H locs hR hS => ?_)
    refine lv_aload_n hx hb dX14_plainParts_33 rfl (lv_at hl 0 rfl) ?_
    refine r_geti hx hb hts cfX14 hown hK hR (sk_128 hSk) 23 (by decide) rfl (hts _ q1544) (fun _ h => h) dX14_plainParts_34 ?_
    refine lv_aload_n hx hb dX14_plainParts_37 rfl (lv_at hl 0 rfl) ?_
    refine r_geti hx hb hts cfX14 hown hK hR (sk_128 hSk) 22 (by decide) rfl (hts _ q1543) (fun _ h => h) dX14_plainParts_38 ?_
    have J77 : ∀ (x7 : Int32) (H : Heap) (locs : List Loc) (ls : Array Slot), Rep G sh g6 gl gr n H → va_S (own G) s.heap H locs → lv_has ls 2 [] → j_X14_plainParts_77 g6 x7 = some (r, go) → W p l e rm_X14_plainParts s m ([.ref (adr G 128), .int a1] : List Value).toArray below meth c H locs 0 0 (MQ below (QR G (some (.int r)) sh go gl gr n) ([.ref (adr G 128), .int a1] : List Value).toArray s rm_X14_plainParts.cells rm_X14_plainParts.slots (own G)) (F0 m 77 ls [.int x7]) := by
      intro x7 H locs ls hR hS hl h
      unfold j_X14_plainParts_77 at h
      obtain ⟨rfl, rfl⟩ := s2i h
      exact r_iret0 hx hb hr hlk hR hS (Nat.zero_le _) (Nat.zero_le _) dX14_plainParts_77
    refine lv_icmp_ne (tgt := 48) hx hb dX14_plainParts_41 (by decide) (fun c8 => ?_) (fun c8 => ?_)
    · replace h := ifn h c8
      refine lv_aload_n hx hb dX14_plainParts_48 rfl (lv_at hl 0 rfl) ?_
      refine r_geti hx hb hts cfX14 hown hK hR (sk_128 hSk) 23 (by decide) rfl (hts _ q1544) (fun _ h => h) dX14_plainParts_49 ?_
      refine lv_aload_n hx hb dX14_plainParts_52 rfl (lv_at hl 0 rfl) ?_
      refine r_geti hx hb hts cfX14 hown hK hR (sk_128 hSk) 22 (by decide) rfl (hts _ q1543) (fun _ h => h) dX14_plainParts_53 ?_
      refine lv_isub hx hb dX14_plainParts_56 ?_
      refine lv_iconst (v := (-1)) hx hb dX14_plainParts_57 ki_m1 ?_
      refine lv_icmp_ne (tgt := 66) hx hb dX14_plainParts_58 (by decide) (fun c9 => ?_) (fun c9 => ?_)
      · replace h := ifn h c9
        refine lv_iload_n hx hb dX14_plainParts_66 rfl (lv_at hl 1 rfl) ?_
        refine lv_aload_n hx hb dX14_plainParts_67 rfl (lv_at hl 0 rfl) ?_
        refine r_geti hx hb hts cfX14 hown hK hR (sk_128 hSk) 23 (by decide) rfl (hts _ q1544) (fun _ h => h) dX14_plainParts_68 ?_
        refine lv_aload_n hx hb dX14_plainParts_71 rfl (lv_at hl 0 rfl) ?_
        refine r_geti hx hb hts cfX14 hown hK hR (sk_128 hSk) 22 (by decide) rfl (hts _ q1543) (fun _ h => h) dX14_plainParts_72 ?_
        refine lv_isub hx hb dX14_plainParts_75 ?_
        obtain ⟨c10, h⟩ := ogrd h
        refine lv_idiv hx hb dX14_plainParts_76 c10 ?_
        exact J77 (a1 / ((g6 128 23) - (g6 128 22))) _ _ _ hR hS (lv_sub hl [] rfl) h
      · replace h := ifp h c9
        refine lv_iload_n hx hb dX14_plainParts_61 rfl (lv_at hl 1 rfl) ?_
        refine lv_ineg hx hb dX14_plainParts_62 ?_
        refine lv_goto (tgt := 77) hx hb dX14_plainParts_63 (by decide) ?_
        exact J77 (-a1) _ _ _ hR hS (lv_sub hl [] rfl) h
    · replace h := ifp h c8
      refine lv_iconst (v := 0) hx hb dX14_plainParts_44 ki_0 ?_
      refine lv_goto (tgt := 77) hx hb dX14_plainParts_45 (by decide) ?_
      exact J77 0 _ _ _ hR hS (lv_sub hl [] rfl) h
  have J25 : ∀  (H : Heap) (locs : List Loc) (ls : Array Slot), Rep G sh g2 gl gr n H → va_S (own G) s.heap H locs → lv_has ls 2 [(0, .ref (adr G 128)), (1, .int a1)] → j_X14_plainParts_25 a1 g2  = some (r, go) → W p l e rm_X14_plainParts s m ([.ref (adr G 128), .int a1] : List Value).toArray below meth c H locs 0 0 (MQ below (QR G (some (.int r)) sh go gl gr n) ([.ref (adr G 128), .int a1] : List Value).toArray s rm_X14_plainParts.cells rm_X14_plainParts.slots (own G)) (F0 m 25 ls [.ref (adr G 128)]) := by
    intro  H locs ls hR hS hl h
    unfold j_X14_plainParts_25 at h
    refine lv_iconst (v := 1) hx hb dX14_plainParts_25 ki_1 ?_
    refine lv_goto (tgt := 30) hx hb dX14_plainParts_26 (by decide) ?_
    exact J30 1 _ _ _ hR hS (lv_sub hl [0, 1] rfl) h
  refine lv_if_ne (tgt := 25) hx hb dX14_plainParts_11 (by decide) (fun c11 => ?_) (fun c11 => ?_)
  · replace h := ifn h c11
    exact J25  _ _ _ hR hS (lv_sub hl [0, 1] rfl) h
  · replace h := ifp h c11
    refine lv_aload_n hx hb dX14_plainParts_14 rfl (lv_at hl 0 rfl) ?_
    refine r_geti hx hb hts cfX14 hown hK hR (sk_128 hSk) 23 (by decide) rfl (hts _ q1544) (fun _ h => h) dX14_plainParts_15 ?_
    refine lv_aload_n hx hb dX14_plainParts_18 rfl (lv_at hl 0 rfl) ?_
    refine r_geti hx hb hts cfX14 hown hK hR (sk_128 hSk) 22 (by decide) rfl (hts _ q1543) (fun _ h => h) dX14_plainParts_19 ?_
    refine lv_icmp_ne (tgt := 29) hx hb dX14_plainParts_22 (by decide) (fun c12 => ?_) (fun c12 => ?_)
    · replace h := ifn h c12
      refine lv_iconst (v := 0) hx hb dX14_plainParts_29 ki_0 ?_
      exact J30 0 _ _ _ hR hS (lv_sub hl [0, 1] rfl) h
    · replace h := ifp h c12
      exact J25  _ _ _ hR hS (lv_sub hl [0, 1] rfl) h
def rm_X14_parts : Room := { frames := 5, cells := 0, slots := 0, locals := 96 }
theorem hd_X14_parts : yX14_parts.cls = "IntentVatsModel" ∧ yX14_parts.cls ≠ "java/lang/invoke/MethodHandle" ∧ yX14_parts.cls ≠ "java/lang/invoke/VarHandle" ∧ (parseMethodDescriptor yX14_parts.desc).map (fun d => d.parameters.length) = some 1 := by decide +kernel
theorem he_X14_parts : yX14_parts.cls ≠ "java/lang/invoke/MethodHandle" ∧ yX14_parts.cls ≠ "java/lang/invoke/VarHandle" ∧ (parseMethodDescriptor yX14_parts.desc).map (fun d => d.parameters.length) = some 1 := hd_X14_parts.2

set_option maxHeartbeats 4000000 in
set_option maxRecDepth 100000 in
theorem w_X14_parts {l : Launch} {G : Gx} {sh : SM} {g : GM} {gl : LM} {gr : RM} {n : Nat} (hSk : Sk sh gr) (a1 : Int32)  {r : Int32} {go : GM} (h : f_X14_parts g a1 = some (r, go)) : MetI l G yX14_parts (ws_ yX14_parts cX14_parts 3 (Option.some Jvm.ClassFile.FieldType.int)) rm_X14_parts [.ref (adr G 128), .int a1] sh g gl gr n (some (.int r)) sh go gl gr n := by
  refine MetI.of (by decide) (Nat.le_of_ble_eq_true rfl) ?_
  intro p e s m below meth c ls hx hb hr hml hown hts hlk hnm hW hK hR hS hl
  have hown : s.vm.findClass RX14 = some m.cls := hown
  have hF : CallFix p m c cX14_parts 3 s ([.ref (adr G 128), .int a1] : List Value).toArray lw_all RX14 := ⟨hx, hb, hml, hown, hts⟩
  have hl : lv_has ls 3 [(0, .ref (adr G 128)), (1, .int a1)] := hl
  unfold f_X14_parts at h
  refine lv_aload_n hx hb dX14_parts_0 rfl (lv_at hl 0 rfl) ?_
  refine r_geti hx hb hts cfX14 hown hK hR (sk_128 hSk) 21 (by decide) rfl (hts _ q1542) (fun _ h => h) dX14_parts_1 ?_
  refine lv_iconst (v := 3) hx hb dX14_parts_4 ki_3 ?_
  refine lv_icmp_ne (tgt := 27) hx hb dX14_parts_5 (by decide) (fun c1 => ?_) (fun c1 => ?_)
  · replace h := ifn h c1
    refine lv_aload_n hx hb dX14_parts_27 rfl (lv_at hl 0 rfl) ?_
    refine r_geti hx hb hts cfX14 hown hK hR (sk_128 hSk) 21 (by decide) rfl (hts _ q1542) (fun _ h => h) dX14_parts_28 ?_
    refine lv_iconst (v := 5) hx hb dX14_parts_31 ki_5 ?_
    refine lv_icmp_ne (tgt := 69) hx hb dX14_parts_32 (by decide) (fun c2 => ?_) (fun c2 => ?_)
    · replace h := ifn h c2
      refine lv_aload_n hx hb dX14_parts_69 rfl (lv_at hl 0 rfl) ?_
      refine lv_iload_n hx hb dX14_parts_70 rfl (lv_at hl 1 rfl) ?_
      obtain ⟨r4, g5, e3, h⟩ := obd2 h
      refine rc_V0 (rest := []) (st1 := [.int r4]) hF (w_X14_plainParts hSk a1 e3) (cwV 1 hts (lw_V q2059 q2061 qs95 q117 q2062) rfl rfl rfl hd_X14_plainParts ⟨Nat.le_of_ble_eq_true rfl, Nat.le_of_ble_eq_true rfl⟩) cfX14 (sk_128 hSk) hK hW hR hS rfl hl.1 rfl (Nat.le_of_ble_eq_true rfl) rfl dX14_parts_71 ⟨rfl, rfl⟩ ⟨Nat.zero_le _, Nat.zero_le _⟩ (fun H locs hR hS => ?_)
      obtain ⟨rfl, rfl⟩ := s2i h
      exact r_iret0 hx hb hr hlk hR hS (Nat.zero_le _) (Nat.zero_le _) dX14_parts_74
    · replace h := ifp h c2
      refine lv_aload_n hx hb dX14_parts_35 rfl (lv_at hl 0 rfl) ?_
      refine lv_bipush (v := 61) hx hb dX14_parts_36 kb_61 ?_
      obtain ⟨g7, e6, h⟩ := obd h
      refine rc_V0 (rest := []) (st1 := []) hF (w_X14_runs hSk 61 e6) (cwV 1 hts (lw_V q2039 q2041 qs90 q117 q2042) rfl rfl rfl hd_X14_runs ⟨Nat.le_of_ble_eq_true rfl, Nat.le_of_ble_eq_true rfl⟩) cfX14 (sk_128 hSk) hK hW hR hS rfl hl.1 rfl (Nat.le_of_ble_eq_true rfl) rfl dX14_parts_38 ⟨rfl, rfl⟩ ⟨Nat.zero_le _, Nat.zero_le _⟩ (fun H locs hR hS => ?_)
      refine lv_aload_n hx hb dX14_parts_41 rfl (lv_at hl 0 rfl) ?_
      refine lv_iload_n hx hb dX14_parts_42 rfl (lv_at hl 1 rfl) ?_
      obtain ⟨r9, g10, e8, h⟩ := obd2 h
      refine rc_V0 (rest := []) (st1 := [.int r9]) hF (w_X14_plainParts hSk a1 e8) (cwV 1 hts (lw_V q2059 q2061 qs95 q117 q2062) rfl rfl rfl hd_X14_plainParts ⟨Nat.le_of_ble_eq_true rfl, Nat.le_of_ble_eq_true rfl⟩) cfX14 (sk_128 hSk) hK hW hR hS rfl hl.1 rfl (Nat.le_of_ble_eq_true rfl) rfl dX14_parts_43 ⟨rfl, rfl⟩ ⟨Nat.zero_le _, Nat.zero_le _⟩ (fun H locs hR hS => ?_)
      refine lv_istore_n (lv' := [(2, .int r9), (0, .ref (adr G 128)), (1, .int a1)]) hx hb dX14_parts_46 rfl hl (by decide) rfl (fun ls hl => ?_)
      refine lv_aload_n hx hb dX14_parts_47 rfl (lv_at hl 1 rfl) ?_
      refine r_geti hx hb hts cfX14 hown hK hR (sk_128 hSk) 24 (by decide) rfl (hts _ q1545) (fun _ h => h) dX14_parts_48 ?_
      have J68 : ∀ (x11 : Int32) (g12 : GM) (H : Heap) (locs : List Loc) (ls : Array Slot), Rep G sh g12 gl gr n H → va_S (own G) s.heap H locs → lv_has ls 3 [] → j_X14_parts_68  x11 g12 = some (r, go) → W p l e rm_X14_parts s m ([.ref (adr G 128), .int a1] : List Value).toArray below meth c H locs 0 0 (MQ below (QR G (some (.int r)) sh go gl gr n) ([.ref (adr G 128), .int a1] : List Value).toArray s rm_X14_parts.cells rm_X14_parts.slots (own G)) (F0 m 68 ls [.int x11]) := by
        intro x11 g12 H locs ls hR hS hl h
        unfold j_X14_parts_68 at h
        obtain ⟨rfl, rfl⟩ := s2i h
        exact r_iret0 hx hb hr hlk hR hS (Nat.zero_le _) (Nat.zero_le _) dX14_parts_68
      refine lv_if_eq (tgt := 58) hx hb dX14_parts_51 (by decide) (fun c13 => ?_) (fun c13 => ?_)
      · replace h := ifp h c13
        refine lv_iload_n hx hb dX14_parts_58 rfl (lv_at hl 0 rfl) ?_
        refine lv_aload_n hx hb dX14_parts_59 rfl (lv_at hl 1 rfl) ?_
        refine lv_aload_n hx hb dX14_parts_60 rfl (lv_at hl 1 rfl) ?_
        refine r_geti hx hb hts cfX14 hown hK hR (sk_128 hSk) 22 (by decide) rfl (hts _ q1543) (fun _ h => h) dX14_parts_61 ?_
        obtain ⟨r15, g16, e14, h⟩ := obd2 h
        refine rc_V0 (rest := [.int r9]) (st1 := [.int r15, .int r9]) hF (w_X14_rubs hSk (g10 128 22) e14) (cwV 1 hts (lw_V q2031 q2033 qs88 q117 q2034) rfl rfl rfl hd_X14_rubs ⟨Nat.le_of_ble_eq_true rfl, Nat.le_of_ble_eq_true rfl⟩) cfX14 (sk_128 hSk) hK hW hR hS rfl hl.1 rfl (Nat.le_of_ble_eq_true rfl) rfl dX14_parts_64 ⟨rfl, rfl⟩ ⟨Nat.zero_le _, Nat.zero_le _⟩ (fun H locs hR hS => ?_)
        refine lv_isub hx hb dX14_parts_67 ?_
        exact J68 (r9 - r15) g16 _ _ _ hR hS (lv_sub hl [] rfl) h
      · replace h := ifn h c13
        refine lv_iconst (v := 0) hx hb dX14_parts_54 ki_0 ?_
        refine lv_goto (tgt := 68) hx hb dX14_parts_55 (by decide) ?_
        exact J68 0 g10 _ _ _ hR hS (lv_sub hl [] rfl) h
  · replace h := ifp h c1
    refine lv_aload_n hx hb dX14_parts_8 rfl (lv_at hl 0 rfl) ?_
    refine lv_bipush (v := 50) hx hb dX14_parts_9 kb_50 ?_
    obtain ⟨g18, e17, h⟩ := obd h
    refine rc_V0 (rest := []) (st1 := []) hF (w_X14_runs hSk 50 e17) (cwV 1 hts (lw_V q2039 q2041 qs90 q117 q2042) rfl rfl rfl hd_X14_runs ⟨Nat.le_of_ble_eq_true rfl, Nat.le_of_ble_eq_true rfl⟩) cfX14 (sk_128 hSk) hK hW hR hS rfl hl.1 rfl (Nat.le_of_ble_eq_true rfl) rfl dX14_parts_11 ⟨rfl, rfl⟩ ⟨Nat.zero_le _, Nat.zero_le _⟩ (fun H locs hR hS => ?_)
    refine lv_aload_n hx hb dX14_parts_14 rfl (lv_at hl 0 rfl) ?_
    refine lv_iload_n hx hb dX14_parts_15 rfl (lv_at hl 1 rfl) ?_
    refine lv_iconst (v := 3) hx hb dX14_parts_16 ki_3 ?_
    refine lv_iadd hx hb dX14_parts_17 ?_
    obtain ⟨r20, g21, e19, h⟩ := obd2 h
    refine rc_V0 (rest := []) (st1 := [.int r20]) hF (w_X14_plainParts hSk (a1 + 3) e19) (cwV 1 hts (lw_V q2059 q2061 qs95 q117 q2062) rfl rfl rfl hd_X14_plainParts ⟨Nat.le_of_ble_eq_true rfl, Nat.le_of_ble_eq_true rfl⟩) cfX14 (sk_128 hSk) hK hW hR hS rfl hl.1 rfl (Nat.le_of_ble_eq_true rfl) rfl dX14_parts_18 ⟨rfl, rfl⟩ ⟨Nat.zero_le _, Nat.zero_le _⟩ (fun H locs hR hS => ?_)
    refine lv_aload_n hx hb dX14_parts_21 rfl (lv_at hl 0 rfl) ?_
    refine r_geti hx hb hts cfX14 hown hK hR (sk_128 hSk) 23 (by decide) rfl (hts _ q1544) (fun _ h => h) dX14_parts_22 ?_
    refine lv_iadd hx hb dX14_parts_25 ?_
    obtain ⟨rfl, rfl⟩ := s2i h
    exact r_iret0 hx hb hr hlk hR hS (Nat.zero_le _) (Nat.zero_le _) dX14_parts_26
def rm_X14_plainDries : Room := { frames := 7, cells := 0, slots := 0, locals := 139 }
theorem hd_X14_plainDries : yX14_plainDries.cls = "IntentVatsModel" ∧ yX14_plainDries.cls ≠ "java/lang/invoke/MethodHandle" ∧ yX14_plainDries.cls ≠ "java/lang/invoke/VarHandle" ∧ (parseMethodDescriptor yX14_plainDries.desc).map (fun d => d.parameters.length) = some 1 := by decide +kernel
theorem he_X14_plainDries : yX14_plainDries.cls ≠ "java/lang/invoke/MethodHandle" ∧ yX14_plainDries.cls ≠ "java/lang/invoke/VarHandle" ∧ (parseMethodDescriptor yX14_plainDries.desc).map (fun d => d.parameters.length) = some 1 := hd_X14_plainDries.2

set_option maxHeartbeats 4000000 in
set_option maxRecDepth 100000 in
theorem w_X14_plainDries {l : Launch} {G : Gx} {sh : SM} {g : GM} {gl : LM} {gr : RM} {n : Nat} (hSk : Sk sh gr) (a1 : Int32)  {r : Int32} {go : GM} (h : f_X14_plainDries g a1 = some (r, go)) : MetI l G yX14_plainDries (ws_ yX14_plainDries cX14_plainDries 2 (Option.some Jvm.ClassFile.FieldType.int)) rm_X14_plainDries [.ref (adr G 128), .int a1] sh g gl gr n (some (.int r)) sh go gl gr n := by
  refine MetI.of (by decide) (Nat.le_of_ble_eq_true rfl) ?_
  intro p e s m below meth c ls hx hb hr hml hown hts hlk hnm hW hK hR hS hl
  have hown : s.vm.findClass RX14 = some m.cls := hown
  have hF : CallFix p m c cX14_plainDries 2 s ([.ref (adr G 128), .int a1] : List Value).toArray lw_all RX14 := ⟨hx, hb, hml, hown, hts⟩
  have hl : lv_has ls 2 [(0, .ref (adr G 128)), (1, .int a1)] := hl
  unfold f_X14_plainDries at h
  refine lv_aload_n hx hb dX14_plainDries_0 rfl (lv_at hl 0 rfl) ?_
  refine lv_bipush (v := 13) hx hb dX14_plainDries_1 kb_13 ?_
  obtain ⟨g2, e1, h⟩ := obd h
  refine rc_V0 (rest := []) (st1 := []) hF (w_X14_runs hSk 13 e1) (cwV 1 hts (lw_V q2039 q2041 qs90 q117 q2042) rfl rfl rfl hd_X14_runs ⟨Nat.le_of_ble_eq_true rfl, Nat.le_of_ble_eq_true rfl⟩) cfX14 (sk_128 hSk) hK hW hR hS rfl hl.1 rfl (Nat.le_of_ble_eq_true rfl) rfl dX14_plainDries_3 ⟨rfl, rfl⟩ ⟨Nat.zero_le _, Nat.zero_le _⟩ (fun H locs hR hS => ?_)
  refine lv_aload_n hx hb dX14_plainDries_6 rfl (lv_at hl 0 rfl) ?_
  refine lv_iload_n hx hb dX14_plainDries_7 rfl (lv_at hl 1 rfl) ?_
  obtain ⟨r4, g5, e3, h⟩ := obd2 h
  refine rc_V0 (rest := []) (st1 := [.int r4]) hF (w_X14_steepsAct hSk a1 e3) (cwV 1 hts (lw_V q2047 q2049 qs92 q117 q2050) rfl rfl rfl hd_X14_steepsAct ⟨Nat.le_of_ble_eq_true rfl, Nat.le_of_ble_eq_true rfl⟩) cfX14 (sk_128 hSk) hK hW hR hS rfl hl.1 rfl (Nat.le_of_ble_eq_true rfl) rfl dX14_plainDries_8 ⟨rfl, rfl⟩ ⟨Nat.zero_le _, Nat.zero_le _⟩ (fun H locs hR hS => ?_)
  refine lv_sipush (v := 240) hx hb dX14_plainDries_11 ks_240 ?_
  refine lv_ixor hx hb dX14_plainDries_14 ?_
  obtain ⟨rfl, rfl⟩ := s2i h
  exact r_iret0 hx hb hr hlk hR hS (Nat.zero_le _) (Nat.zero_le _) dX14_plainDries_15
def rm_X14_driesAct : Room := { frames := 8, cells := 0, slots := 0, locals := 160 }
theorem hd_X14_driesAct : yX14_driesAct.cls = "IntentVatsModel" ∧ yX14_driesAct.cls ≠ "java/lang/invoke/MethodHandle" ∧ yX14_driesAct.cls ≠ "java/lang/invoke/VarHandle" ∧ (parseMethodDescriptor yX14_driesAct.desc).map (fun d => d.parameters.length) = some 1 := by decide +kernel
theorem he_X14_driesAct : yX14_driesAct.cls ≠ "java/lang/invoke/MethodHandle" ∧ yX14_driesAct.cls ≠ "java/lang/invoke/VarHandle" ∧ (parseMethodDescriptor yX14_driesAct.desc).map (fun d => d.parameters.length) = some 1 := hd_X14_driesAct.2

set_option maxHeartbeats 4000000 in
set_option maxRecDepth 100000 in
theorem w_X14_driesAct {l : Launch} {G : Gx} {sh : SM} {g : GM} {gl : LM} {gr : RM} {n : Nat} (hSk : Sk sh gr) (a1 : Int32)  {r : Int32} {go : GM} (h : f_X14_driesAct g a1 = some (r, go)) : MetI l G yX14_driesAct (ws_ yX14_driesAct cX14_driesAct 3 (Option.some Jvm.ClassFile.FieldType.int)) rm_X14_driesAct [.ref (adr G 128), .int a1] sh g gl gr n (some (.int r)) sh go gl gr n := by
  refine MetI.of (by decide) (Nat.le_of_ble_eq_true rfl) ?_
  intro p e s m below meth c ls hx hb hr hml hown hts hlk hnm hW hK hR hS hl
  have hown : s.vm.findClass RX14 = some m.cls := hown
  have hF : CallFix p m c cX14_driesAct 3 s ([.ref (adr G 128), .int a1] : List Value).toArray lw_all RX14 := ⟨hx, hb, hml, hown, hts⟩
  have hl : lv_has ls 3 [(0, .ref (adr G 128)), (1, .int a1)] := hl
  unfold f_X14_driesAct at h
  refine lv_aload_n hx hb dX14_driesAct_0 rfl (lv_at hl 0 rfl) ?_
  refine r_geti hx hb hts cfX14 hown hK hR (sk_128 hSk) 21 (by decide) rfl (hts _ q1542) (fun _ h => h) dX14_driesAct_1 ?_
  refine lv_iconst (v := 2) hx hb dX14_driesAct_4 ki_2 ?_
  have J16 : ∀  (H : Heap) (locs : List Loc) (ls : Array Slot), Rep G sh g gl gr n H → va_S (own G) s.heap H locs → lv_has ls 3 [(0, .ref (adr G 128)), (1, .int a1)] → j_X14_driesAct_16 g a1  = some (r, go) → W p l e rm_X14_driesAct s m ([.ref (adr G 128), .int a1] : List Value).toArray below meth c H locs 0 0 (MQ below (QR G (some (.int r)) sh go gl gr n) ([.ref (adr G 128), .int a1] : List Value).toArray s rm_X14_driesAct.cells rm_X14_driesAct.slots (own G)) (F0 m 16 ls []) := by
    intro  H locs ls hR hS hl h
    unfold j_X14_driesAct_16 at h
    refine lv_aload_n hx hb dX14_driesAct_16 rfl (lv_at hl 0 rfl) ?_
    refine lv_bipush (v := 31) hx hb dX14_driesAct_17 kb_31 ?_
    obtain ⟨g2, e1, h⟩ := obd h
    refine rc_V0 (rest := []) (st1 := []) hF (w_X14_runs hSk 31 e1) (cwV 1 hts (lw_V q2039 q2041 qs90 q117 q2042) rfl rfl rfl hd_X14_runs ⟨Nat.le_of_ble_eq_true rfl, Nat.le_of_ble_eq_true rfl⟩) cfX14 (sk_128 hSk) hK hW hR hS rfl hl.1 rfl (Nat.le_of_ble_eq_true rfl) rfl dX14_driesAct_19 ⟨rfl, rfl⟩ ⟨Nat.zero_le _, Nat.zero_le _⟩ (fun H locs hR hS => ?_)
    refine lv_aload_n hx hb dX14_driesAct_22 rfl (lv_at hl 0 rfl) ?_
    refine lv_iload_n hx hb dX14_driesAct_23 rfl (lv_at hl 1 rfl) ?_
    obtain ⟨r4, g5, e3, h⟩ := obd2 h
    refine rc_V0 (rest := []) (st1 := [.int r4]) hF (w_X14_plainDries hSk a1 e3) (cwV 1 hts (lw_V q2067 q2069 qs97 q117 q2070) rfl rfl rfl hd_X14_plainDries ⟨Nat.le_of_ble_eq_true rfl, Nat.le_of_ble_eq_true rfl⟩) cfX14 (sk_128 hSk) hK hW hR hS rfl hl.1 rfl (Nat.le_of_ble_eq_true rfl) rfl dX14_driesAct_24 ⟨rfl, rfl⟩ ⟨Nat.zero_le _, Nat.zero_le _⟩ (fun H locs hR hS => ?_)
    refine lv_istore_n (lv' := [(2, .int r4), (0, .ref (adr G 128)), (1, .int a1)]) hx hb dX14_driesAct_27 rfl hl (by decide) rfl (fun ls hl => ?_)
    refine lv_iload_n hx hb dX14_driesAct_28 rfl (lv_at hl 0 rfl) ?_
    refine lv_aload_n hx hb dX14_driesAct_29 rfl (lv_at hl 1 rfl) ?_
    refine lv_aload_n hx hb dX14_driesAct_30 rfl (lv_at hl 1 rfl) ?_
    refine r_geti hx hb hts cfX14 hown hK hR (sk_128 hSk) 22 (by decide) rfl (hts _ q1543) (fun _ h => h) dX14_driesAct_31 ?_
    obtain ⟨r7, g8, e6, h⟩ := obd2 h
    refine rc_V0 (rest := [.int r4]) (st1 := [.int r7, .int r4]) hF (w_X14_parts hSk (g5 128 22) e6) (cwV 1 hts (lw_V q2055 q2057 qs94 q117 q2058) rfl rfl rfl hd_X14_parts ⟨Nat.le_of_ble_eq_true rfl, Nat.le_of_ble_eq_true rfl⟩) cfX14 (sk_128 hSk) hK hW hR hS rfl hl.1 rfl (Nat.le_of_ble_eq_true rfl) rfl dX14_driesAct_34 ⟨rfl, rfl⟩ ⟨Nat.zero_le _, Nat.zero_le _⟩ (fun H locs hR hS => ?_)
    refine lv_iadd hx hb dX14_driesAct_37 ?_
    obtain ⟨rfl, rfl⟩ := s2i h
    exact r_iret0 hx hb hr hlk hR hS (Nat.zero_le _) (Nat.zero_le _) dX14_driesAct_38
  refine lv_icmp_eq (tgt := 16) hx hb dX14_driesAct_5 (by decide) (fun c9 => ?_) (fun c9 => ?_)
  · replace h := ifp h c9
    exact J16  _ _ _ hR hS (lv_sub hl [0, 1] rfl) h
  · replace h := ifn h c9
    refine lv_aload_n hx hb dX14_driesAct_8 rfl (lv_at hl 0 rfl) ?_
    refine r_geti hx hb hts cfX14 hown hK hR (sk_128 hSk) 21 (by decide) rfl (hts _ q1542) (fun _ h => h) dX14_driesAct_9 ?_
    refine lv_iconst (v := 4) hx hb dX14_driesAct_12 ki_4 ?_
    refine lv_icmp_ne (tgt := 39) hx hb dX14_driesAct_13 (by decide) (fun c10 => ?_) (fun c10 => ?_)
    · replace h := ifn h c10
      refine lv_aload_n hx hb dX14_driesAct_39 rfl (lv_at hl 0 rfl) ?_
      refine r_geti hx hb hts cfX14 hown hK hR (sk_128 hSk) 21 (by decide) rfl (hts _ q1542) (fun _ h => h) dX14_driesAct_40 ?_
      refine lv_iconst (v := 5) hx hb dX14_driesAct_43 ki_5 ?_
      refine lv_icmp_ne (tgt := 61) hx hb dX14_driesAct_44 (by decide) (fun c11 => ?_) (fun c11 => ?_)
      · replace h := ifn h c11
        refine lv_aload_n hx hb dX14_driesAct_61 rfl (lv_at hl 0 rfl) ?_
        refine lv_iload_n hx hb dX14_driesAct_62 rfl (lv_at hl 1 rfl) ?_
        obtain ⟨r13, g14, e12, h⟩ := obd2 h
        refine rc_V0 (rest := []) (st1 := [.int r13]) hF (w_X14_plainDries hSk a1 e12) (cwV 1 hts (lw_V q2067 q2069 qs97 q117 q2070) rfl rfl rfl hd_X14_plainDries ⟨Nat.le_of_ble_eq_true rfl, Nat.le_of_ble_eq_true rfl⟩) cfX14 (sk_128 hSk) hK hW hR hS rfl hl.1 rfl (Nat.le_of_ble_eq_true rfl) rfl dX14_driesAct_63 ⟨rfl, rfl⟩ ⟨Nat.zero_le _, Nat.zero_le _⟩ (fun H locs hR hS => ?_)
        obtain ⟨rfl, rfl⟩ := s2i h
        exact r_iret0 hx hb hr hlk hR hS (Nat.zero_le _) (Nat.zero_le _) dX14_driesAct_66
      · replace h := ifp h c11
        refine lv_aload_n hx hb dX14_driesAct_47 rfl (lv_at hl 0 rfl) ?_
        refine lv_bipush (v := 60) hx hb dX14_driesAct_48 kb_60 ?_
        obtain ⟨g16, e15, h⟩ := obd h
        refine rc_V0 (rest := []) (st1 := []) hF (w_X14_runs hSk 60 e15) (cwV 1 hts (lw_V q2039 q2041 qs90 q117 q2042) rfl rfl rfl hd_X14_runs ⟨Nat.le_of_ble_eq_true rfl, Nat.le_of_ble_eq_true rfl⟩) cfX14 (sk_128 hSk) hK hW hR hS rfl hl.1 rfl (Nat.le_of_ble_eq_true rfl) rfl dX14_driesAct_50 ⟨rfl, rfl⟩ ⟨Nat.zero_le _, Nat.zero_le _⟩ (fun H locs hR hS => ?_)
        refine lv_aload_n hx hb dX14_driesAct_53 rfl (lv_at hl 0 rfl) ?_
        refine lv_iload_n hx hb dX14_driesAct_54 rfl (lv_at hl 1 rfl) ?_
        obtain ⟨r18, g19, e17, h⟩ := obd2 h
        refine rc_V0 (rest := []) (st1 := [.int r18]) hF (w_X14_plainDries hSk a1 e17) (cwV 1 hts (lw_V q2067 q2069 qs97 q117 q2070) rfl rfl rfl hd_X14_plainDries ⟨Nat.le_of_ble_eq_true rfl, Nat.le_of_ble_eq_true rfl⟩) cfX14 (sk_128 hSk) hK hW hR hS rfl hl.1 rfl (Nat.le_of_ble_eq_true rfl) rfl dX14_driesAct_55 ⟨rfl, rfl⟩ ⟨Nat.zero_le _, Nat.zero_le _⟩ (fun H locs hR hS => ?_)
        refine lv_iconst (v := 3) hx hb dX14_driesAct_58 ki_3 ?_
        refine lv_imul hx hb dX14_driesAct_59 ?_
        obtain ⟨rfl, rfl⟩ := s2i h
        exact r_iret0 hx hb hr hlk hR hS (Nat.zero_le _) (Nat.zero_le _) dX14_driesAct_60
    · replace h := ifp h c10
      exact J16  _ _ _ hR hS (lv_sub hl [0, 1] rfl) h
def rm_X14_act : Room := { frames := 9, cells := 0, slots := 0, locals := 182 }
theorem hd_X14_act : yX14_act.cls = "IntentVatsModel" ∧ yX14_act.cls ≠ "java/lang/invoke/MethodHandle" ∧ yX14_act.cls ≠ "java/lang/invoke/VarHandle" ∧ (parseMethodDescriptor yX14_act.desc).map (fun d => d.parameters.length) = some 3 := by decide +kernel
theorem he_X14_act : yX14_act.cls ≠ "java/lang/invoke/MethodHandle" ∧ yX14_act.cls ≠ "java/lang/invoke/VarHandle" ∧ (parseMethodDescriptor yX14_act.desc).map (fun d => d.parameters.length) = some 3 := hd_X14_act.2

set_option maxHeartbeats 4000000 in
set_option maxRecDepth 100000 in
theorem w_X14_act {l : Launch} {G : Gx} {sh : SM} {g : GM} {gl : LM} {gr : RM} {n : Nat} (hSk : Sk sh gr) (a1 : Int32) (a2 : Int32) (a3 : Int32)  {r : Int32} {go : GM} (h : f_X14_act g a1 a2 a3 = some (r, go)) : MetI l G yX14_act (ws_ yX14_act cX14_act 5 (Option.some Jvm.ClassFile.FieldType.int)) rm_X14_act [.ref (adr G 128), .int a1, .int a2, .int a3] sh g gl gr n (some (.int r)) sh go gl gr n := by
  refine MetI.of (by decide) (Nat.le_of_ble_eq_true rfl) ?_
  intro p e s m below meth c ls hx hb hr hml hown hts hlk hnm hW hK hR hS hl
  have hown : s.vm.findClass RX14 = some m.cls := hown
  have hF : CallFix p m c cX14_act 5 s ([.ref (adr G 128), .int a1, .int a2, .int a3] : List Value).toArray lw_all RX14 := ⟨hx, hb, hml, hown, hts⟩
  have hl : lv_has ls 5 [(0, .ref (adr G 128)), (1, .int a1), (2, .int a2), (3, .int a3)] := hl
  unfold f_X14_act at h
  refine lv_aload_n hx hb dX14_act_0 rfl (lv_at hl 0 rfl) ?_
  refine lv_iconst (v := 0) hx hb dX14_act_1 ki_0 ?_
  obtain ⟨g2, e1, h⟩ := obd h
  refine r_puti hx hb hts cfX14 hown hK hR hS (sk_128 hSk) 20 (by decide) rfl (hts _ q1541) (fun _ h => h) (Or.inl rfl) rfl rfl e1 dX14_act_2 (fun H locs hR hS => ?_)
  refine lv_iload_n hx hb dX14_act_5 rfl (lv_at hl 1 rfl) ?_
  obtain ⟨r4, e3, h⟩ := obd h
  refine rc_S0 (rest := []) (st1 := [.int r4]) hF (w_X14_isFour hSk a1 e3) (va_cwS 1 hts (lw_S q1865 q1866 q117 q1867) rfl rfl rfl he_X14_isFour ⟨Nat.le_of_ble_eq_true rfl, Nat.le_of_ble_eq_true rfl⟩) hW hR hS rfl hl.1 rfl (Nat.le_of_ble_eq_true rfl) rfl dX14_act_6 ⟨rfl, rfl⟩ ⟨Nat.zero_le _, Nat.zero_le _⟩ (fun H locs hR hS => ?_)
  have J27 : ∀  (H : Heap) (locs : List Loc) (ls : Array Slot), Rep G sh g2 gl gr n H → va_S (own G) s.heap H locs → lv_has ls 5 [] → j_X14_act_27 g2  = some (r, go) → W p l e rm_X14_act s m ([.ref (adr G 128), .int a1, .int a2, .int a3] : List Value).toArray below meth c H locs 0 0 (MQ below (QR G (some (.int r)) sh go gl gr n) ([.ref (adr G 128), .int a1, .int a2, .int a3] : List Value).toArray s rm_X14_act.cells rm_X14_act.slots (own G)) (F0 m 27 ls []) := by
    intro  H locs ls hR hS hl h
    unfold j_X14_act_27 at h
    refine lv_iconst (v := 0) hx hb dX14_act_27 ki_0 ?_
    obtain ⟨rfl, rfl⟩ := s2i h
    exact r_iret0 hx hb hr hlk hR hS (Nat.zero_le _) (Nat.zero_le _) dX14_act_28
  refine lv_if_eq (tgt := 27) hx hb dX14_act_9 (by decide) (fun c5 => ?_) (fun c5 => ?_)
  · replace h := ifp h c5
    exact J27  _ _ _ hR hS (lv_sub hl [] rfl) h
  · replace h := ifn h c5
    refine lv_iload_n hx hb dX14_act_12 rfl (lv_at hl 2 rfl) ?_
    obtain ⟨r7, e6, h⟩ := obd h
    refine rc_S0 (rest := []) (st1 := [.int r7]) hF (w_X14_isFour hSk a2 e6) (va_cwS 1 hts (lw_S q1865 q1866 q117 q1867) rfl rfl rfl he_X14_isFour ⟨Nat.le_of_ble_eq_true rfl, Nat.le_of_ble_eq_true rfl⟩) hW hR hS rfl hl.1 rfl (Nat.le_of_ble_eq_true rfl) rfl dX14_act_13 ⟨rfl, rfl⟩ ⟨Nat.zero_le _, Nat.zero_le _⟩ (fun H locs hR hS => ?_)
    refine lv_if_eq (tgt := 27) hx hb dX14_act_16 (by decide) (fun c8 => ?_) (fun c8 => ?_)
    · replace h := ifp h c8
      exact J27  _ _ _ hR hS (lv_sub hl [] rfl) h
    · replace h := ifn h c8
      refine lv_aload_n hx hb dX14_act_19 rfl (lv_at hl 0 rfl) ?_
      refine lv_iload_n hx hb dX14_act_20 rfl (lv_at hl 1 rfl) ?_
      obtain ⟨r10, e9, h⟩ := obd h
      refine rc_V0 (rest := []) (st1 := [.int r10]) hF (w_X14_isHeld hSk a1 e9) (cwV 1 hts (lw_V q2020 q2022 qs87 q117 q2023) rfl rfl rfl hd_X14_isHeld ⟨Nat.le_of_ble_eq_true rfl, Nat.le_of_ble_eq_true rfl⟩) cfX14 (sk_128 hSk) hK hW hR hS rfl hl.1 rfl (Nat.le_of_ble_eq_true rfl) rfl dX14_act_21 ⟨rfl, rfl⟩ ⟨Nat.zero_le _, Nat.zero_le _⟩ (fun H locs hR hS => ?_)
      refine lv_if_ne (tgt := 29) hx hb dX14_act_24 (by decide) (fun c11 => ?_) (fun c11 => ?_)
      · replace h := ifn h c11
        refine lv_aload_n hx hb dX14_act_29 rfl (lv_at hl 0 rfl) ?_
        refine lv_aload_n hx hb dX14_act_30 rfl (lv_at hl 0 rfl) ?_
        refine r_getr hx hb hts cfX14 hown hK hR (sk_128 hSk) 17 (by decide) rfl (sr_128_17 hSk) (hts _ q1538) (fun _ h => h) dX14_act_31 ?_
        refine lv_iload_n hx hb dX14_act_34 rfl (lv_at hl 1 rfl) ?_
        obtain ⟨v13, e12, h⟩ := obd h
        refine r_ldi hx hb hK hR (sk_140 hSk) e12 dX14_act_35 ?_
        obtain ⟨g15, e14, h⟩ := obd h
        refine r_puti hx hb hts cfX14 hown hK hR hS (sk_128 hSk) 22 (by decide) rfl (hts _ q1543) (fun _ h => h) (Or.inl rfl) rfl rfl e14 dX14_act_36 (fun H locs hR hS => ?_)
        refine lv_aload_n hx hb dX14_act_39 rfl (lv_at hl 0 rfl) ?_
        refine lv_aload_n hx hb dX14_act_40 rfl (lv_at hl 0 rfl) ?_
        refine lv_aload_n hx hb dX14_act_41 rfl (lv_at hl 0 rfl) ?_
        refine r_geti hx hb hts cfX14 hown hK hR (sk_128 hSk) 22 (by decide) rfl (hts _ q1543) (fun _ h => h) dX14_act_42 ?_
        refine lv_iconst (v := 0) hx hb dX14_act_45 ki_0 ?_
        obtain ⟨r17, e16, h⟩ := obd h
        refine rc_V0 (rest := [.ref (adr G 128)]) (st1 := [.int r17, .ref (adr G 128)]) hF (w_X14_its hSk (g15 128 22) 0 e16) (cwV 2 hts (lw_V q1662 q1664 qs48 q117 q1665) rfl rfl rfl hd_X14_its ⟨Nat.le_of_ble_eq_true rfl, Nat.le_of_ble_eq_true rfl⟩) cfX14 (sk_128 hSk) hK hW hR hS rfl hl.1 rfl (Nat.le_of_ble_eq_true rfl) rfl dX14_act_46 ⟨rfl, rfl⟩ ⟨Nat.zero_le _, Nat.zero_le _⟩ (fun H locs hR hS => ?_)
        obtain ⟨g19, e18, h⟩ := obd h
        refine r_puti hx hb hts cfX14 hown hK hR hS (sk_128 hSk) 21 (by decide) rfl (hts _ q1542) (fun _ h => h) (Or.inl rfl) rfl rfl e18 dX14_act_49 (fun H locs hR hS => ?_)
        refine lv_aload_n hx hb dX14_act_52 rfl (lv_at hl 0 rfl) ?_
        refine lv_iconst (v := 1) hx hb dX14_act_53 ki_1 ?_
        refine lv_aload_n hx hb dX14_act_54 rfl (lv_at hl 0 rfl) ?_
        refine lv_aload_n hx hb dX14_act_55 rfl (lv_at hl 0 rfl) ?_
        refine r_geti hx hb hts cfX14 hown hK hR (sk_128 hSk) 22 (by decide) rfl (hts _ q1543) (fun _ h => h) dX14_act_56 ?_
        refine lv_iconst (v := 1) hx hb dX14_act_59 ki_1 ?_
        obtain ⟨r21, e20, h⟩ := obd h
        refine rc_V0 (rest := [.int 1, .ref (adr G 128)]) (st1 := [.int r21, .int 1, .ref (adr G 128)]) hF (w_X14_its hSk (g19 128 22) 1 e20) (cwV 2 hts (lw_V q1662 q1664 qs48 q117 q1665) rfl rfl rfl hd_X14_its ⟨Nat.le_of_ble_eq_true rfl, Nat.le_of_ble_eq_true rfl⟩) cfX14 (sk_128 hSk) hK hW hR hS rfl hl.1 rfl (Nat.le_of_ble_eq_true rfl) rfl dX14_act_60 ⟨rfl, rfl⟩ ⟨Nat.zero_le _, Nat.zero_le _⟩ (fun H locs hR hS => ?_)
        refine lv_iadd hx hb dX14_act_63 ?_
        obtain ⟨g23, e22, h⟩ := obd h
        refine r_puti hx hb hts cfX14 hown hK hR hS (sk_128 hSk) 23 (by decide) rfl (hts _ q1544) (fun _ h => h) (Or.inl rfl) rfl rfl e22 dX14_act_64 (fun H locs hR hS => ?_)
        refine lv_aload_n hx hb dX14_act_67 rfl (lv_at hl 0 rfl) ?_
        refine lv_iconst (v := 0) hx hb dX14_act_68 ki_0 ?_
        obtain ⟨g25, e24, h⟩ := obd h
        refine r_puti hx hb hts cfX14 hown hK hR hS (sk_128 hSk) 24 (by decide) rfl (hts _ q1545) (fun _ h => h) (Or.inl rfl) (by decide) (by decide) e24 dX14_act_69 (fun H locs hR hS => ?_)
        refine lv_iload_n hx hb dX14_act_72 rfl (lv_at hl 2 rfl) ?_
        have J115 : ∀ (x26 : Int32) (g27 : GM) (H : Heap) (locs : List Loc) (ls : Array Slot), Rep G sh g27 gl gr n H → va_S (own G) s.heap H locs → lv_has ls 5 [(0, .ref (adr G 128))] → j_X14_act_115  x26 g27 = some (r, go) → W p l e rm_X14_act s m ([.ref (adr G 128), .int a1, .int a2, .int a3] : List Value).toArray below meth c H locs 0 0 (MQ below (QR G (some (.int r)) sh go gl gr n) ([.ref (adr G 128), .int a1, .int a2, .int a3] : List Value).toArray s rm_X14_act.cells rm_X14_act.slots (own G)) (F0 m 115 ls [.int x26]) := by
          intro x26 g27 H locs ls hR hS hl h
          unfold j_X14_act_115 at h
          refine lv_istore (lv' := [(4, .int x26), (0, .ref (adr G 128))]) hx hb dX14_act_115 hl (by decide) rfl (fun ls hl => ?_)
          refine lv_aload_n hx hb dX14_act_117 rfl (lv_at hl 1 rfl) ?_
          refine r_geti hx hb hts cfX14 hown hK hR (sk_128 hSk) 24 (by decide) rfl (hts _ q1545) (fun _ h => h) dX14_act_118 ?_
          have J131 : ∀ (x28 : Int32) (H : Heap) (locs : List Loc) (ls : Array Slot), Rep G sh g27 gl gr n H → va_S (own G) s.heap H locs → lv_has ls 5 [] → j_X14_act_131 g27 x28 = some (r, go) → W p l e rm_X14_act s m ([.ref (adr G 128), .int a1, .int a2, .int a3] : List Value).toArray below meth c H locs 0 0 (MQ below (QR G (some (.int r)) sh go gl gr n) ([.ref (adr G 128), .int a1, .int a2, .int a3] : List Value).toArray s rm_X14_act.cells rm_X14_act.slots (own G)) (F0 m 131 ls [.int x28]) := by
            intro x28 H locs ls hR hS hl h
            unfold j_X14_act_131 at h
            obtain ⟨rfl, rfl⟩ := s2i h
            exact r_iret0 hx hb hr hlk hR hS (Nat.zero_le _) (Nat.zero_le _) dX14_act_131
          refine lv_if_eq (tgt := 129) hx hb dX14_act_121 (by decide) (fun c29 => ?_) (fun c29 => ?_)
          · replace h := ifp h c29
            refine lv_iload hx hb dX14_act_129 (lv_at hl 0 rfl) ?_
            exact J131 x26 _ _ _ hR hS (lv_sub hl [] rfl) h
          · replace h := ifn h c29
            refine lv_bipush (v := (-15)) hx hb dX14_act_124 kb_m15 ?_
            refine lv_goto (tgt := 131) hx hb dX14_act_126 (by decide) ?_
            exact J131 (-15) _ _ _ hR hS (lv_sub hl [] rfl) h
        refine lv_if_ne (tgt := 84) hx hb dX14_act_73 (by decide) (fun c30 => ?_) (fun c30 => ?_)
        · replace h := ifn h c30
          refine lv_iload_n hx hb dX14_act_84 rfl (lv_at hl 2 rfl) ?_
          refine lv_iconst (v := 1) hx hb dX14_act_85 ki_1 ?_
          refine lv_icmp_ne (tgt := 97) hx hb dX14_act_86 (by decide) (fun c31 => ?_) (fun c31 => ?_)
          · replace h := ifn h c31
            refine lv_iload_n hx hb dX14_act_97 rfl (lv_at hl 2 rfl) ?_
            refine lv_iconst (v := 2) hx hb dX14_act_98 ki_2 ?_
            refine lv_icmp_ne (tgt := 110) hx hb dX14_act_99 (by decide) (fun c32 => ?_) (fun c32 => ?_)
            · replace h := ifn h c32
              refine lv_aload_n hx hb dX14_act_110 rfl (lv_at hl 0 rfl) ?_
              refine lv_iload_n hx hb dX14_act_111 rfl (lv_at hl 3 rfl) ?_
              obtain ⟨r34, g35, e33, h⟩ := obd2 h
              refine rc_V0 (rest := []) (st1 := [.int r34]) hF (w_X14_driesAct hSk a3 e33) (cwV 1 hts (lw_V q2063 q2065 qs96 q117 q2066) rfl rfl rfl hd_X14_driesAct ⟨Nat.le_of_ble_eq_true rfl, Nat.le_of_ble_eq_true rfl⟩) cfX14 (sk_128 hSk) hK hW hR hS rfl hl.1 rfl (Nat.le_of_ble_eq_true rfl) rfl dX14_act_112 ⟨rfl, rfl⟩ ⟨Nat.zero_le _, Nat.zero_le _⟩ (fun H locs hR hS => ?_)
              exact J115 r34 g35 _ _ _ hR hS (lv_sub hl [0] rfl) h
            · replace h := ifp h c32
              refine lv_aload_n hx hb dX14_act_102 rfl (lv_at hl 0 rfl) ?_
              refine lv_iload_n hx hb dX14_act_103 rfl (lv_at hl 3 rfl) ?_
              obtain ⟨r37, g38, e36, h⟩ := obd2 h
              refine rc_V0 (rest := []) (st1 := [.int r37]) hF (w_X14_parts hSk a3 e36) (cwV 1 hts (lw_V q2055 q2057 qs94 q117 q2058) rfl rfl rfl hd_X14_parts ⟨Nat.le_of_ble_eq_true rfl, Nat.le_of_ble_eq_true rfl⟩) cfX14 (sk_128 hSk) hK hW hR hS rfl hl.1 rfl (Nat.le_of_ble_eq_true rfl) rfl dX14_act_104 ⟨rfl, rfl⟩ ⟨Nat.zero_le _, Nat.zero_le _⟩ (fun H locs hR hS => ?_)
              refine lv_goto (tgt := 115) hx hb dX14_act_107 (by decide) ?_
              exact J115 r37 g38 _ _ _ hR hS (lv_sub hl [0] rfl) h
          · replace h := ifp h c31
            refine lv_aload_n hx hb dX14_act_89 rfl (lv_at hl 0 rfl) ?_
            refine lv_iload_n hx hb dX14_act_90 rfl (lv_at hl 3 rfl) ?_
            obtain ⟨r40, g41, e39, h⟩ := obd2 h
            refine rc_V0 (rest := []) (st1 := [.int r40]) hF (w_X14_steepsAct hSk a3 e39) (cwV 1 hts (lw_V q2047 q2049 qs92 q117 q2050) rfl rfl rfl hd_X14_steepsAct ⟨Nat.le_of_ble_eq_true rfl, Nat.le_of_ble_eq_true rfl⟩) cfX14 (sk_128 hSk) hK hW hR hS rfl hl.1 rfl (Nat.le_of_ble_eq_true rfl) rfl dX14_act_91 ⟨rfl, rfl⟩ ⟨Nat.zero_le _, Nat.zero_le _⟩ (fun H locs hR hS => ?_)
            refine lv_goto (tgt := 115) hx hb dX14_act_94 (by decide) ?_
            exact J115 r40 g41 _ _ _ hR hS (lv_sub hl [0] rfl) h
        · replace h := ifp h c30
          refine lv_aload_n hx hb dX14_act_76 rfl (lv_at hl 0 rfl) ?_
          refine lv_iload_n hx hb dX14_act_77 rfl (lv_at hl 3 rfl) ?_
          obtain ⟨r43, g44, e42, h⟩ := obd2 h
          refine rc_V0 (rest := []) (st1 := [.int r43]) hF (w_X14_rubs hSk a3 e42) (cwV 1 hts (lw_V q2031 q2033 qs88 q117 q2034) rfl rfl rfl hd_X14_rubs ⟨Nat.le_of_ble_eq_true rfl, Nat.le_of_ble_eq_true rfl⟩) cfX14 (sk_128 hSk) hK hW hR hS rfl hl.1 rfl (Nat.le_of_ble_eq_true rfl) rfl dX14_act_78 ⟨rfl, rfl⟩ ⟨Nat.zero_le _, Nat.zero_le _⟩ (fun H locs hR hS => ?_)
          refine lv_goto (tgt := 115) hx hb dX14_act_81 (by decide) ?_
          exact J115 r43 g44 _ _ _ hR hS (lv_sub hl [0] rfl) h
      · replace h := ifp h c11
        exact J27  _ _ _ hR hS (lv_sub hl [] rfl) h
def rm_X14_trace : Room := { frames := 2, cells := 0, slots := 0, locals := 37 }
theorem hd_X14_trace : yX14_trace.cls = "IntentVatsModel" ∧ yX14_trace.cls ≠ "java/lang/invoke/MethodHandle" ∧ yX14_trace.cls ≠ "java/lang/invoke/VarHandle" ∧ (parseMethodDescriptor yX14_trace.desc).map (fun d => d.parameters.length) = some 1 := by decide +kernel
theorem he_X14_trace : yX14_trace.cls ≠ "java/lang/invoke/MethodHandle" ∧ yX14_trace.cls ≠ "java/lang/invoke/VarHandle" ∧ (parseMethodDescriptor yX14_trace.desc).map (fun d => d.parameters.length) = some 1 := hd_X14_trace.2

set_option maxHeartbeats 4000000 in
set_option maxRecDepth 100000 in
theorem w_X14_trace {l : Launch} {G : Gx} {sh : SM} {g : GM} {gl : LM} {gr : RM} {n : Nat} (hSk : Sk sh gr) (a1 : Int32)  {r : Int32} (h : f_X14_trace g a1 = some r) : MetI l G yX14_trace (ws_ yX14_trace cX14_trace 2 (Option.some Jvm.ClassFile.FieldType.int)) rm_X14_trace [.ref (adr G 128), .int a1] sh g gl gr n (some (.int r)) sh g gl gr n := by
  refine MetI.of (by decide) (Nat.le_of_ble_eq_true rfl) ?_
  intro p e s m below meth c ls hx hb hr hml hown hts hlk hnm hW hK hR hS hl
  have hown : s.vm.findClass RX14 = some m.cls := hown
  have hF : CallFix p m c cX14_trace 2 s ([.ref (adr G 128), .int a1] : List Value).toArray lw_all RX14 := ⟨hx, hb, hml, hown, hts⟩
  have hl : lv_has ls 2 [(0, .ref (adr G 128)), (1, .int a1)] := hl
  unfold f_X14_trace at h
  refine lv_iload_n hx hb dX14_trace_0 rfl (lv_at hl 1 rfl) ?_
  refine lv_i2l hx hb dX14_trace_1 rfl ?_
  refine lv_lconst (v := 0) hx hb dX14_trace_2 rfl ?_
  refine lv_aload_n hx hb dX14_trace_3 rfl (lv_at hl 0 rfl) ?_
  refine r_geti hx hb hts cfX14 hown hK hR (sk_128 hSk) 20 (by decide) rfl (hts _ q1541) (fun _ h => h) dX14_trace_4 ?_
  refine lv_iconst (v := 1) hx hb dX14_trace_7 ki_1 ?_
  refine lv_isub hx hb dX14_trace_8 ?_
  refine lv_i2l hx hb dX14_trace_9 rfl ?_
  obtain ⟨r2, e1, h⟩ := obd h
  refine rc_S0 (rest := []) (st1 := [.int r2]) hF (w_X14_in hSk a1.toInt64 0 (((g 128 20) - 1).toInt64) e1) (va_cwS 3 hts (lw_S q1602 q1603 q117 q1604) rfl rfl rfl he_X14_in ⟨Nat.le_of_ble_eq_true rfl, Nat.le_of_ble_eq_true rfl⟩) hW hR hS rfl hl.1 rfl (Nat.le_of_ble_eq_true rfl) rfl dX14_trace_10 ⟨rfl, rfl⟩ ⟨Nat.zero_le _, Nat.zero_le _⟩ (fun H locs hR hS => ?_)
  have J27 : ∀ (x3 : Int32) (H : Heap) (locs : List Loc) (ls : Array Slot), Rep G sh g gl gr n H → va_S (own G) s.heap H locs → lv_has ls 2 [] → j_X14_trace_27  x3 = some r → W p l e rm_X14_trace s m ([.ref (adr G 128), .int a1] : List Value).toArray below meth c H locs 0 0 (MQ below (QR G (some (.int r)) sh g gl gr n) ([.ref (adr G 128), .int a1] : List Value).toArray s rm_X14_trace.cells rm_X14_trace.slots (own G)) (F0 m 27 ls [.int x3]) := by
    intro x3 H locs ls hR hS hl h
    unfold j_X14_trace_27 at h
    obtain rfl := s1i h
    exact r_iret0 hx hb hr hlk hR hS (Nat.zero_le _) (Nat.zero_le _) dX14_trace_27
  refine lv_if_eq (tgt := 25) hx hb dX14_trace_13 (by decide) (fun c4 => ?_) (fun c4 => ?_)
  · replace h := ifp h c4
    refine lv_bipush (v := (-3)) hx hb dX14_trace_25 kb_m3 ?_
    exact J27 (-3) _ _ _ hR hS (lv_sub hl [] rfl) h
  · replace h := ifn h c4
    refine lv_aload_n hx hb dX14_trace_16 rfl (lv_at hl 0 rfl) ?_
    refine r_getr hx hb hts cfX14 hown hK hR (sk_128 hSk) 19 (by decide) rfl (sr_128_19 hSk) (hts _ q1540) (fun _ h => h) dX14_trace_17 ?_
    refine lv_iload_n hx hb dX14_trace_20 rfl (lv_at hl 1 rfl) ?_
    obtain ⟨v6, e5, h⟩ := obd h
    refine r_ldi hx hb hK hR (sk_142 hSk) e5 dX14_trace_21 ?_
    refine lv_goto (tgt := 27) hx hb dX14_trace_22 (by decide) ?_
    exact J27 v6 _ _ _ hR hS (lv_sub hl [] rfl) h
def rm_X14_purposesAbout : Room := { frames := 2, cells := 0, slots := 0, locals := 34 }
theorem hd_X14_purposesAbout : yX14_purposesAbout.cls = "IntentVatsModel" ∧ yX14_purposesAbout.cls ≠ "java/lang/invoke/MethodHandle" ∧ yX14_purposesAbout.cls ≠ "java/lang/invoke/VarHandle" ∧ (parseMethodDescriptor yX14_purposesAbout.desc).map (fun d => d.parameters.length) = some 0 := by decide +kernel
theorem he_X14_purposesAbout : yX14_purposesAbout.cls ≠ "java/lang/invoke/MethodHandle" ∧ yX14_purposesAbout.cls ≠ "java/lang/invoke/VarHandle" ∧ (parseMethodDescriptor yX14_purposesAbout.desc).map (fun d => d.parameters.length) = some 0 := hd_X14_purposesAbout.2

set_option maxHeartbeats 4000000 in
set_option maxRecDepth 100000 in
theorem w_X14_purposesAbout {l : Launch} {G : Gx} {sh : SM} {g : GM} {gl : LM} {gr : RM} {n : Nat} (hSk : Sk sh gr)   {r : Int32} (h : f_X14_purposesAbout g  = some r) : MetI l G yX14_purposesAbout (ws_ yX14_purposesAbout cX14_purposesAbout 5 (Option.some Jvm.ClassFile.FieldType.int)) rm_X14_purposesAbout [.ref (adr G 128)] sh g gl gr n (some (.int r)) sh g gl gr n := by
  refine MetI.of (by decide) (Nat.le_of_ble_eq_true rfl) ?_
  intro p e s m below meth c ls hx hb hr hml hown hts hlk hnm hW hK hR hS hl
  have hown : s.vm.findClass RX14 = some m.cls := hown
  have hF : CallFix p m c cX14_purposesAbout 5 s ([.ref (adr G 128)] : List Value).toArray lw_all RX14 := ⟨hx, hb, hml, hown, hts⟩
  have hl : lv_has ls 5 [(0, .ref (adr G 128))] := hl
  unfold f_X14_purposesAbout at h
  refine lv_iconst (v := 0) hx hb dX14_purposesAbout_0 ki_0 ?_
  refine lv_istore_n (lv' := [(1, .int 0), (0, .ref (adr G 128))]) hx hb dX14_purposesAbout_1 rfl hl (by decide) rfl (fun ls hl => ?_)
  refine lv_iconst (v := 0) hx hb dX14_purposesAbout_2 ki_0 ?_
  refine lv_istore_n (lv' := [(2, .int 0), (1, .int 0), (0, .ref (adr G 128))]) hx hb dX14_purposesAbout_3 rfl hl (by decide) rfl (fun ls hl => ?_)
  have J4 : ∀ (k4 : Nat) (x1 : Int32) (x2 : Int32) (H : Heap) (locs : List Loc) (ls : Array Slot), Rep G sh g gl gr n H → va_S (own G) s.heap H locs → lv_has ls 5 [(0, .ref (adr G 128)), (1, .int x1), (2, .int x2)] → l_X14_purposesAbout_4 g k4 x1 x2 = some r → W p l e rm_X14_purposesAbout s m ([.ref (adr G 128)] : List Value).toArray below meth c H locs 0 0 (MQ below (QR G (some (.int r)) sh g gl gr n) ([.ref (adr G 128)] : List Value).toArray s rm_X14_purposesAbout.cells rm_X14_purposesAbout.slots (own G)) (F0 m 4 ls []) := by
    intro k4
    induction k4 with
    | zero => intro _ _ _ _ _ _ _ _; exact nofun
    | succ k4 ih4 =>
      intro x1 x2 H locs ls hR hS hl h
      unfold l_X14_purposesAbout_4 b_X14_purposesAbout_4 at h
      refine lv_iload_n hx hb dX14_purposesAbout_4 rfl (lv_at hl 2 rfl) ?_
      refine lv_bipush (v := 10) hx hb dX14_purposesAbout_5 kb_10 ?_
      refine lv_icmp_ge (tgt := 72) hx hb dX14_purposesAbout_7 (by decide) (fun c3 => ?_) (fun c3 => ?_)
      · replace h := ifp h c3
        refine lv_iload_n hx hb dX14_purposesAbout_72 rfl (lv_at hl 1 rfl) ?_
        obtain rfl := s1i h
        exact r_iret0 hx hb hr hlk hR hS (Nat.zero_le _) (Nat.zero_le _) dX14_purposesAbout_73
      · replace h := ifn h c3
        refine lv_iconst (v := 0) hx hb dX14_purposesAbout_10 ki_0 ?_
        refine lv_istore_n (lv' := [(3, .int 0), (0, .ref (adr G 128)), (1, .int x1), (2, .int x2)]) hx hb dX14_purposesAbout_11 rfl hl (by decide) rfl (fun ls hl => ?_)
        refine lv_iconst (v := 0) hx hb dX14_purposesAbout_12 ki_0 ?_
        refine lv_istore (lv' := [(4, .int 0), (3, .int 0), (0, .ref (adr G 128)), (1, .int x1), (2, .int x2)]) hx hb dX14_purposesAbout_13 hl (by decide) rfl (fun ls hl => ?_)
        have J15 : ∀ (k15 : Nat) (x4 : Int32) (x5 : Int32) (H : Heap) (locs : List Loc) (ls : Array Slot), Rep G sh g gl gr n H → va_S (own G) s.heap H locs → lv_has ls 5 [(0, .ref (adr G 128)), (1, .int x1), (2, .int x2), (3, .int x4), (4, .int x5)] → l_X14_purposesAbout_15 g x1 x2 (l_X14_purposesAbout_4 g k4) k15 x4 x5 = some r → W p l e rm_X14_purposesAbout s m ([.ref (adr G 128)] : List Value).toArray below meth c H locs 0 0 (MQ below (QR G (some (.int r)) sh g gl gr n) ([.ref (adr G 128)] : List Value).toArray s rm_X14_purposesAbout.cells rm_X14_purposesAbout.slots (own G)) (F0 m 15 ls []) := by
          intro k15
          induction k15 with
          | zero => intro _ _ _ _ _ _ _ _; exact nofun
          | succ k15 ih15 =>
            intro x4 x5 H locs ls hR hS hl h
            unfold l_X14_purposesAbout_15 b_X14_purposesAbout_15 at h
            refine lv_iload hx hb dX14_purposesAbout_15 (lv_at hl 4 rfl) ?_
            refine lv_aload_n hx hb dX14_purposesAbout_17 rfl (lv_at hl 0 rfl) ?_
            refine r_getr hx hb hts cfX14 hown hK hR (sk_128 hSk) 2 (by decide) rfl (sr_128_2 hSk) (hts _ q1523) (fun _ h => h) dX14_purposesAbout_18 ?_
            refine lv_bipush (v := 6) hx hb dX14_purposesAbout_21 kb_6 ?_
            obtain ⟨v7, e6, h⟩ := obd h
            refine r_ldi hx hb hK hR (sk_131 hSk) e6 dX14_purposesAbout_23 ?_
            refine lv_icmp_ge (tgt := 54) hx hb dX14_purposesAbout_24 (by decide) (fun c8 => ?_) (fun c8 => ?_)
            · replace h := ifp h c8
              refine lv_iload_n hx hb dX14_purposesAbout_54 rfl (lv_at hl 1 rfl) ?_
              refine lv_iload_n hx hb dX14_purposesAbout_55 rfl (lv_at hl 3 rfl) ?_
              have J64 : ∀ (x9 : Int32) (H : Heap) (locs : List Loc) (ls : Array Slot), Rep G sh g gl gr n H → va_S (own G) s.heap H locs → lv_has ls 5 [(0, .ref (adr G 128)), (2, .int x2)] → j_X14_purposesAbout_64 x1 x2 (l_X14_purposesAbout_4 g k4) x9 = some r → W p l e rm_X14_purposesAbout s m ([.ref (adr G 128)] : List Value).toArray below meth c H locs 0 0 (MQ below (QR G (some (.int r)) sh g gl gr n) ([.ref (adr G 128)] : List Value).toArray s rm_X14_purposesAbout.cells rm_X14_purposesAbout.slots (own G)) (F0 m 64 ls [.int x9, .int x1]) := by
                intro x9 H locs ls hR hS hl h
                unfold j_X14_purposesAbout_64 at h
                refine lv_iadd hx hb dX14_purposesAbout_64 ?_
                refine lv_istore_n (lv' := [(1, .int (x1 + x9)), (0, .ref (adr G 128)), (2, .int x2)]) hx hb dX14_purposesAbout_65 rfl hl (by decide) rfl (fun ls hl => ?_)
                refine lv_iinc (v := x2 + 1) (lv' := [(2, .int (x2 + 1)), (1, .int (x1 + x9)), (0, .ref (adr G 128))]) hx hb dX14_purposesAbout_66 hl (k := 2) rfl rfl (by decide) rfl (fun ls hl => ?_)
                refine lv_goto (tgt := 4) hx hb dX14_purposesAbout_69 (by decide) ?_
                exact ih4 (x1 + x9) (x2 + 1) _ _ _ hR hS (lv_sub hl [2, 1, 0] rfl) h
              refine lv_if_eq (tgt := 63) hx hb dX14_purposesAbout_56 (by decide) (fun c10 => ?_) (fun c10 => ?_)
              · replace h := ifp h c10
                refine lv_iconst (v := 0) hx hb dX14_purposesAbout_63 ki_0 ?_
                exact J64 0 _ _ _ hR hS (lv_sub hl [0, 2] rfl) h
              · replace h := ifn h c10
                refine lv_iconst (v := 1) hx hb dX14_purposesAbout_59 ki_1 ?_
                refine lv_goto (tgt := 64) hx hb dX14_purposesAbout_60 (by decide) ?_
                exact J64 1 _ _ _ hR hS (lv_sub hl [0, 2] rfl) h
            · replace h := ifn h c8
              refine lv_iload_n hx hb dX14_purposesAbout_27 rfl (lv_at hl 3 rfl) ?_
              have J47 : ∀ (x11 : Int32) (H : Heap) (locs : List Loc) (ls : Array Slot), Rep G sh g gl gr n H → va_S (own G) s.heap H locs → lv_has ls 5 [(0, .ref (adr G 128)), (1, .int x1), (2, .int x2), (4, .int x5)] → j_X14_purposesAbout_47 x5 (l_X14_purposesAbout_15 g x1 x2 (l_X14_purposesAbout_4 g k4) k15) x11 = some r → W p l e rm_X14_purposesAbout s m ([.ref (adr G 128)] : List Value).toArray below meth c H locs 0 0 (MQ below (QR G (some (.int r)) sh g gl gr n) ([.ref (adr G 128)] : List Value).toArray s rm_X14_purposesAbout.cells rm_X14_purposesAbout.slots (own G)) (F0 m 47 ls [.int x11]) := by
                intro x11 H locs ls hR hS hl h
                unfold j_X14_purposesAbout_47 at h
                refine lv_istore_n (lv' := [(3, .int x11), (0, .ref (adr G 128)), (1, .int x1), (2, .int x2), (4, .int x5)]) hx hb dX14_purposesAbout_47 rfl hl (by decide) rfl (fun ls hl => ?_)
                refine lv_iinc (v := x5 + 1) (lv' := [(4, .int (x5 + 1)), (3, .int x11), (0, .ref (adr G 128)), (1, .int x1), (2, .int x2)]) hx hb dX14_purposesAbout_48 hl (k := 4) rfl rfl (by decide) rfl (fun ls hl => ?_)
                refine lv_goto (tgt := 15) hx hb dX14_purposesAbout_51 (by decide) ?_
                exact ih15 x11 (x5 + 1) _ _ _ hR hS (lv_sub hl [2, 3, 4, 1, 0] rfl) h
              have J42 : ∀  (H : Heap) (locs : List Loc) (ls : Array Slot), Rep G sh g gl gr n H → va_S (own G) s.heap H locs → lv_has ls 5 [(0, .ref (adr G 128)), (1, .int x1), (2, .int x2), (4, .int x5)] → j_X14_purposesAbout_42 x5 (l_X14_purposesAbout_15 g x1 x2 (l_X14_purposesAbout_4 g k4) k15)  = some r → W p l e rm_X14_purposesAbout s m ([.ref (adr G 128)] : List Value).toArray below meth c H locs 0 0 (MQ below (QR G (some (.int r)) sh g gl gr n) ([.ref (adr G 128)] : List Value).toArray s rm_X14_purposesAbout.cells rm_X14_purposesAbout.slots (own G)) (F0 m 42 ls []) := by
                intro  H locs ls hR hS hl h
                unfold j_X14_purposesAbout_42 at h
                refine lv_iconst (v := 1) hx hb dX14_purposesAbout_42 ki_1 ?_
                refine lv_goto (tgt := 47) hx hb dX14_purposesAbout_43 (by decide) ?_
                exact J47 1 _ _ _ hR hS (lv_sub hl [0, 1, 2, 3] rfl) h
              refine lv_if_ne (tgt := 42) hx hb dX14_purposesAbout_28 (by decide) (fun c12 => ?_) (fun c12 => ?_)
              · replace h := ifn h c12
                exact J42  _ _ _ hR hS (lv_sub hl [0, 1, 2, 4] rfl) h
              · replace h := ifp h c12
                refine lv_aload_n hx hb dX14_purposesAbout_31 rfl (lv_at hl 0 rfl) ?_
                refine lv_iload hx hb dX14_purposesAbout_32 (lv_at hl 4 rfl) ?_
                refine lv_iconst (v := 1) hx hb dX14_purposesAbout_34 ki_1 ?_
                obtain ⟨r14, e13, h⟩ := obd h
                refine rc_V0 (rest := []) (st1 := [.int r14]) hF (w_X14_its hSk x5 1 e13) (cwV 2 hts (lw_V q1662 q1664 qs48 q117 q1665) rfl rfl rfl hd_X14_its ⟨Nat.le_of_ble_eq_true rfl, Nat.le_of_ble_eq_true rfl⟩) cfX14 (sk_128 hSk) hK hW hR hS rfl hl.1 rfl (Nat.le_of_ble_eq_true rfl) rfl dX14_purposesAbout_35 ⟨rfl, rfl⟩ ⟨Nat.zero_le _, Nat.zero_le _⟩ (fun H locs hR hS => ?_)
                refine lv_iload_n hx hb dX14_purposesAbout_38 rfl (lv_at hl 2 rfl) ?_
                refine lv_icmp_ne (tgt := 46) hx hb dX14_purposesAbout_39 (by decide) (fun c15 => ?_) (fun c15 => ?_)
                · replace h := ifn h c15
                  refine lv_iconst (v := 0) hx hb dX14_purposesAbout_46 ki_0 ?_
                  exact J47 0 _ _ _ hR hS (lv_sub hl [0, 1, 2, 4] rfl) h
                · replace h := ifp h c15
                  exact J42  _ _ _ hR hS (lv_sub hl [0, 1, 2, 4] rfl) h
        exact J15 fuel 0 0 _ _ _ hR hS (lv_sub hl [2, 3, 4, 1, 0] rfl) h
  exact J4 fuel 0 0 _ _ _ hR hS (lv_sub hl [2, 1, 0] rfl) h
def rm_X14_many : Room := { frames := 3, cells := 0, slots := 0, locals := 58 }
theorem hd_X14_many : yX14_many.cls = "IntentVatsModel" ∧ yX14_many.cls ≠ "java/lang/invoke/MethodHandle" ∧ yX14_many.cls ≠ "java/lang/invoke/VarHandle" ∧ (parseMethodDescriptor yX14_many.desc).map (fun d => d.parameters.length) = some 1 := by decide +kernel
theorem he_X14_many : yX14_many.cls ≠ "java/lang/invoke/MethodHandle" ∧ yX14_many.cls ≠ "java/lang/invoke/VarHandle" ∧ (parseMethodDescriptor yX14_many.desc).map (fun d => d.parameters.length) = some 1 := hd_X14_many.2

set_option maxHeartbeats 4000000 in
set_option maxRecDepth 100000 in
theorem w_X14_many {l : Launch} {G : Gx} {sh : SM} {g : GM} {gl : LM} {gr : RM} {n : Nat} (hSk : Sk sh gr) (a1 : Int32)  {r : Int32} (h : f_X14_many g a1 = some r) : MetI l G yX14_many (ws_ yX14_many cX14_many 2 (Option.some Jvm.ClassFile.FieldType.int)) rm_X14_many [.ref (adr G 128), .int a1] sh g gl gr n (some (.int r)) sh g gl gr n := by
  refine MetI.of (by decide) (Nat.le_of_ble_eq_true rfl) ?_
  intro p e s m below meth c ls hx hb hr hml hown hts hlk hnm hW hK hR hS hl
  have hown : s.vm.findClass RX14 = some m.cls := hown
  have hF : CallFix p m c cX14_many 2 s ([.ref (adr G 128), .int a1] : List Value).toArray lw_all RX14 := ⟨hx, hb, hml, hown, hts⟩
  have hl : lv_has ls 2 [(0, .ref (adr G 128)), (1, .int a1)] := hl
  unfold f_X14_many at h
  refine lv_iload_n hx hb dX14_many_0 rfl (lv_at hl 1 rfl) ?_
  by_cases c1 : a1 = 0
  · replace h := ifp h c1
    refine lv_tableIn (off := 43) (tgt := 44) hx hb dX14_many_1 (by rw [c1]; decide) (by rw [c1]; decide) (by rw [c1]; decide) (by decide) ?_
    refine lv_aload_n hx hb dX14_many_44 rfl (lv_at hl 0 rfl) ?_
    refine r_getr hx hb hts cfX14 hown hK hR (sk_128 hSk) 2 (by decide) rfl (sr_128_2 hSk) (hts _ q1523) (fun _ h => h) dX14_many_45 ?_
    refine lv_bipush (v := 6) hx hb dX14_many_48 kb_6 ?_
    obtain ⟨v3, e2, h⟩ := obd h
    refine r_ldi hx hb hK hR (sk_131 hSk) e2 dX14_many_50 ?_
    obtain rfl := s1i h
    exact r_iret0 hx hb hr hlk hR hS (Nat.zero_le _) (Nat.zero_le _) dX14_many_51
  · replace h := ifn h c1
    by_cases c4 : a1 = 1
    · replace h := ifp h c4
      refine lv_tableIn (off := 51) (tgt := 52) hx hb dX14_many_1 (by rw [c4]; decide) (by rw [c4]; decide) (by rw [c4]; decide) (by decide) ?_
      refine lv_aload_n hx hb dX14_many_52 rfl (lv_at hl 0 rfl) ?_
      obtain ⟨r6, e5, h⟩ := obd h
      refine rc_V0 (rest := []) (st1 := [.int r6]) hF (w_X14_hungSet hSk e5) (cwV 0 hts (lw_V q1774 q1776 qs62 q117 q1777) rfl rfl rfl hd_X14_hungSet ⟨Nat.le_of_ble_eq_true rfl, Nat.le_of_ble_eq_true rfl⟩) cfX14 (sk_128 hSk) hK hW hR hS rfl hl.1 rfl (Nat.le_of_ble_eq_true rfl) rfl dX14_many_53 ⟨rfl, rfl⟩ ⟨Nat.zero_le _, Nat.zero_le _⟩ (fun H locs hR hS => ?_)
      obtain ⟨r8, e7, h⟩ := obd h
      refine rc_S0 (rest := []) (st1 := [.int r8]) hF (w_X14_ones hSk r6 e7) (va_cwS 1 hts (lw_S q1854 q1855 q117 q1856) rfl rfl rfl he_X14_ones ⟨Nat.le_of_ble_eq_true rfl, Nat.le_of_ble_eq_true rfl⟩) hW hR hS rfl hl.1 rfl (Nat.le_of_ble_eq_true rfl) rfl dX14_many_56 ⟨rfl, rfl⟩ ⟨Nat.zero_le _, Nat.zero_le _⟩ (fun H locs hR hS => ?_)
      obtain rfl := s1i h
      exact r_iret0 hx hb hr hlk hR hS (Nat.zero_le _) (Nat.zero_le _) dX14_many_59
    · replace h := ifn h c4
      by_cases c9 : a1 = 2
      · replace h := ifp h c9
        refine lv_tableIn (off := 59) (tgt := 60) hx hb dX14_many_1 (by rw [c9]; decide) (by rw [c9]; decide) (by rw [c9]; decide) (by decide) ?_
        refine lv_aload_n hx hb dX14_many_60 rfl (lv_at hl 0 rfl) ?_
        obtain ⟨r11, e10, h⟩ := obd h
        refine rc_V0 (rest := []) (st1 := [.int r11]) hF (w_X14_aboutSet hSk e10) (cwV 0 hts (lw_V q1778 q1780 qs63 q117 q1781) rfl rfl rfl hd_X14_aboutSet ⟨Nat.le_of_ble_eq_true rfl, Nat.le_of_ble_eq_true rfl⟩) cfX14 (sk_128 hSk) hK hW hR hS rfl hl.1 rfl (Nat.le_of_ble_eq_true rfl) rfl dX14_many_61 ⟨rfl, rfl⟩ ⟨Nat.zero_le _, Nat.zero_le _⟩ (fun H locs hR hS => ?_)
        obtain ⟨r13, e12, h⟩ := obd h
        refine rc_S0 (rest := []) (st1 := [.int r13]) hF (w_X14_ones hSk r11 e12) (va_cwS 1 hts (lw_S q1854 q1855 q117 q1856) rfl rfl rfl he_X14_ones ⟨Nat.le_of_ble_eq_true rfl, Nat.le_of_ble_eq_true rfl⟩) hW hR hS rfl hl.1 rfl (Nat.le_of_ble_eq_true rfl) rfl dX14_many_64 ⟨rfl, rfl⟩ ⟨Nat.zero_le _, Nat.zero_le _⟩ (fun H locs hR hS => ?_)
        obtain rfl := s1i h
        exact r_iret0 hx hb hr hlk hR hS (Nat.zero_le _) (Nat.zero_le _) dX14_many_67
      · replace h := ifn h c9
        by_cases c14 : a1 = 3
        · replace h := ifp h c14
          refine lv_tableIn (off := 67) (tgt := 68) hx hb dX14_many_1 (by rw [c14]; decide) (by rw [c14]; decide) (by rw [c14]; decide) (by decide) ?_
          refine lv_aload_n hx hb dX14_many_68 rfl (lv_at hl 0 rfl) ?_
          obtain ⟨r16, e15, h⟩ := obd h
          refine rc_V0 (rest := []) (st1 := [.int r16]) hF (w_X14_purposesAbout hSk e15) (cwV 0 hts (lw_V q2079 q2081 qs98 q117 q2082) rfl rfl rfl hd_X14_purposesAbout ⟨Nat.le_of_ble_eq_true rfl, Nat.le_of_ble_eq_true rfl⟩) cfX14 (sk_128 hSk) hK hW hR hS rfl hl.1 rfl (Nat.le_of_ble_eq_true rfl) rfl dX14_many_69 ⟨rfl, rfl⟩ ⟨Nat.zero_le _, Nat.zero_le _⟩ (fun H locs hR hS => ?_)
          obtain rfl := s1i h
          exact r_iret0 hx hb hr hlk hR hS (Nat.zero_le _) (Nat.zero_le _) dX14_many_72
        · replace h := ifn h c14
          by_cases c17 : a1 = 4
          · replace h := ifp h c17
            refine lv_tableIn (off := 72) (tgt := 73) hx hb dX14_many_1 (by rw [c17]; decide) (by rw [c17]; decide) (by rw [c17]; decide) (by decide) ?_
            refine lv_aload_n hx hb dX14_many_73 rfl (lv_at hl 0 rfl) ?_
            refine r_geti hx hb hts cfX14 hown hK hR (sk_128 hSk) 12 (by decide) rfl (hts _ q1533) (fun _ h => h) dX14_many_74 ?_
            obtain rfl := s1i h
            exact r_iret0 hx hb hr hlk hR hS (Nat.zero_le _) (Nat.zero_le _) dX14_many_77
          · replace h := ifn h c17
            by_cases c18 : a1 = 5
            · replace h := ifp h c18
              refine lv_tableIn (off := 77) (tgt := 78) hx hb dX14_many_1 (by rw [c18]; decide) (by rw [c18]; decide) (by rw [c18]; decide) (by decide) ?_
              refine lv_aload_n hx hb dX14_many_78 rfl (lv_at hl 0 rfl) ?_
              refine r_geti hx hb hts cfX14 hown hK hR (sk_128 hSk) 7 (by decide) rfl (hts _ q1528) (fun _ h => h) dX14_many_79 ?_
              obtain rfl := s1i h
              exact r_iret0 hx hb hr hlk hR hS (Nat.zero_le _) (Nat.zero_le _) dX14_many_82
            · replace h := ifn h c18
              by_cases c19 : a1 = 6
              · replace h := ifp h c19
                refine lv_tableIn (off := 82) (tgt := 83) hx hb dX14_many_1 (by rw [c19]; decide) (by rw [c19]; decide) (by rw [c19]; decide) (by decide) ?_
                refine lv_aload_n hx hb dX14_many_83 rfl (lv_at hl 0 rfl) ?_
                refine r_geti hx hb hts cfX14 hown hK hR (sk_128 hSk) 20 (by decide) rfl (hts _ q1541) (fun _ h => h) dX14_many_84 ?_
                obtain rfl := s1i h
                exact r_iret0 hx hb hr hlk hR hS (Nat.zero_le _) (Nat.zero_le _) dX14_many_87
              · replace h := ifn h c19
                have dc1 : Int32.toInt a1 ≠ 0 := ne32 c1 (by decide)
                have dc4 : Int32.toInt a1 ≠ 1 := ne32 c4 (by decide)
                have dc9 : Int32.toInt a1 ≠ 2 := ne32 c9 (by decide)
                have dc14 : Int32.toInt a1 ≠ 3 := ne32 c14 (by decide)
                have dc17 : Int32.toInt a1 ≠ 4 := ne32 c17 (by decide)
                have dc18 : Int32.toInt a1 ≠ 5 := ne32 c18 (by decide)
                have dc19 : Int32.toInt a1 ≠ 6 := ne32 c19 (by decide)
                refine lv_tableOut (tgt := 88) hx hb dX14_many_1 (by omega) (by decide) ?_
                refine lv_iconst (v := (-1)) hx hb dX14_many_88 ki_m1 ?_
                obtain rfl := s1i h
                exact r_iret0 hx hb hr hlk hR hS (Nat.zero_le _) (Nat.zero_le _) dX14_many_89
def rm_X14_keep : Room := { frames := 2, cells := 0, slots := 0, locals := 34 }
theorem hd_X14_keep : yX14_keep.cls = "IntentVatsModel" ∧ yX14_keep.cls ≠ "java/lang/invoke/MethodHandle" ∧ yX14_keep.cls ≠ "java/lang/invoke/VarHandle" ∧ (parseMethodDescriptor yX14_keep.desc).map (fun d => d.parameters.length) = some 0 := by decide +kernel
theorem he_X14_keep : yX14_keep.cls ≠ "java/lang/invoke/MethodHandle" ∧ yX14_keep.cls ≠ "java/lang/invoke/VarHandle" ∧ (parseMethodDescriptor yX14_keep.desc).map (fun d => d.parameters.length) = some 0 := hd_X14_keep.2

set_option maxHeartbeats 4000000 in
set_option maxRecDepth 100000 in
theorem w_X14_keep {l : Launch} {G : Gx} {sh : SM} {g : GM} {gl : LM} {gr : RM} {n : Nat} (hSk : Sk sh gr)   {r : Int32} {go : GM} (h : f_X14_keep g  = some (r, go)) : MetI l G yX14_keep (ws_ yX14_keep cX14_keep 1 (Option.some Jvm.ClassFile.FieldType.int)) rm_X14_keep [.ref (adr G 128)] sh g gl gr n (some (.int r)) sh go gl gr n := by
  refine MetI.of (by decide) (Nat.le_of_ble_eq_true rfl) ?_
  intro p e s m below meth c ls hx hb hr hml hown hts hlk hnm hW hK hR hS hl
  have hown : s.vm.findClass RX14 = some m.cls := hown
  have hF : CallFix p m c cX14_keep 1 s ([.ref (adr G 128)] : List Value).toArray lw_all RX14 := ⟨hx, hb, hml, hown, hts⟩
  have hl : lv_has ls 1 [(0, .ref (adr G 128))] := hl
  unfold f_X14_keep at h
  refine lv_aload_n hx hb dX14_keep_0 rfl (lv_at hl 0 rfl) ?_
  refine r_getr hx hb hts cfX14 hown hK hR (sk_128 hSk) 2 (by decide) rfl (sr_128_2 hSk) (hts _ q1523) (fun _ h => h) dX14_keep_1 ?_
  refine lv_aload_n hx hb dX14_keep_4 rfl (lv_at hl 0 rfl) ?_
  refine r_getr hx hb hts cfX14 hown hK hR (sk_128 hSk) 3 (by decide) rfl (sr_128_3 hSk) (hts _ q1524) (fun _ h => h) dX14_keep_5 ?_
  obtain ⟨g2, e1, h⟩ := obd h
  refine rc_S0 (rest := []) (st1 := []) hF (w_X14_become hSk 131 132 (sk_131 hSk) (sk_132 hSk) e1) (va_cwS 2 hts (lw_S q1763 q1764 q117 q1765) rfl rfl rfl he_X14_become ⟨Nat.le_of_ble_eq_true rfl, Nat.le_of_ble_eq_true rfl⟩) hW hR hS rfl hl.1 rfl (Nat.le_of_ble_eq_true rfl) rfl dX14_keep_8 ⟨rfl, rfl⟩ ⟨Nat.zero_le _, Nat.zero_le _⟩ (fun H locs hR hS => ?_)
  refine lv_aload_n hx hb dX14_keep_11 rfl (lv_at hl 0 rfl) ?_
  refine lv_iconst (v := 1) hx hb dX14_keep_12 ki_1 ?_
  obtain ⟨g4, e3, h⟩ := obd h
  refine r_puti hx hb hts cfX14 hown hK hR hS (sk_128 hSk) 5 (by decide) rfl (hts _ q1526) (fun _ h => h) (Or.inl rfl) (by decide) (by decide) e3 dX14_keep_13 (fun H locs hR hS => ?_)
  refine lv_iconst (v := 1) hx hb dX14_keep_16 ki_1 ?_
  obtain ⟨rfl, rfl⟩ := s2i h
  exact r_iret0 hx hb hr hlk hR hS (Nat.zero_le _) (Nat.zero_le _) dX14_keep_17
def rm_X14_again : Room := { frames := 2, cells := 0, slots := 0, locals := 34 }
theorem hd_X14_again : yX14_again.cls = "IntentVatsModel" ∧ yX14_again.cls ≠ "java/lang/invoke/MethodHandle" ∧ yX14_again.cls ≠ "java/lang/invoke/VarHandle" ∧ (parseMethodDescriptor yX14_again.desc).map (fun d => d.parameters.length) = some 0 := by decide +kernel
theorem he_X14_again : yX14_again.cls ≠ "java/lang/invoke/MethodHandle" ∧ yX14_again.cls ≠ "java/lang/invoke/VarHandle" ∧ (parseMethodDescriptor yX14_again.desc).map (fun d => d.parameters.length) = some 0 := hd_X14_again.2

set_option maxHeartbeats 4000000 in
set_option maxRecDepth 100000 in
theorem w_X14_again {l : Launch} {G : Gx} {sh : SM} {g : GM} {gl : LM} {gr : RM} {n : Nat} (hSk : Sk sh gr)   {r : Int32} {go : GM} (h : f_X14_again g  = some (r, go)) : MetI l G yX14_again (ws_ yX14_again cX14_again 1 (Option.some Jvm.ClassFile.FieldType.int)) rm_X14_again [.ref (adr G 128)] sh g gl gr n (some (.int r)) sh go gl gr n := by
  refine MetI.of (by decide) (Nat.le_of_ble_eq_true rfl) ?_
  intro p e s m below meth c ls hx hb hr hml hown hts hlk hnm hW hK hR hS hl
  have hown : s.vm.findClass RX14 = some m.cls := hown
  have hF : CallFix p m c cX14_again 1 s ([.ref (adr G 128)] : List Value).toArray lw_all RX14 := ⟨hx, hb, hml, hown, hts⟩
  have hl : lv_has ls 1 [(0, .ref (adr G 128))] := hl
  unfold f_X14_again at h
  refine lv_aload_n hx hb dX14_again_0 rfl (lv_at hl 0 rfl) ?_
  refine r_geti hx hb hts cfX14 hown hK hR (sk_128 hSk) 5 (by decide) rfl (hts _ q1526) (fun _ h => h) dX14_again_1 ?_
  refine lv_if_ne (tgt := 10) hx hb dX14_again_4 (by decide) (fun c1 => ?_) (fun c1 => ?_)
  · replace h := ifn h c1
    refine lv_aload_n hx hb dX14_again_10 rfl (lv_at hl 0 rfl) ?_
    refine r_getr hx hb hts cfX14 hown hK hR (sk_128 hSk) 3 (by decide) rfl (sr_128_3 hSk) (hts _ q1524) (fun _ h => h) dX14_again_11 ?_
    refine lv_aload_n hx hb dX14_again_14 rfl (lv_at hl 0 rfl) ?_
    refine r_getr hx hb hts cfX14 hown hK hR (sk_128 hSk) 2 (by decide) rfl (sr_128_2 hSk) (hts _ q1523) (fun _ h => h) dX14_again_15 ?_
    obtain ⟨g3, e2, h⟩ := obd h
    refine rc_S0 (rest := []) (st1 := []) hF (w_X14_become hSk 132 131 (sk_132 hSk) (sk_131 hSk) e2) (va_cwS 2 hts (lw_S q1763 q1764 q117 q1765) rfl rfl rfl he_X14_become ⟨Nat.le_of_ble_eq_true rfl, Nat.le_of_ble_eq_true rfl⟩) hW hR hS rfl hl.1 rfl (Nat.le_of_ble_eq_true rfl) rfl dX14_again_18 ⟨rfl, rfl⟩ ⟨Nat.zero_le _, Nat.zero_le _⟩ (fun H locs hR hS => ?_)
    refine lv_aload_n hx hb dX14_again_21 rfl (lv_at hl 0 rfl) ?_
    refine r_getr hx hb hts cfX14 hown hK hR (sk_128 hSk) 2 (by decide) rfl (sr_128_2 hSk) (hts _ q1523) (fun _ h => h) dX14_again_22 ?_
    refine lv_bipush (v := 6) hx hb dX14_again_25 kb_6 ?_
    obtain ⟨v5, e4, h⟩ := obd h
    refine r_ldi hx hb hK hR (sk_131 hSk) e4 dX14_again_27 ?_
    obtain ⟨rfl, rfl⟩ := s2i h
    exact r_iret0 hx hb hr hlk hR hS (Nat.zero_le _) (Nat.zero_le _) dX14_again_28
  · replace h := ifp h c1
    refine lv_bipush (v := (-3)) hx hb dX14_again_7 kb_m3 ?_
    obtain ⟨rfl, rfl⟩ := s2i h
    exact r_iret0 hx hb hr hlk hR hS (Nat.zero_le _) (Nat.zero_le _) dX14_again_9
