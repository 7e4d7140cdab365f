/-! walks: X0_firstAbout, X0_comes, X0_bare, X0_spoiltTried, X0_spoilt, X0_dippedThrough, X0_through, X0_depthsTried, X0_vatFor, X0_kindFor, X0_strengthFor, X0_ones, X0_hangFor, X0_isSheet, X0_there -/
def rm_X0_firstAbout : Room := { frames := 9, cells := 0, slots := 0, locals := 349 }
theorem hd_X0_firstAbout : yX0_firstAbout.cls = "IntentVats" ∧ yX0_firstAbout.cls ≠ "java/lang/invoke/MethodHandle" ∧ yX0_firstAbout.cls ≠ "java/lang/invoke/VarHandle" ∧ (parseMethodDescriptor yX0_firstAbout.desc).map (fun d => d.parameters.length) = some 2 := by decide +kernel
theorem he_X0_firstAbout : yX0_firstAbout.cls ≠ "java/lang/invoke/MethodHandle" ∧ yX0_firstAbout.cls ≠ "java/lang/invoke/VarHandle" ∧ (parseMethodDescriptor yX0_firstAbout.desc).map (fun d => d.parameters.length) = some 2 := hd_X0_firstAbout.2

set_option maxHeartbeats 4000000 in
set_option maxRecDepth 100000 in
theorem w_X0_firstAbout {l : Launch} {G : Gx} {sh : SM} {g : GM} {gl : LM} {gr : RM} {n : Nat} (hSk : Sk sh gr) (a1 : Int32) (a2 : Int32)  {r : Int32} {go : GM} (h : f_X0_firstAbout g a1 a2 = some (r, go)) : MetI l G yX0_firstAbout (ws_ yX0_firstAbout cX0_firstAbout 4 (Option.some Jvm.ClassFile.FieldType.int)) rm_X0_firstAbout [.ref (adr G 64), .int a1, .int a2] sh g gl gr n (some (.int r)) sh go gl gr n := by
  refine MetI.of (by decide) (Nat.le_of_ble_eq_true rfl) ?_
  intro p e s m below meth c ls hx hb hr hml hown hts hlk hnm hW hK hR hS hl
  have hown : s.vm.findClass RX0 = some m.cls := hown
  have hF : CallFix p m c cX0_firstAbout 4 s ([.ref (adr G 64), .int a1, .int a2] : List Value).toArray lw_all RX0 := ⟨hx, hb, hml, hown, hts⟩
  have hl : lv_has ls 4 [(0, .ref (adr G 64)), (1, .int a1), (2, .int a2)] := hl
  unfold f_X0_firstAbout at h
  refine lv_aload_n hx hb dX0_firstAbout_0 rfl (lv_at hl 0 rfl) ?_
  refine r_getr hx hb hts cfX0 hown hK hR (sk_64 hSk) 3 (by decide) rfl (sr_64_3 hSk) (hts _ q452) (fun _ h => h) dX0_firstAbout_1 ?_
  refine lv_aload_n hx hb dX0_firstAbout_4 rfl (lv_at hl 0 rfl) ?_
  refine r_getr hx hb hts cfX0 hown hK hR (sk_64 hSk) 0 (by decide) rfl (sr_64_0 hSk) (hts _ q449) (fun _ h => h) dX0_firstAbout_5 ?_
  obtain ⟨g2, e1, h⟩ := obd h
  refine rc_V0 (rest := []) (st1 := []) hF (w_X1_become hSk 92 65 (isMl_92) (isMl_65) e1) (cwV 1 hts (lw_V q516 q517 q518 q101 q519) rfl rfl rfl hd_X1_become ⟨Nat.le_of_ble_eq_true rfl, Nat.le_of_ble_eq_true rfl⟩) cfX1 (sk_92 hSk) hK hW hR hS rfl hl.1 rfl (Nat.le_of_ble_eq_true rfl) rfl dX0_firstAbout_8 ⟨rfl, rfl⟩ ⟨Nat.zero_le _, Nat.zero_le _⟩ (fun H locs hR hS => ?_)
  refine lv_iconst (v := 0) hx hb dX0_firstAbout_11 ki_0 ?_
  refine lv_istore_n (lv' := [(3, .int 0), (0, .ref (adr G 64)), (1, .int a1), (2, .int a2)]) hx hb dX0_firstAbout_12 rfl hl (by decide) rfl (fun ls hl => ?_)
  have J13 : ∀ (k13 : Nat) (x3 : Int32) (g4 : GM) (H : Heap) (locs : List Loc) (ls : Array Slot), Rep G sh g4 gl gr n H → va_S (own G) s.heap H locs → lv_has ls 4 [(0, .ref (adr G 64)), (1, .int a1), (2, .int a2), (3, .int x3)] → l_X0_firstAbout_13 a1 a2 k13 x3 g4 = some (r, go) → W p l e rm_X0_firstAbout s m ([.ref (adr G 64), .int a1, .int a2] : List Value).toArray below meth c H locs 0 0 (MQ below (QR G (some (.int r)) sh go gl gr n) ([.ref (adr G 64), .int a1, .int a2] : List Value).toArray s rm_X0_firstAbout.cells rm_X0_firstAbout.slots (own G)) (F0 m 13 ls []) := by
    intro k13
    induction k13 with
    | zero => intro _ _ _ _ _ _ _ _; exact nofun
    | succ k13 ih13 =>
      intro x3 g4 H locs ls hR hS hl h
      unfold l_X0_firstAbout_13 b_X0_firstAbout_13 at h
      refine lv_iload_n hx hb dX0_firstAbout_13 rfl (lv_at hl 3 rfl) ?_
      refine lv_bipush (v := 60) hx hb dX0_firstAbout_14 kb_60 ?_
      have J49 : ∀  (H : Heap) (locs : List Loc) (ls : Array Slot), Rep G sh g4 gl gr n H → va_S (own G) s.heap H locs → lv_has ls 4 [(3, .int x3)] → j_X0_firstAbout_49 x3 g4  = some (r, go) → W p l e rm_X0_firstAbout s m ([.ref (adr G 64), .int a1, .int a2] : List Value).toArray below meth c H locs 0 0 (MQ below (QR G (some (.int r)) sh go gl gr n) ([.ref (adr G 64), .int a1, .int a2] : List Value).toArray s rm_X0_firstAbout.cells rm_X0_firstAbout.slots (own G)) (F0 m 49 ls []) := by
        intro  H locs ls hR hS hl h
        unfold j_X0_firstAbout_49 at h
        refine lv_iload_n hx hb dX0_firstAbout_49 rfl (lv_at hl 0 rfl) ?_
        refine lv_bipush (v := 60) hx hb dX0_firstAbout_50 kb_60 ?_
        have J61 : ∀ (x5 : Int32) (H : Heap) (locs : List Loc) (ls : Array Slot), Rep G sh g4 gl gr n H → va_S (own G) s.heap H locs → lv_has ls 4 [] → j_X0_firstAbout_61 g4 x5 = some (r, go) → W p l e rm_X0_firstAbout s m ([.ref (adr G 64), .int a1, .int a2] : List Value).toArray below meth c H locs 0 0 (MQ below (QR G (some (.int r)) sh go gl gr n) ([.ref (adr G 64), .int a1, .int a2] : List Value).toArray s rm_X0_firstAbout.cells rm_X0_firstAbout.slots (own G)) (F0 m 61 ls [.int x5]) := by
          intro x5 H locs ls hR hS hl h
          unfold j_X0_firstAbout_61 at h
          obtain ⟨rfl, rfl⟩ := s2i h
          exact r_iret0 hx hb hr hlk hR hS (Nat.zero_le _) (Nat.zero_le _) dX0_firstAbout_61
        refine lv_icmp_le (tgt := 60) hx hb dX0_firstAbout_52 (by decide) (fun c6 => ?_) (fun c6 => ?_)
        · replace h := ifp h c6
          refine lv_iload_n hx hb dX0_firstAbout_60 rfl (lv_at hl 0 rfl) ?_
          exact J61 x3 _ _ _ hR hS (lv_sub hl [] rfl) h
        · replace h := ifn h c6
          refine lv_bipush (v := (-3)) hx hb dX0_firstAbout_55 kb_m3 ?_
          refine lv_goto (tgt := 61) hx hb dX0_firstAbout_57 (by decide) ?_
          exact J61 (-3) _ _ _ hR hS (lv_sub hl [] rfl) h
      refine lv_icmp_gt (tgt := 49) hx hb dX0_firstAbout_16 (by decide) (fun c7 => ?_) (fun c7 => ?_)
      · replace h := ifp h c7
        exact J49  _ _ _ hR hS (lv_sub hl [3] rfl) h
      · replace h := ifn h c7
        refine lv_aload_n hx hb dX0_firstAbout_19 rfl (lv_at hl 0 rfl) ?_
        refine r_getr hx hb hts cfX0 hown hK hR (sk_64 hSk) 3 (by decide) rfl (sr_64_3 hSk) (hts _ q452) (fun _ h => h) dX0_firstAbout_20 ?_
        refine r_getrN hx hb hts cfX1 hown hK hR (sk_92 hSk) 9 (by decide) rfl (sr_92_9 hSk) (hW.nestF q183) (fun _ h => h) dX0_firstAbout_23 ?_
        refine lv_iload_n hx hb dX0_firstAbout_26 rfl (lv_at hl 1 rfl) ?_
        obtain ⟨v9, e8, h⟩ := obd h
        refine r_ldi hx hb hK hR (sk_98 hSk) e8 dX0_firstAbout_27 ?_
        refine lv_iload_n hx hb dX0_firstAbout_28 rfl (lv_at hl 2 rfl) ?_
        refine lv_icmp_ne (tgt := 35) hx hb dX0_firstAbout_29 (by decide) (fun c10 => ?_) (fun c10 => ?_)
        · replace h := ifn h c10
          refine lv_aload_n hx hb dX0_firstAbout_35 rfl (lv_at hl 0 rfl) ?_
          refine lv_aload_n hx hb dX0_firstAbout_36 rfl (lv_at hl 0 rfl) ?_
          refine r_getr hx hb hts cfX0 hown hK hR (sk_64 hSk) 3 (by decide) rfl (sr_64_3 hSk) (hts _ q452) (fun _ h => h) dX0_firstAbout_37 ?_
          obtain ⟨g12, e11, h⟩ := obd h
          refine rc_V0 (rest := []) (st1 := []) hF (w_X0_dayGoes hSk 92 (isMl_92) e11) (cwV 1 hts (lw_V q849 q851 qs19 q100 q852) rfl rfl rfl hd_X0_dayGoes ⟨Nat.le_of_ble_eq_true rfl, Nat.le_of_ble_eq_true rfl⟩) cfX0 (sk_64 hSk) hK hW hR hS rfl hl.1 rfl (Nat.le_of_ble_eq_true rfl) rfl dX0_firstAbout_40 ⟨rfl, rfl⟩ ⟨Nat.zero_le _, Nat.zero_le _⟩ (fun H locs hR hS => ?_)
          refine lv_iinc (v := x3 + 1) (lv' := [(3, .int (x3 + 1)), (0, .ref (adr G 64)), (1, .int a1), (2, .int a2)]) hx hb dX0_firstAbout_43 hl (k := 3) rfl rfl (by decide) rfl (fun ls hl => ?_)
          refine lv_goto (tgt := 13) hx hb dX0_firstAbout_46 (by decide) ?_
          exact ih13 (x3 + 1) g12 _ _ _ hR hS (lv_sub hl [1, 2, 3, 0] rfl) h
        · replace h := ifp h c10
          refine lv_goto (tgt := 49) hx hb dX0_firstAbout_32 (by decide) ?_
          exact J49  _ _ _ hR hS (lv_sub hl [3] rfl) h
  exact J13 fuel 0 g2 _ _ _ hR hS (lv_sub hl [1, 2, 3, 0] rfl) h
def rm_X0_comes : Room := { frames := 10, cells := 0, slots := 0, locals := 372 }
theorem hd_X0_comes : yX0_comes.cls = "IntentVats" ∧ yX0_comes.cls ≠ "java/lang/invoke/MethodHandle" ∧ yX0_comes.cls ≠ "java/lang/invoke/VarHandle" ∧ (parseMethodDescriptor yX0_comes.desc).map (fun d => d.parameters.length) = some 2 := by decide +kernel
theorem he_X0_comes : yX0_comes.cls ≠ "java/lang/invoke/MethodHandle" ∧ yX0_comes.cls ≠ "java/lang/invoke/VarHandle" ∧ (parseMethodDescriptor yX0_comes.desc).map (fun d => d.parameters.length) = some 2 := hd_X0_comes.2

set_option maxHeartbeats 4000000 in
set_option maxRecDepth 100000 in
theorem w_X0_comes {l : Launch} {G : Gx} {sh : SM} {g : GM} {gl : LM} {gr : RM} {n : Nat} (hSk : Sk sh gr) (a1 : Int32) (a2 : Int32)  {r : Int32} {go : GM} (h : f_X0_comes g a1 a2 = some (r, go)) : MetI l G yX0_comes (ws_ yX0_comes cX0_comes 3 (Option.some Jvm.ClassFile.FieldType.int)) rm_X0_comes [.ref (adr G 64), .int a1, .int a2] sh g gl gr n (some (.int r)) sh go gl gr n := by
  refine MetI.of (by decide) (Nat.le_of_ble_eq_true rfl) ?_
  intro p e s m below meth c ls hx hb hr hml hown hts hlk hnm hW hK hR hS hl
  have hown : s.vm.findClass RX0 = some m.cls := hown
  have hF : CallFix p m c cX0_comes 3 s ([.ref (adr G 64), .int a1, .int a2] : List Value).toArray lw_all RX0 := ⟨hx, hb, hml, hown, hts⟩
  have hl : lv_has ls 3 [(0, .ref (adr G 64)), (1, .int a1), (2, .int a2)] := hl
  unfold f_X0_comes at h
  refine lv_aload_n hx hb dX0_comes_0 rfl (lv_at hl 0 rfl) ?_
  refine lv_iload_n hx hb dX0_comes_1 rfl (lv_at hl 1 rfl) ?_
  obtain ⟨r2, e1, h⟩ := obd h
  refine rc_V0 (rest := []) (st1 := [.int r2]) hF (w_X0_isCloth hSk a1 e1) (cwV 1 hts (lw_V q715 q717 qs15 q100 q718) rfl rfl rfl hd_X0_isCloth ⟨Nat.le_of_ble_eq_true rfl, Nat.le_of_ble_eq_true rfl⟩) cfX0 (sk_64 hSk) hK hW hR hS rfl hl.1 rfl (Nat.le_of_ble_eq_true rfl) rfl dX0_comes_2 ⟨rfl, rfl⟩ ⟨Nat.zero_le _, Nat.zero_le _⟩ (fun H locs hR hS => ?_)
  have J25 : ∀ (x3 : Int32) (g4 : GM) (H : Heap) (locs : List Loc) (ls : Array Slot), Rep G sh g4 gl gr n H → va_S (own G) s.heap H locs → lv_has ls 3 [] → j_X0_comes_25  x3 g4 = some (r, go) → W p l e rm_X0_comes s m ([.ref (adr G 64), .int a1, .int a2] : List Value).toArray below meth c H locs 0 0 (MQ below (QR G (some (.int r)) sh go gl gr n) ([.ref (adr G 64), .int a1, .int a2] : List Value).toArray s rm_X0_comes.cells rm_X0_comes.slots (own G)) (F0 m 25 ls [.int x3]) := by
    intro x3 g4 H locs ls hR hS hl h
    unfold j_X0_comes_25 at h
    obtain ⟨rfl, rfl⟩ := s2i h
    exact r_iret0 hx hb hr hlk hR hS (Nat.zero_le _) (Nat.zero_le _) dX0_comes_25
  have J24 : ∀  (H : Heap) (locs : List Loc) (ls : Array Slot), Rep G sh g gl gr n H → va_S (own G) s.heap H locs → lv_has ls 3 [] → j_X0_comes_24 g  = some (r, go) → W p l e rm_X0_comes s m ([.ref (adr G 64), .int a1, .int a2] : List Value).toArray below meth c H locs 0 0 (MQ below (QR G (some (.int r)) sh go gl gr n) ([.ref (adr G 64), .int a1, .int a2] : List Value).toArray s rm_X0_comes.cells rm_X0_comes.slots (own G)) (F0 m 24 ls []) := by
    intro  H locs ls hR hS hl h
    unfold j_X0_comes_24 at h
    refine lv_iconst (v := (-1)) hx hb dX0_comes_24 ki_m1 ?_
    exact J25 (-1) g _ _ _ hR hS (lv_sub hl [] rfl) h
  refine lv_if_eq (tgt := 24) hx hb dX0_comes_5 (by decide) (fun c5 => ?_) (fun c5 => ?_)
  · replace h := ifp h c5
    exact J24  _ _ _ hR hS (lv_sub hl [] rfl) h
  · replace h := ifn h c5
    refine lv_iload_n hx hb dX0_comes_8 rfl (lv_at hl 2 rfl) ?_
    obtain ⟨r7, e6, h⟩ := obd h
    refine rc_S0 (rest := []) (st1 := [.int r7]) hF (w_X0_isPurpose hSk a2 e6) (va_cwS 1 hts (lw_S q813 q814 q100 q815) rfl rfl rfl he_X0_isPurpose ⟨Nat.le_of_ble_eq_true rfl, Nat.le_of_ble_eq_true rfl⟩) hW hR hS rfl hl.1 rfl (Nat.le_of_ble_eq_true rfl) rfl dX0_comes_9 ⟨rfl, rfl⟩ ⟨Nat.zero_le _, Nat.zero_le _⟩ (fun H locs hR hS => ?_)
    refine lv_if_eq (tgt := 24) hx hb dX0_comes_12 (by decide) (fun c8 => ?_) (fun c8 => ?_)
    · replace h := ifp h c8
      exact J24  _ _ _ hR hS (lv_sub hl [] rfl) h
    · replace h := ifn h c8
      refine lv_aload_n hx hb dX0_comes_15 rfl (lv_at hl 0 rfl) ?_
      refine lv_iload_n hx hb dX0_comes_16 rfl (lv_at hl 1 rfl) ?_
      refine lv_iload_n hx hb dX0_comes_17 rfl (lv_at hl 2 rfl) ?_
      obtain ⟨r10, g11, e9, h⟩ := obd2 h
      refine rc_V0 (rest := []) (st1 := [.int r10]) hF (w_X0_firstAbout hSk a1 a2 e9) (cwV 2 hts (lw_V q915 q917 qs22 q100 q918) rfl rfl rfl hd_X0_firstAbout ⟨Nat.le_of_ble_eq_true rfl, Nat.le_of_ble_eq_true rfl⟩) cfX0 (sk_64 hSk) hK hW hR hS rfl hl.1 rfl (Nat.le_of_ble_eq_true rfl) rfl dX0_comes_18 ⟨rfl, rfl⟩ ⟨Nat.zero_le _, Nat.zero_le _⟩ (fun H locs hR hS => ?_)
      refine lv_goto (tgt := 25) hx hb dX0_comes_21 (by decide) ?_
      exact J25 r10 g11 _ _ _ hR hS (lv_sub hl [] rfl) h
def rm_X0_bare : Room := { frames := 10, cells := 0, slots := 0, locals := 372 }
theorem hd_X0_bare : yX0_bare.cls = "IntentVats" ∧ yX0_bare.cls ≠ "java/lang/invoke/MethodHandle" ∧ yX0_bare.cls ≠ "java/lang/invoke/VarHandle" ∧ (parseMethodDescriptor yX0_bare.desc).map (fun d => d.parameters.length) = some 1 := by decide +kernel
theorem he_X0_bare : yX0_bare.cls ≠ "java/lang/invoke/MethodHandle" ∧ yX0_bare.cls ≠ "java/lang/invoke/VarHandle" ∧ (parseMethodDescriptor yX0_bare.desc).map (fun d => d.parameters.length) = some 1 := hd_X0_bare.2

set_option maxHeartbeats 4000000 in
set_option maxRecDepth 100000 in
theorem w_X0_bare {l : Launch} {G : Gx} {sh : SM} {g : GM} {gl : LM} {gr : RM} {n : Nat} (hSk : Sk sh gr) (a1 : Int32)  {r : Int32} {go : GM} (h : f_X0_bare g a1 = some (r, go)) : MetI l G yX0_bare (ws_ yX0_bare cX0_bare 2 (Option.some Jvm.ClassFile.FieldType.int)) rm_X0_bare [.ref (adr G 64), .int a1] sh g gl gr n (some (.int r)) sh go gl gr n := by
  refine MetI.of (by decide) (Nat.le_of_ble_eq_true rfl) ?_
  intro p e s m below meth c ls hx hb hr hml hown hts hlk hnm hW hK hR hS hl
  have hown : s.vm.findClass RX0 = some m.cls := hown
  have hF : CallFix p m c cX0_bare 2 s ([.ref (adr G 64), .int a1] : List Value).toArray lw_all RX0 := ⟨hx, hb, hml, hown, hts⟩
  have hl : lv_has ls 2 [(0, .ref (adr G 64)), (1, .int a1)] := hl
  unfold f_X0_bare at h
  refine lv_aload_n hx hb dX0_bare_0 rfl (lv_at hl 0 rfl) ?_
  refine lv_iload_n hx hb dX0_bare_1 rfl (lv_at hl 1 rfl) ?_
  obtain ⟨r2, e1, h⟩ := obd h
  refine rc_V0 (rest := []) (st1 := [.int r2]) hF (w_X0_isCloth hSk a1 e1) (cwV 1 hts (lw_V q715 q717 qs15 q100 q718) rfl rfl rfl hd_X0_isCloth ⟨Nat.le_of_ble_eq_true rfl, Nat.le_of_ble_eq_true rfl⟩) cfX0 (sk_64 hSk) hK hW hR hS rfl hl.1 rfl (Nat.le_of_ble_eq_true rfl) rfl dX0_bare_2 ⟨rfl, rfl⟩ ⟨Nat.zero_le _, Nat.zero_le _⟩ (fun H locs hR hS => ?_)
  have J18 : ∀ (x3 : Int32) (g4 : GM) (H : Heap) (locs : List Loc) (ls : Array Slot), Rep G sh g4 gl gr n H → va_S (own G) s.heap H locs → lv_has ls 2 [] → j_X0_bare_18  x3 g4 = some (r, go) → W p l e rm_X0_bare s m ([.ref (adr G 64), .int a1] : List Value).toArray below meth c H locs 0 0 (MQ below (QR G (some (.int r)) sh go gl gr n) ([.ref (adr G 64), .int a1] : List Value).toArray s rm_X0_bare.cells rm_X0_bare.slots (own G)) (F0 m 18 ls [.int x3]) := by
    intro x3 g4 H locs ls hR hS hl h
    unfold j_X0_bare_18 at h
    obtain ⟨rfl, rfl⟩ := s2i h
    exact r_iret0 hx hb hr hlk hR hS (Nat.zero_le _) (Nat.zero_le _) dX0_bare_18
  refine lv_if_eq (tgt := 17) hx hb dX0_bare_5 (by decide) (fun c5 => ?_) (fun c5 => ?_)
  · replace h := ifp h c5
    refine lv_iconst (v := (-1)) hx hb dX0_bare_17 ki_m1 ?_
    exact J18 (-1) g _ _ _ hR hS (lv_sub hl [] rfl) h
  · replace h := ifn h c5
    refine lv_aload_n hx hb dX0_bare_8 rfl (lv_at hl 0 rfl) ?_
    refine lv_iload_n hx hb dX0_bare_9 rfl (lv_at hl 1 rfl) ?_
    refine lv_iconst (v := (-1)) hx hb dX0_bare_10 ki_m1 ?_
    obtain ⟨r7, g8, e6, h⟩ := obd2 h
    refine rc_V0 (rest := []) (st1 := [.int r7]) hF (w_X0_firstAbout hSk a1 (-1) e6) (cwV 2 hts (lw_V q915 q917 qs22 q100 q918) rfl rfl rfl hd_X0_firstAbout ⟨Nat.le_of_ble_eq_true rfl, Nat.le_of_ble_eq_true rfl⟩) cfX0 (sk_64 hSk) hK hW hR hS rfl hl.1 rfl (Nat.le_of_ble_eq_true rfl) rfl dX0_bare_11 ⟨rfl, rfl⟩ ⟨Nat.zero_le _, Nat.zero_le _⟩ (fun H locs hR hS => ?_)
    refine lv_goto (tgt := 18) hx hb dX0_bare_14 (by decide) ?_
    exact J18 r7 g8 _ _ _ hR hS (lv_sub hl [] rfl) h
def rm_X0_spoiltTried : Room := { frames := 10, cells := 0, slots := 0, locals := 372 }
theorem hd_X0_spoiltTried : yX0_spoiltTried.cls = "IntentVats" ∧ yX0_spoiltTried.cls ≠ "java/lang/invoke/MethodHandle" ∧ yX0_spoiltTried.cls ≠ "java/lang/invoke/VarHandle" ∧ (parseMethodDescriptor yX0_spoiltTried.desc).map (fun d => d.parameters.length) = some 1 := by decide +kernel
theorem he_X0_spoiltTried : yX0_spoiltTried.cls ≠ "java/lang/invoke/MethodHandle" ∧ yX0_spoiltTried.cls ≠ "java/lang/invoke/VarHandle" ∧ (parseMethodDescriptor yX0_spoiltTried.desc).map (fun d => d.parameters.length) = some 1 := hd_X0_spoiltTried.2

set_option maxHeartbeats 4000000 in
set_option maxRecDepth 100000 in
theorem w_X0_spoiltTried {l : Launch} {G : Gx} {sh : SM} {g : GM} {gl : LM} {gr : RM} {n : Nat} (hSk : Sk sh gr) (a1 : Int32)  {r : Int32} {go : GM} (h : f_X0_spoiltTried g a1 = some (r, go)) : MetI l G yX0_spoiltTried (ws_ yX0_spoiltTried cX0_spoiltTried 4 (Option.some Jvm.ClassFile.FieldType.int)) rm_X0_spoiltTried [.ref (adr G 64), .int a1] sh g gl gr n (some (.int r)) sh go gl gr n := by
  refine MetI.of (by decide) (Nat.le_of_ble_eq_true rfl) ?_
  intro p e s m below meth c ls hx hb hr hml hown hts hlk hnm hW hK hR hS hl
  have hown : s.vm.findClass RX0 = some m.cls := hown
  have hF : CallFix p m c cX0_spoiltTried 4 s ([.ref (adr G 64), .int a1] : List Value).toArray lw_all RX0 := ⟨hx, hb, hml, hown, hts⟩
  have hl : lv_has ls 4 [(0, .ref (adr G 64)), (1, .int a1)] := hl
  unfold f_X0_spoiltTried at h
  refine lv_aload_n hx hb dX0_spoiltTried_0 rfl (lv_at hl 0 rfl) ?_
  refine lv_aload_n hx hb dX0_spoiltTried_1 rfl (lv_at hl 0 rfl) ?_
  refine r_getr hx hb hts cfX0 hown hK hR (sk_64 hSk) 3 (by decide) rfl (sr_64_3 hSk) (hts _ q452) (fun _ h => h) dX0_spoiltTried_2 ?_
  refine lv_iload_n hx hb dX0_spoiltTried_5 rfl (lv_at hl 1 rfl) ?_
  obtain ⟨g2, e1, h⟩ := obd h
  refine rc_V0 (rest := []) (st1 := []) hF (w_X0_daysGo hSk 92 a1 (isMl_92) e1) (cwV 2 hts (lw_V q845 q847 qs18 q100 q848) rfl rfl rfl hd_X0_daysGo ⟨Nat.le_of_ble_eq_true rfl, Nat.le_of_ble_eq_true rfl⟩) cfX0 (sk_64 hSk) hK hW hR hS rfl hl.1 rfl (Nat.le_of_ble_eq_true rfl) rfl dX0_spoiltTried_6 ⟨rfl, rfl⟩ ⟨Nat.zero_le _, Nat.zero_le _⟩ (fun H locs hR hS => ?_)
  refine lv_iconst (v := 0) hx hb dX0_spoiltTried_9 ki_0 ?_
  refine lv_istore_n (lv' := [(2, .int 0), (0, .ref (adr G 64)), (1, .int a1)]) hx hb dX0_spoiltTried_10 rfl hl (by decide) rfl (fun ls hl => ?_)
  refine lv_iconst (v := 0) hx hb dX0_spoiltTried_11 ki_0 ?_
  refine lv_istore_n (lv' := [(3, .int 0), (2, .int 0), (0, .ref (adr G 64)), (1, .int a1)]) hx hb dX0_spoiltTried_12 rfl hl (by decide) rfl (fun ls hl => ?_)
  have J13 : ∀ (k13 : Nat) (x3 : Int32) (x4 : Int32) (H : Heap) (locs : List Loc) (ls : Array Slot), Rep G sh g2 gl gr n H → va_S (own G) s.heap H locs → lv_has ls 4 [(0, .ref (adr G 64)), (2, .int x3), (3, .int x4)] → l_X0_spoiltTried_13 g2 k13 x3 x4 = some (r, go) → W p l e rm_X0_spoiltTried s m ([.ref (adr G 64), .int a1] : List Value).toArray below meth c H locs 0 0 (MQ below (QR G (some (.int r)) sh go gl gr n) ([.ref (adr G 64), .int a1] : List Value).toArray s rm_X0_spoiltTried.cells rm_X0_spoiltTried.slots (own G)) (F0 m 13 ls []) := by
    intro k13
    induction k13 with
    | zero => intro _ _ _ _ _ _ _ _; exact nofun
    | succ k13 ih13 =>
      intro x3 x4 H locs ls hR hS hl h
      unfold l_X0_spoiltTried_13 b_X0_spoiltTried_13 at h
      refine lv_iload_n hx hb dX0_spoiltTried_13 rfl (lv_at hl 2 rfl) ?_
      refine lv_aload_n hx hb dX0_spoiltTried_14 rfl (lv_at hl 0 rfl) ?_
      refine r_getr hx hb hts cfX0 hown hK hR (sk_64 hSk) 0 (by decide) rfl (sr_64_0 hSk) (hts _ q449) (fun _ h => h) dX0_spoiltTried_15 ?_
      refine r_getiN hx hb hts cfX1 hown hK hR (sk_65 hSk) 0 (by decide) rfl (hW.nestF q153) (fun _ h => h) dX0_spoiltTried_18 ?_
      refine lv_icmp_ge (tgt := 59) hx hb dX0_spoiltTried_21 (by decide) (fun c5 => ?_) (fun c5 => ?_)
      · replace h := ifp h c5
        refine lv_iload_n hx hb dX0_spoiltTried_59 rfl (lv_at hl 1 rfl) ?_
        obtain ⟨rfl, rfl⟩ := s2i h
        exact r_iret0 hx hb hr hlk hR hS (Nat.zero_le _) (Nat.zero_le _) dX0_spoiltTried_60
      · replace h := ifn h c5
        refine lv_iload_n hx hb dX0_spoiltTried_24 rfl (lv_at hl 1 rfl) ?_
        refine lv_aload_n hx hb dX0_spoiltTried_25 rfl (lv_at hl 0 rfl) ?_
        refine r_getr hx hb hts cfX0 hown hK hR (sk_64 hSk) 3 (by decide) rfl (sr_64_3 hSk) (hts _ q452) (fun _ h => h) dX0_spoiltTried_26 ?_
        refine r_getrN hx hb hts cfX1 hown hK hR (sk_92 hSk) 9 (by decide) rfl (sr_92_9 hSk) (hW.nestF q183) (fun _ h => h) dX0_spoiltTried_29 ?_
        refine lv_iload_n hx hb dX0_spoiltTried_32 rfl (lv_at hl 2 rfl) ?_
        obtain ⟨v7, e6, h⟩ := obd h
        refine r_ldi hx hb hK hR (sk_98 hSk) e6 dX0_spoiltTried_33 ?_
        refine lv_aload_n hx hb dX0_spoiltTried_34 rfl (lv_at hl 0 rfl) ?_
        refine r_getr hx hb hts cfX0 hown hK hR (sk_64 hSk) 0 (by decide) rfl (sr_64_0 hSk) (hts _ q449) (fun _ h => h) dX0_spoiltTried_35 ?_
        refine r_getrN hx hb hts cfX1 hown hK hR (sk_65 hSk) 9 (by decide) rfl (sr_65_9 hSk) (hW.nestF q183) (fun _ h => h) dX0_spoiltTried_38 ?_
        refine lv_iload_n hx hb dX0_spoiltTried_41 rfl (lv_at hl 2 rfl) ?_
        obtain ⟨v9, e8, h⟩ := obd h
        refine r_ldi hx hb hK hR (sk_71 hSk) e8 dX0_spoiltTried_42 ?_
        have J51 : ∀ (x10 : Int32) (H : Heap) (locs : List Loc) (ls : Array Slot), Rep G sh g2 gl gr n H → va_S (own G) s.heap H locs → lv_has ls 4 [(0, .ref (adr G 64)), (3, .int x4)] → j_X0_spoiltTried_51 x3 x4 (l_X0_spoiltTried_13 g2 k13) x10 = some (r, go) → W p l e rm_X0_spoiltTried s m ([.ref (adr G 64), .int a1] : List Value).toArray below meth c H locs 0 0 (MQ below (QR G (some (.int r)) sh go gl gr n) ([.ref (adr G 64), .int a1] : List Value).toArray s rm_X0_spoiltTried.cells rm_X0_spoiltTried.slots (own G)) (F0 m 51 ls [.int x10, .int x3]) := by
          intro x10 H locs ls hR hS hl h
          unfold j_X0_spoiltTried_51 at h
          refine lv_iadd hx hb dX0_spoiltTried_51 ?_
          refine lv_istore_n (lv' := [(2, .int (x3 + x10)), (0, .ref (adr G 64)), (3, .int x4)]) hx hb dX0_spoiltTried_52 rfl hl (by decide) rfl (fun ls hl => ?_)
          refine lv_iinc (v := x4 + 1) (lv' := [(3, .int (x4 + 1)), (2, .int (x3 + x10)), (0, .ref (adr G 64))]) hx hb dX0_spoiltTried_53 hl (k := 2) rfl rfl (by decide) rfl (fun ls hl => ?_)
          refine lv_goto (tgt := 13) hx hb dX0_spoiltTried_56 (by decide) ?_
          exact ih13 (x3 + x10) (x4 + 1) _ _ _ hR hS (lv_sub hl [2, 1, 0] rfl) h
        refine lv_icmp_ne (tgt := 50) hx hb dX0_spoiltTried_43 (by decide) (fun c11 => ?_) (fun c11 => ?_)
        · replace h := ifn h c11
          refine lv_iconst (v := 1) hx hb dX0_spoiltTried_50 ki_1 ?_
          exact J51 1 _ _ _ hR hS (lv_sub hl [0, 2] rfl) h
        · replace h := ifp h c11
          refine lv_iconst (v := 0) hx hb dX0_spoiltTried_46 ki_0 ?_
          refine lv_goto (tgt := 51) hx hb dX0_spoiltTried_47 (by decide) ?_
          exact J51 0 _ _ _ hR hS (lv_sub hl [0, 2] rfl) h
  exact J13 fuel 0 0 _ _ _ hR hS (lv_sub hl [2, 1, 0] rfl) h
def rm_X0_spoilt : Room := { frames := 11, cells := 0, slots := 0, locals := 395 }
theorem hd_X0_spoilt : yX0_spoilt.cls = "IntentVats" ∧ yX0_spoilt.cls ≠ "java/lang/invoke/MethodHandle" ∧ yX0_spoilt.cls ≠ "java/lang/invoke/VarHandle" ∧ (parseMethodDescriptor yX0_spoilt.desc).map (fun d => d.parameters.length) = some 1 := by decide +kernel
theorem he_X0_spoilt : yX0_spoilt.cls ≠ "java/lang/invoke/MethodHandle" ∧ yX0_spoilt.cls ≠ "java/lang/invoke/VarHandle" ∧ (parseMethodDescriptor yX0_spoilt.desc).map (fun d => d.parameters.length) = some 1 := hd_X0_spoilt.2

set_option maxHeartbeats 4000000 in
set_option maxRecDepth 100000 in
theorem w_X0_spoilt {l : Launch} {G : Gx} {sh : SM} {g : GM} {gl : LM} {gr : RM} {n : Nat} (hSk : Sk sh gr) (a1 : Int32)  {r : Int32} {go : GM} (h : f_X0_spoilt g a1 = some (r, go)) : MetI l G yX0_spoilt (ws_ yX0_spoilt cX0_spoilt 2 (Option.some Jvm.ClassFile.FieldType.int)) rm_X0_spoilt [.ref (adr G 64), .int a1] sh g gl gr n (some (.int r)) sh go gl gr n := by
  refine MetI.of (by decide) (Nat.le_of_ble_eq_true rfl) ?_
  intro p e s m below meth c ls hx hb hr hml hown hts hlk hnm hW hK hR hS hl
  have hown : s.vm.findClass RX0 = some m.cls := hown
  have hF : CallFix p m c cX0_spoilt 2 s ([.ref (adr G 64), .int a1] : List Value).toArray lw_all RX0 := ⟨hx, hb, hml, hown, hts⟩
  have hl : lv_has ls 2 [(0, .ref (adr G 64)), (1, .int a1)] := hl
  unfold f_X0_spoilt at h
  refine lv_iload_n hx hb dX0_spoilt_0 rfl (lv_at hl 1 rfl) ?_
  refine lv_iconst (v := 0) hx hb dX0_spoilt_1 ki_0 ?_
  refine lv_bipush (v := 60) hx hb dX0_spoilt_2 kb_60 ?_
  obtain ⟨r2, e1, h⟩ := obd h
  refine rc_S0 (rest := []) (st1 := [.int r2]) hF (w_X0_in hSk a1 0 60 e1) (va_cwS 3 hts (lw_S q508 q509 q100 q510) rfl rfl rfl he_X0_in ⟨Nat.le_of_ble_eq_true rfl, Nat.le_of_ble_eq_true rfl⟩) hW hR hS rfl hl.1 rfl (Nat.le_of_ble_eq_true rfl) rfl dX0_spoilt_4 ⟨rfl, rfl⟩ ⟨Nat.zero_le _, Nat.zero_le _⟩ (fun H locs hR hS => ?_)
  refine lv_if_ne (tgt := 12) hx hb dX0_spoilt_7 (by decide) (fun c3 => ?_) (fun c3 => ?_)
  · replace h := ifn h c3
    refine lv_aload_n hx hb dX0_spoilt_12 rfl (lv_at hl 0 rfl) ?_
    refine r_getr hx hb hts cfX0 hown hK hR (sk_64 hSk) 3 (by decide) rfl (sr_64_3 hSk) (hts _ q452) (fun _ h => h) dX0_spoilt_13 ?_
    refine lv_aload_n hx hb dX0_spoilt_16 rfl (lv_at hl 0 rfl) ?_
    refine r_getr hx hb hts cfX0 hown hK hR (sk_64 hSk) 0 (by decide) rfl (sr_64_0 hSk) (hts _ q449) (fun _ h => h) dX0_spoilt_17 ?_
    obtain ⟨g5, e4, h⟩ := obd h
    refine rc_V0 (rest := []) (st1 := []) hF (w_X1_become hSk 92 65 (isMl_92) (isMl_65) e4) (cwV 1 hts (lw_V q516 q517 q518 q101 q519) rfl rfl rfl hd_X1_become ⟨Nat.le_of_ble_eq_true rfl, Nat.le_of_ble_eq_true rfl⟩) cfX1 (sk_92 hSk) hK hW hR hS rfl hl.1 rfl (Nat.le_of_ble_eq_true rfl) rfl dX0_spoilt_20 ⟨rfl, rfl⟩ ⟨Nat.zero_le _, Nat.zero_le _⟩ (fun H locs hR hS => ?_)
    refine lv_aload_n hx hb dX0_spoilt_23 rfl (lv_at hl 0 rfl) ?_
    refine lv_iload_n hx hb dX0_spoilt_24 rfl (lv_at hl 1 rfl) ?_
    obtain ⟨r7, g8, e6, h⟩ := obd2 h
    refine rc_V0 (rest := []) (st1 := [.int r7]) hF (w_X0_spoiltTried hSk a1 e6) (cwV 1 hts (lw_V q927 q929 qs23 q100 q930) rfl rfl rfl hd_X0_spoiltTried ⟨Nat.le_of_ble_eq_true rfl, Nat.le_of_ble_eq_true rfl⟩) cfX0 (sk_64 hSk) hK hW hR hS rfl hl.1 rfl (Nat.le_of_ble_eq_true rfl) rfl dX0_spoilt_25 ⟨rfl, rfl⟩ ⟨Nat.zero_le _, Nat.zero_le _⟩ (fun H locs hR hS => ?_)
    obtain ⟨rfl, rfl⟩ := s2i h
    exact r_iret0 hx hb hr hlk hR hS (Nat.zero_le _) (Nat.zero_le _) dX0_spoilt_28
  · replace h := ifp h c3
    refine lv_iconst (v := (-1)) hx hb dX0_spoilt_10 ki_m1 ?_
    obtain ⟨rfl, rfl⟩ := s2i h
    exact r_iret0 hx hb hr hlk hR hS (Nat.zero_le _) (Nat.zero_le _) dX0_spoilt_11
def rm_X0_dippedThrough : Room := { frames := 8, cells := 0, slots := 0, locals := 326 }
theorem hd_X0_dippedThrough : yX0_dippedThrough.cls = "IntentVats" ∧ yX0_dippedThrough.cls ≠ "java/lang/invoke/MethodHandle" ∧ yX0_dippedThrough.cls ≠ "java/lang/invoke/VarHandle" ∧ (parseMethodDescriptor yX0_dippedThrough.desc).map (fun d => d.parameters.length) = some 3 := by decide +kernel
theorem he_X0_dippedThrough : yX0_dippedThrough.cls ≠ "java/lang/invoke/MethodHandle" ∧ yX0_dippedThrough.cls ≠ "java/lang/invoke/VarHandle" ∧ (parseMethodDescriptor yX0_dippedThrough.desc).map (fun d => d.parameters.length) = some 3 := hd_X0_dippedThrough.2

set_option maxHeartbeats 4000000 in
set_option maxRecDepth 100000 in
theorem w_X0_dippedThrough {l : Launch} {G : Gx} {sh : SM} {g : GM} {gl : LM} {gr : RM} {n : Nat} (hSk : Sk sh gr) (a1 : Int32) (a2 : Int32) (a3 : Int32)  {r : Int32} {go : GM} (h : f_X0_dippedThrough g a1 a2 a3 = some (r, go)) : MetI l G yX0_dippedThrough (ws_ yX0_dippedThrough cX0_dippedThrough 5 (Option.some Jvm.ClassFile.FieldType.int)) rm_X0_dippedThrough [.ref (adr G 64), .int a1, .int a2, .int a3] sh g gl gr n (some (.int r)) sh go gl gr n := by
  refine MetI.of (by decide) (Nat.le_of_ble_eq_true rfl) ?_
  intro p e s m below meth c ls hx hb hr hml hown hts hlk hnm hW hK hR hS hl
  have hown : s.vm.findClass RX0 = some m.cls := hown
  have hF : CallFix p m c cX0_dippedThrough 5 s ([.ref (adr G 64), .int a1, .int a2, .int a3] : List Value).toArray lw_all RX0 := ⟨hx, hb, hml, hown, hts⟩
  have hl : lv_has ls 5 [(0, .ref (adr G 64)), (1, .int a1), (2, .int a2), (3, .int a3)] := hl
  unfold f_X0_dippedThrough at h
  refine lv_aload_n hx hb dX0_dippedThrough_0 rfl (lv_at hl 0 rfl) ?_
  refine r_getr hx hb hts cfX0 hown hK hR (sk_64 hSk) 3 (by decide) rfl (sr_64_3 hSk) (hts _ q452) (fun _ h => h) dX0_dippedThrough_1 ?_
  refine lv_aload_n hx hb dX0_dippedThrough_4 rfl (lv_at hl 0 rfl) ?_
  refine r_getr hx hb hts cfX0 hown hK hR (sk_64 hSk) 0 (by decide) rfl (sr_64_0 hSk) (hts _ q449) (fun _ h => h) dX0_dippedThrough_5 ?_
  obtain ⟨g2, e1, h⟩ := obd h
  refine rc_V0 (rest := []) (st1 := []) hF (w_X1_become hSk 92 65 (isMl_92) (isMl_65) e1) (cwV 1 hts (lw_V q516 q517 q518 q101 q519) rfl rfl rfl hd_X1_become ⟨Nat.le_of_ble_eq_true rfl, Nat.le_of_ble_eq_true rfl⟩) cfX1 (sk_92 hSk) hK hW hR hS rfl hl.1 rfl (Nat.le_of_ble_eq_true rfl) rfl dX0_dippedThrough_8 ⟨rfl, rfl⟩ ⟨Nat.zero_le _, Nat.zero_le _⟩ (fun H locs hR hS => ?_)
  refine lv_iload_n hx hb dX0_dippedThrough_11 rfl (lv_at hl 3 rfl) ?_
  refine lv_iconst (v := 1) hx hb dX0_dippedThrough_12 ki_1 ?_
  refine lv_isub hx hb dX0_dippedThrough_13 ?_
  refine lv_istore (lv' := [(4, .int (a3 - 1)), (0, .ref (adr G 64)), (1, .int a1), (2, .int a2), (3, .int a3)]) hx hb dX0_dippedThrough_14 hl (by decide) rfl (fun ls hl => ?_)
  have J16 : ∀ (k16 : Nat) (x3 : Int32) (g4 : GM) (H : Heap) (locs : List Loc) (ls : Array Slot), Rep G sh g4 gl gr n H → va_S (own G) s.heap H locs → lv_has ls 5 [(0, .ref (adr G 64)), (1, .int a1), (2, .int a2), (4, .int x3)] → l_X0_dippedThrough_16 a1 a2 k16 x3 g4 = some (r, go) → W p l e rm_X0_dippedThrough s m ([.ref (adr G 64), .int a1, .int a2, .int a3] : List Value).toArray below meth c H locs 0 0 (MQ below (QR G (some (.int r)) sh go gl gr n) ([.ref (adr G 64), .int a1, .int a2, .int a3] : List Value).toArray s rm_X0_dippedThrough.cells rm_X0_dippedThrough.slots (own G)) (F0 m 16 ls []) := by
    intro k16
    induction k16 with
    | zero => intro _ _ _ _ _ _ _ _; exact nofun
    | succ k16 ih16 =>
      intro x3 g4 H locs ls hR hS hl h
      unfold l_X0_dippedThrough_16 b_X0_dippedThrough_16 at h
      refine lv_iload hx hb dX0_dippedThrough_16 (lv_at hl 3 rfl) ?_
      refine lv_if_lt (tgt := 45) hx hb dX0_dippedThrough_18 (by decide) (fun c5 => ?_) (fun c5 => ?_)
      · replace h := ifp h c5
        refine lv_aload_n hx hb dX0_dippedThrough_45 rfl (lv_at hl 0 rfl) ?_
        refine r_getr hx hb hts cfX0 hown hK hR (sk_64 hSk) 3 (by decide) rfl (sr_64_3 hSk) (hts _ q452) (fun _ h => h) dX0_dippedThrough_46 ?_
        refine r_getrN hx hb hts cfX1 hown hK hR (sk_92 hSk) 9 (by decide) rfl (sr_92_9 hSk) (hW.nestF q183) (fun _ h => h) dX0_dippedThrough_49 ?_
        refine lv_iload_n hx hb dX0_dippedThrough_52 rfl (lv_at hl 1 rfl) ?_
        obtain ⟨v7, e6, h⟩ := obd h
        refine r_ldi hx hb hK hR (sk_98 hSk) e6 dX0_dippedThrough_53 ?_
        obtain ⟨rfl, rfl⟩ := s2i h
        exact r_iret0 hx hb hr hlk hR hS (Nat.zero_le _) (Nat.zero_le _) dX0_dippedThrough_54
      · replace h := ifn h c5
        refine lv_aload_n hx hb dX0_dippedThrough_21 rfl (lv_at hl 0 rfl) ?_
        refine lv_aload_n hx hb dX0_dippedThrough_22 rfl (lv_at hl 0 rfl) ?_
        refine r_getr hx hb hts cfX0 hown hK hR (sk_64 hSk) 3 (by decide) rfl (sr_64_3 hSk) (hts _ q452) (fun _ h => h) dX0_dippedThrough_23 ?_
        refine lv_iload_n hx hb dX0_dippedThrough_26 rfl (lv_at hl 1 rfl) ?_
        refine lv_iload_n hx hb dX0_dippedThrough_27 rfl (lv_at hl 2 rfl) ?_
        refine lv_iconst (v := 3) hx hb dX0_dippedThrough_28 ki_3 ?_
        refine lv_iload hx hb dX0_dippedThrough_29 (lv_at hl 3 rfl) ?_
        refine lv_imul hx hb dX0_dippedThrough_31 ?_
        refine lv_ishr hx hb dX0_dippedThrough_32 ?_
        refine lv_bipush (v := 7) hx hb dX0_dippedThrough_33 kb_7 ?_
        refine lv_iand hx hb dX0_dippedThrough_35 ?_
        obtain ⟨g9, e8, h⟩ := obd h
        refine rc_V0 (rest := []) (st1 := []) hF (w_X0_dips hSk 92 a1 ((a2 >>> ((3 * x3) &&& 31)) &&& 7) (isMl_92) e8) (cwV 3 hts (lw_V q825 q827 qs17 q100 q828) rfl rfl rfl hd_X0_dips ⟨Nat.le_of_ble_eq_true rfl, Nat.le_of_ble_eq_true rfl⟩) cfX0 (sk_64 hSk) hK hW hR hS rfl hl.1 rfl (Nat.le_of_ble_eq_true rfl) rfl dX0_dippedThrough_36 ⟨rfl, rfl⟩ ⟨Nat.zero_le _, Nat.zero_le _⟩ (fun H locs hR hS => ?_)
        refine lv_iinc (v := x3 + (-1)) (lv' := [(4, .int (x3 + (-1))), (0, .ref (adr G 64)), (1, .int a1), (2, .int a2)]) hx hb dX0_dippedThrough_39 hl (k := 3) rfl rfl (by decide) rfl (fun ls hl => ?_)
        refine lv_goto (tgt := 16) hx hb dX0_dippedThrough_42 (by decide) ?_
        exact ih16 (x3 + (-1)) g9 _ _ _ hR hS (lv_sub hl [1, 2, 3, 0] rfl) h
  exact J16 fuel (a3 - 1) g2 _ _ _ hR hS (lv_sub hl [1, 2, 3, 0] rfl) h
def rm_X0_through : Room := { frames := 9, cells := 0, slots := 0, locals := 350 }
theorem hd_X0_through : yX0_through.cls = "IntentVats" ∧ yX0_through.cls ≠ "java/lang/invoke/MethodHandle" ∧ yX0_through.cls ≠ "java/lang/invoke/VarHandle" ∧ (parseMethodDescriptor yX0_through.desc).map (fun d => d.parameters.length) = some 2 := by decide +kernel
theorem he_X0_through : yX0_through.cls ≠ "java/lang/invoke/MethodHandle" ∧ yX0_through.cls ≠ "java/lang/invoke/VarHandle" ∧ (parseMethodDescriptor yX0_through.desc).map (fun d => d.parameters.length) = some 2 := hd_X0_through.2

set_option maxHeartbeats 4000000 in
set_option maxRecDepth 100000 in
theorem w_X0_through {l : Launch} {G : Gx} {sh : SM} {g : GM} {gl : LM} {gr : RM} {n : Nat} (hSk : Sk sh gr) (a1 : Int32) (a2 : Int32)  {r : Int32} {go : GM} (h : f_X0_through g a1 a2 = some (r, go)) : MetI l G yX0_through (ws_ yX0_through cX0_through 5 (Option.some Jvm.ClassFile.FieldType.int)) rm_X0_through [.ref (adr G 64), .int a1, .int a2] sh g gl gr n (some (.int r)) sh go gl gr n := by
  refine MetI.of (by decide) (Nat.le_of_ble_eq_true rfl) ?_
  intro p e s m below meth c ls hx hb hr hml hown hts hlk hnm hW hK hR hS hl
  have hown : s.vm.findClass RX0 = some m.cls := hown
  have hF : CallFix p m c cX0_through 5 s ([.ref (adr G 64), .int a1, .int a2] : List Value).toArray lw_all RX0 := ⟨hx, hb, hml, hown, hts⟩
  have hl : lv_has ls 5 [(0, .ref (adr G 64)), (1, .int a1), (2, .int a2)] := hl
  unfold f_X0_through at h
  refine lv_aload_n hx hb dX0_through_0 rfl (lv_at hl 0 rfl) ?_
  refine lv_iload_n hx hb dX0_through_1 rfl (lv_at hl 1 rfl) ?_
  obtain ⟨r2, e1, h⟩ := obd h
  refine rc_V0 (rest := []) (st1 := [.int r2]) hF (w_X0_isCloth hSk a1 e1) (cwV 1 hts (lw_V q715 q717 qs15 q100 q718) rfl rfl rfl hd_X0_isCloth ⟨Nat.le_of_ble_eq_true rfl, Nat.le_of_ble_eq_true rfl⟩) cfX0 (sk_64 hSk) hK hW hR hS rfl hl.1 rfl (Nat.le_of_ble_eq_true rfl) rfl dX0_through_2 ⟨rfl, rfl⟩ ⟨Nat.zero_le _, Nat.zero_le _⟩ (fun H locs hR hS => ?_)
  have J15 : ∀  (H : Heap) (locs : List Loc) (ls : Array Slot), Rep G sh g gl gr n H → va_S (own G) s.heap H locs → lv_has ls 5 [] → j_X0_through_15 g  = some (r, go) → W p l e rm_X0_through s m ([.ref (adr G 64), .int a1, .int a2] : List Value).toArray below meth c H locs 0 0 (MQ below (QR G (some (.int r)) sh go gl gr n) ([.ref (adr G 64), .int a1, .int a2] : List Value).toArray s rm_X0_through.cells rm_X0_through.slots (own G)) (F0 m 15 ls []) := by
    intro  H locs ls hR hS hl h
    unfold j_X0_through_15 at h
    refine lv_iconst (v := (-1)) hx hb dX0_through_15 ki_m1 ?_
    obtain ⟨rfl, rfl⟩ := s2i h
    exact r_iret0 hx hb hr hlk hR hS (Nat.zero_le _) (Nat.zero_le _) dX0_through_16
  refine lv_if_eq (tgt := 15) hx hb dX0_through_5 (by decide) (fun c3 => ?_) (fun c3 => ?_)
  · replace h := ifp h c3
    exact J15  _ _ _ hR hS (lv_sub hl [] rfl) h
  · replace h := ifn h c3
    refine lv_iload_n hx hb dX0_through_8 rfl (lv_at hl 2 rfl) ?_
    obtain ⟨r5, e4, h⟩ := obd h
    refine rc_S0 (rest := []) (st1 := [.int r5]) hF (w_X0_isPurpose hSk a2 e4) (va_cwS 1 hts (lw_S q813 q814 q100 q815) rfl rfl rfl he_X0_isPurpose ⟨Nat.le_of_ble_eq_true rfl, Nat.le_of_ble_eq_true rfl⟩) hW hR hS rfl hl.1 rfl (Nat.le_of_ble_eq_true rfl) rfl dX0_through_9 ⟨rfl, rfl⟩ ⟨Nat.zero_le _, Nat.zero_le _⟩ (fun H locs hR hS => ?_)
    refine lv_if_ne (tgt := 17) hx hb dX0_through_12 (by decide) (fun c6 => ?_) (fun c6 => ?_)
    · replace h := ifn h c6
      refine lv_iconst (v := 0) hx hb dX0_through_17 ki_0 ?_
      refine lv_istore_n (lv' := [(3, .int 0), (0, .ref (adr G 64)), (1, .int a1), (2, .int a2)]) hx hb dX0_through_18 rfl hl (by decide) rfl (fun ls hl => ?_)
      have J19 : ∀ (k19 : Nat) (x7 : Int32) (g8 : GM) (H : Heap) (locs : List Loc) (ls : Array Slot), Rep G sh g8 gl gr n H → va_S (own G) s.heap H locs → lv_has ls 5 [(0, .ref (adr G 64)), (1, .int a1), (2, .int a2), (3, .int x7)] → l_X0_through_19 a1 a2 k19 x7 g8 = some (r, go) → W p l e rm_X0_through s m ([.ref (adr G 64), .int a1, .int a2] : List Value).toArray below meth c H locs 0 0 (MQ below (QR G (some (.int r)) sh go gl gr n) ([.ref (adr G 64), .int a1, .int a2] : List Value).toArray s rm_X0_through.cells rm_X0_through.slots (own G)) (F0 m 19 ls []) := by
        intro k19
        induction k19 with
        | zero => intro _ _ _ _ _ _ _ _; exact nofun
        | succ k19 ih19 =>
          intro x7 g8 H locs ls hR hS hl h
          unfold l_X0_through_19 b_X0_through_19 at h
          refine lv_iload_n hx hb dX0_through_19 rfl (lv_at hl 3 rfl) ?_
          refine lv_iconst (v := 3) hx hb dX0_through_20 ki_3 ?_
          refine lv_icmp_gt (tgt := 70) hx hb dX0_through_21 (by decide) (fun c9 => ?_) (fun c9 => ?_)
          · replace h := ifp h c9
            refine lv_bipush (v := (-3)) hx hb dX0_through_70 kb_m3 ?_
            obtain ⟨rfl, rfl⟩ := s2i h
            exact r_iret0 hx hb hr hlk hR hS (Nat.zero_le _) (Nat.zero_le _) dX0_through_72
          · replace h := ifn h c9
            refine lv_iconst (v := 0) hx hb dX0_through_24 ki_0 ?_
            refine lv_istore (lv' := [(4, .int 0), (0, .ref (adr G 64)), (1, .int a1), (2, .int a2), (3, .int x7)]) hx hb dX0_through_25 hl (by decide) rfl (fun ls hl => ?_)
            have J27 : ∀ (k27 : Nat) (x10 : Int32) (g11 : GM) (H : Heap) (locs : List Loc) (ls : Array Slot), Rep G sh g11 gl gr n H → va_S (own G) s.heap H locs → lv_has ls 5 [(0, .ref (adr G 64)), (1, .int a1), (2, .int a2), (3, .int x7), (4, .int x10)] → l_X0_through_27 a1 a2 x7 (l_X0_through_19 a1 a2 k19) k27 x10 g11 = some (r, go) → W p l e rm_X0_through s m ([.ref (adr G 64), .int a1, .int a2] : List Value).toArray below meth c H locs 0 0 (MQ below (QR G (some (.int r)) sh go gl gr n) ([.ref (adr G 64), .int a1, .int a2] : List Value).toArray s rm_X0_through.cells rm_X0_through.slots (own G)) (F0 m 27 ls []) := by
              intro k27
              induction k27 with
              | zero => intro _ _ _ _ _ _ _ _; exact nofun
              | succ k27 ih27 =>
                intro x10 g11 H locs ls hR hS hl h
                unfold l_X0_through_27 b_X0_through_27 at h
                refine lv_iload hx hb dX0_through_27 (lv_at hl 4 rfl) ?_
                refine lv_iconst (v := 1) hx hb dX0_through_29 ki_1 ?_
                refine lv_iconst (v := 3) hx hb dX0_through_30 ki_3 ?_
                refine lv_iload_n hx hb dX0_through_31 rfl (lv_at hl 3 rfl) ?_
                refine lv_imul hx hb dX0_through_32 ?_
                refine lv_ishl hx hb dX0_through_33 ?_
                refine lv_icmp_ge (tgt := 64) hx hb dX0_through_34 (by decide) (fun c12 => ?_) (fun c12 => ?_)
                · replace h := ifp h c12
                  refine lv_iinc (v := x7 + 1) (lv' := [(3, .int (x7 + 1)), (0, .ref (adr G 64)), (1, .int a1), (2, .int a2), (4, .int x10)]) hx hb dX0_through_64 hl (k := 3) rfl rfl (by decide) rfl (fun ls hl => ?_)
                  refine lv_goto (tgt := 19) hx hb dX0_through_67 (by decide) ?_
                  exact ih19 (x7 + 1) g11 _ _ _ hR hS (lv_sub hl [1, 2, 3, 0] rfl) h
                · replace h := ifn h c12
                  refine lv_aload_n hx hb dX0_through_37 rfl (lv_at hl 0 rfl) ?_
                  refine lv_iload_n hx hb dX0_through_38 rfl (lv_at hl 1 rfl) ?_
                  refine lv_iload hx hb dX0_through_39 (lv_at hl 4 rfl) ?_
                  refine lv_iload_n hx hb dX0_through_41 rfl (lv_at hl 3 rfl) ?_
                  obtain ⟨r14, g15, e13, h⟩ := obd2 h
                  refine rc_V0 (rest := []) (st1 := [.int r14]) hF (w_X0_dippedThrough hSk a1 x10 x7 e13) (cwV 3 hts (lw_V q935 q937 qs24 q100 q938) rfl rfl rfl hd_X0_dippedThrough ⟨Nat.le_of_ble_eq_true rfl, Nat.le_of_ble_eq_true rfl⟩) cfX0 (sk_64 hSk) hK hW hR hS rfl hl.1 rfl (Nat.le_of_ble_eq_true rfl) rfl dX0_through_42 ⟨rfl, rfl⟩ ⟨Nat.zero_le _, Nat.zero_le _⟩ (fun H locs hR hS => ?_)
                  refine lv_iload_n hx hb dX0_through_45 rfl (lv_at hl 2 rfl) ?_
                  refine lv_icmp_ne (tgt := 58) hx hb dX0_through_46 (by decide) (fun c16 => ?_) (fun c16 => ?_)
                  · replace h := ifn h c16
                    refine lv_iinc (v := x10 + 1) (lv' := [(4, .int (x10 + 1)), (0, .ref (adr G 64)), (1, .int a1), (2, .int a2), (3, .int x7)]) hx hb dX0_through_58 hl (k := 4) rfl rfl (by decide) rfl (fun ls hl => ?_)
                    refine lv_goto (tgt := 27) hx hb dX0_through_61 (by decide) ?_
                    exact ih27 (x10 + 1) g15 _ _ _ hR hS (lv_sub hl [1, 2, 3, 4, 0] rfl) h
                  · replace h := ifp h c16
                    refine lv_iconst (v := 1) hx hb dX0_through_49 ki_1 ?_
                    refine lv_iconst (v := 3) hx hb dX0_through_50 ki_3 ?_
                    refine lv_iload_n hx hb dX0_through_51 rfl (lv_at hl 3 rfl) ?_
                    refine lv_imul hx hb dX0_through_52 ?_
                    refine lv_ishl hx hb dX0_through_53 ?_
                    refine lv_iload hx hb dX0_through_54 (lv_at hl 4 rfl) ?_
                    refine lv_iadd hx hb dX0_through_56 ?_
                    obtain ⟨rfl, rfl⟩ := s2i h
                    exact r_iret0 hx hb hr hlk hR hS (Nat.zero_le _) (Nat.zero_le _) dX0_through_57
            exact J27 fuel 0 g8 _ _ _ hR hS (lv_sub hl [1, 2, 3, 4, 0] rfl) h
      exact J19 fuel 0 g _ _ _ hR hS (lv_sub hl [1, 2, 3, 0] rfl) h
    · replace h := ifp h c6
      exact J15  _ _ _ hR hS (lv_sub hl [] rfl) h
def rm_X0_depthsTried : Room := { frames := 10, cells := 0, slots := 0, locals := 372 }
theorem hd_X0_depthsTried : yX0_depthsTried.cls = "IntentVats" ∧ yX0_depthsTried.cls ≠ "java/lang/invoke/MethodHandle" ∧ yX0_depthsTried.cls ≠ "java/lang/invoke/VarHandle" ∧ (parseMethodDescriptor yX0_depthsTried.desc).map (fun d => d.parameters.length) = some 1 := by decide +kernel
theorem he_X0_depthsTried : yX0_depthsTried.cls ≠ "java/lang/invoke/MethodHandle" ∧ yX0_depthsTried.cls ≠ "java/lang/invoke/VarHandle" ∧ (parseMethodDescriptor yX0_depthsTried.desc).map (fun d => d.parameters.length) = some 1 := hd_X0_depthsTried.2

set_option maxHeartbeats 4000000 in
set_option maxRecDepth 100000 in
theorem w_X0_depthsTried {l : Launch} {G : Gx} {sh : SM} {g : GM} {gl : LM} {gr : RM} {n : Nat} (hSk : Sk sh gr) (a1 : Int32)  {r : Int32} {go : GM} (h : f_X0_depthsTried g a1 = some (r, go)) : MetI l G yX0_depthsTried (ws_ yX0_depthsTried cX0_depthsTried 2 (Option.some Jvm.ClassFile.FieldType.int)) rm_X0_depthsTried [.ref (adr G 64), .int a1] sh g gl gr n (some (.int r)) sh go gl gr n := by
  refine MetI.of (by decide) (Nat.le_of_ble_eq_true rfl) ?_
  intro p e s m below meth c ls hx hb hr hml hown hts hlk hnm hW hK hR hS hl
  have hown : s.vm.findClass RX0 = some m.cls := hown
  have hF : CallFix p m c cX0_depthsTried 2 s ([.ref (adr G 64), .int a1] : List Value).toArray lw_all RX0 := ⟨hx, hb, hml, hown, hts⟩
  have hl : lv_has ls 2 [(0, .ref (adr G 64)), (1, .int a1)] := hl
  unfold f_X0_depthsTried at h
  refine lv_aload_n hx hb dX0_depthsTried_0 rfl (lv_at hl 0 rfl) ?_
  refine lv_aload_n hx hb dX0_depthsTried_1 rfl (lv_at hl 0 rfl) ?_
  refine r_getr hx hb hts cfX0 hown hK hR (sk_64 hSk) 3 (by decide) rfl (sr_64_3 hSk) (hts _ q452) (fun _ h => h) dX0_depthsTried_2 ?_
  refine lv_iload_n hx hb dX0_depthsTried_5 rfl (lv_at hl 1 rfl) ?_
  obtain ⟨g2, e1, h⟩ := obd h
  refine rc_V0 (rest := []) (st1 := []) hF (w_X0_daysGo hSk 92 a1 (isMl_92) e1) (cwV 2 hts (lw_V q845 q847 qs18 q100 q848) rfl rfl rfl hd_X0_daysGo ⟨Nat.le_of_ble_eq_true rfl, Nat.le_of_ble_eq_true rfl⟩) cfX0 (sk_64 hSk) hK hW hR hS rfl hl.1 rfl (Nat.le_of_ble_eq_true rfl) rfl dX0_depthsTried_6 ⟨rfl, rfl⟩ ⟨Nat.zero_le _, Nat.zero_le _⟩ (fun H locs hR hS => ?_)
  refine lv_aload_n hx hb dX0_depthsTried_9 rfl (lv_at hl 0 rfl) ?_
  refine r_getr hx hb hts cfX0 hown hK hR (sk_64 hSk) 3 (by decide) rfl (sr_64_3 hSk) (hts _ q452) (fun _ h => h) dX0_depthsTried_10 ?_
  obtain ⟨r4, e3, h⟩ := obd h
  refine rc_V0 (rest := []) (st1 := [.int r4]) hF (w_X1_depths hSk 92 (isMl_92) e3) (cwV 0 hts (lw_V q857 q858 q859 q101 q860) rfl rfl rfl hd_X1_depths ⟨Nat.le_of_ble_eq_true rfl, Nat.le_of_ble_eq_true rfl⟩) cfX1 (sk_92 hSk) hK hW hR hS rfl hl.1 rfl (Nat.le_of_ble_eq_true rfl) rfl dX0_depthsTried_13 ⟨rfl, rfl⟩ ⟨Nat.zero_le _, Nat.zero_le _⟩ (fun H locs hR hS => ?_)
  obtain ⟨rfl, rfl⟩ := s2i h
  exact r_iret0 hx hb hr hlk hR hS (Nat.zero_le _) (Nat.zero_le _) dX0_depthsTried_16
def rm_X0_vatFor : Room := { frames := 11, cells := 0, slots := 0, locals := 393 }
theorem hd_X0_vatFor : yX0_vatFor.cls = "IntentVats" ∧ yX0_vatFor.cls ≠ "java/lang/invoke/MethodHandle" ∧ yX0_vatFor.cls ≠ "java/lang/invoke/VarHandle" ∧ (parseMethodDescriptor yX0_vatFor.desc).map (fun d => d.parameters.length) = some 2 := by decide +kernel
theorem he_X0_vatFor : yX0_vatFor.cls ≠ "java/lang/invoke/MethodHandle" ∧ yX0_vatFor.cls ≠ "java/lang/invoke/VarHandle" ∧ (parseMethodDescriptor yX0_vatFor.desc).map (fun d => d.parameters.length) = some 2 := hd_X0_vatFor.2

set_option maxHeartbeats 4000000 in
set_option maxRecDepth 100000 in
theorem w_X0_vatFor {l : Launch} {G : Gx} {sh : SM} {g : GM} {gl : LM} {gr : RM} {n : Nat} (hSk : Sk sh gr) (a1 : Int32) (a2 : Int32)  {r : Int32} {go : GM} (h : f_X0_vatFor g a1 a2 = some (r, go)) : MetI l G yX0_vatFor (ws_ yX0_vatFor cX0_vatFor 7 (Option.some Jvm.ClassFile.FieldType.int)) rm_X0_vatFor [.ref (adr G 64), .int a1, .int a2] sh g gl gr n (some (.int r)) sh go gl gr n := by
  refine MetI.of (by decide) (Nat.le_of_ble_eq_true rfl) ?_
  intro p e s m below meth c ls hx hb hr hml hown hts hlk hnm hW hK hR hS hl
  have hown : s.vm.findClass RX0 = some m.cls := hown
  have hF : CallFix p m c cX0_vatFor 7 s ([.ref (adr G 64), .int a1, .int a2] : List Value).toArray lw_all RX0 := ⟨hx, hb, hml, hown, hts⟩
  have hl : lv_has ls 7 [(0, .ref (adr G 64)), (1, .int a1), (2, .int a2)] := hl
  unfold f_X0_vatFor at h
  refine lv_iload_n hx hb dX0_vatFor_0 rfl (lv_at hl 1 rfl) ?_
  obtain ⟨r2, e1, h⟩ := obd h
  refine rc_S0 (rest := []) (st1 := [.int r2]) hF (w_X0_isRest hSk a1 e1) (va_cwS 1 hts (lw_S q696 q697 q100 q698) rfl rfl rfl he_X0_isRest ⟨Nat.le_of_ble_eq_true rfl, Nat.le_of_ble_eq_true rfl⟩) hW hR hS rfl hl.1 rfl (Nat.le_of_ble_eq_true rfl) rfl dX0_vatFor_1 ⟨rfl, rfl⟩ ⟨Nat.zero_le _, Nat.zero_le _⟩ (fun H locs hR hS => ?_)
  have J17 : ∀  (H : Heap) (locs : List Loc) (ls : Array Slot), Rep G sh g gl gr n H → va_S (own G) s.heap H locs → lv_has ls 7 [] → j_X0_vatFor_17 g  = some (r, go) → W p l e rm_X0_vatFor s m ([.ref (adr G 64), .int a1, .int a2] : List Value).toArray below meth c H locs 0 0 (MQ below (QR G (some (.int r)) sh go gl gr n) ([.ref (adr G 64), .int a1, .int a2] : List Value).toArray s rm_X0_vatFor.cells rm_X0_vatFor.slots (own G)) (F0 m 17 ls []) := by
    intro  H locs ls hR hS hl h
    unfold j_X0_vatFor_17 at h
    refine lv_iconst (v := (-1)) hx hb dX0_vatFor_17 ki_m1 ?_
    obtain ⟨rfl, rfl⟩ := s2i h
    exact r_iret0 hx hb hr hlk hR hS (Nat.zero_le _) (Nat.zero_le _) dX0_vatFor_18
  refine lv_if_eq (tgt := 17) hx hb dX0_vatFor_4 (by decide) (fun c3 => ?_) (fun c3 => ?_)
  · replace h := ifp h c3
    exact J17  _ _ _ hR hS (lv_sub hl [] rfl) h
  · replace h := ifn h c3
    refine lv_iload_n hx hb dX0_vatFor_7 rfl (lv_at hl 2 rfl) ?_
    refine lv_iconst (v := 1) hx hb dX0_vatFor_8 ki_1 ?_
    refine lv_bipush (v := 40) hx hb dX0_vatFor_9 kb_40 ?_
    obtain ⟨r5, e4, h⟩ := obd h
    refine rc_S0 (rest := []) (st1 := [.int r5]) hF (w_X0_in hSk a2 1 40 e4) (va_cwS 3 hts (lw_S q508 q509 q100 q510) rfl rfl rfl he_X0_in ⟨Nat.le_of_ble_eq_true rfl, Nat.le_of_ble_eq_true rfl⟩) hW hR hS rfl hl.1 rfl (Nat.le_of_ble_eq_true rfl) rfl dX0_vatFor_11 ⟨rfl, rfl⟩ ⟨Nat.zero_le _, Nat.zero_le _⟩ (fun H locs hR hS => ?_)
    refine lv_if_ne (tgt := 19) hx hb dX0_vatFor_14 (by decide) (fun c6 => ?_) (fun c6 => ?_)
    · replace h := ifn h c6
      refine lv_iconst (v := 0) hx hb dX0_vatFor_19 ki_0 ?_
      refine lv_istore_n (lv' := [(3, .int 0), (0, .ref (adr G 64)), (1, .int a1), (2, .int a2)]) hx hb dX0_vatFor_20 rfl hl (by decide) rfl (fun ls hl => ?_)
      refine lv_iconst (v := (-1)) hx hb dX0_vatFor_21 ki_m1 ?_
      refine lv_istore (lv' := [(4, .int (-1)), (3, .int 0), (0, .ref (adr G 64)), (1, .int a1), (2, .int a2)]) hx hb dX0_vatFor_22 hl (by decide) rfl (fun ls hl => ?_)
      refine lv_iconst (v := 0) hx hb dX0_vatFor_24 ki_0 ?_
      refine lv_istore (lv' := [(5, .int 0), (4, .int (-1)), (3, .int 0), (0, .ref (adr G 64)), (1, .int a1), (2, .int a2)]) hx hb dX0_vatFor_25 hl (by decide) rfl (fun ls hl => ?_)
      have J27 : ∀ (k27 : Nat) (x7 : Int32) (x8 : Int32) (x9 : Int32) (g10 : GM) (H : Heap) (locs : List Loc) (ls : Array Slot), Rep G sh g10 gl gr n H → va_S (own G) s.heap H locs → lv_has ls 7 [(0, .ref (adr G 64)), (1, .int a1), (2, .int a2), (3, .int x7), (4, .int x8), (5, .int x9)] → l_X0_vatFor_27 a1 a2 k27 x7 x8 x9 g10 = some (r, go) → W p l e rm_X0_vatFor s m ([.ref (adr G 64), .int a1, .int a2] : List Value).toArray below meth c H locs 0 0 (MQ below (QR G (some (.int r)) sh go gl gr n) ([.ref (adr G 64), .int a1, .int a2] : List Value).toArray s rm_X0_vatFor.cells rm_X0_vatFor.slots (own G)) (F0 m 27 ls []) := by
        intro k27
        induction k27 with
        | zero => intro _ _ _ _ _ _ _ _ _ _; exact nofun
        | succ k27 ih27 =>
          intro x7 x8 x9 g10 H locs ls hR hS hl h
          unfold l_X0_vatFor_27 b_X0_vatFor_27 at h
          refine lv_iload hx hb dX0_vatFor_27 (lv_at hl 5 rfl) ?_
          refine lv_bipush (v := 8) hx hb dX0_vatFor_29 kb_8 ?_
          refine lv_icmp_ge (tgt := 92) hx hb dX0_vatFor_31 (by decide) (fun c11 => ?_) (fun c11 => ?_)
          · replace h := ifp h c11
            refine lv_iload_n hx hb dX0_vatFor_92 rfl (lv_at hl 3 rfl) ?_
            obtain ⟨rfl, rfl⟩ := s2i h
            exact r_iret0 hx hb hr hlk hR hS (Nat.zero_le _) (Nat.zero_le _) dX0_vatFor_93
          · replace h := ifn h c11
            refine lv_aload_n hx hb dX0_vatFor_34 rfl (lv_at hl 0 rfl) ?_
            refine r_getr hx hb hts cfX0 hown hK hR (sk_64 hSk) 3 (by decide) rfl (sr_64_3 hSk) (hts _ q452) (fun _ h => h) dX0_vatFor_35 ?_
            refine lv_aload_n hx hb dX0_vatFor_38 rfl (lv_at hl 0 rfl) ?_
            refine r_getr hx hb hts cfX0 hown hK hR (sk_64 hSk) 0 (by decide) rfl (sr_64_0 hSk) (hts _ q449) (fun _ h => h) dX0_vatFor_39 ?_
            obtain ⟨g13, e12, h⟩ := obd h
            refine rc_V0 (rest := []) (st1 := []) hF (w_X1_become hSk 92 65 (isMl_92) (isMl_65) e12) (cwV 1 hts (lw_V q516 q517 q518 q101 q519) rfl rfl rfl hd_X1_become ⟨Nat.le_of_ble_eq_true rfl, Nat.le_of_ble_eq_true rfl⟩) cfX1 (sk_92 hSk) hK hW hR hS rfl hl.1 rfl (Nat.le_of_ble_eq_true rfl) rfl dX0_vatFor_42 ⟨rfl, rfl⟩ ⟨Nat.zero_le _, Nat.zero_le _⟩ (fun H locs hR hS => ?_)
            refine lv_aload_n hx hb dX0_vatFor_45 rfl (lv_at hl 0 rfl) ?_
            refine r_getr hx hb hts cfX0 hown hK hR (sk_64 hSk) 3 (by decide) rfl (sr_64_3 hSk) (hts _ q452) (fun _ h => h) dX0_vatFor_46 ?_
            refine r_getrN hx hb hts cfX1 hown hK hR (sk_92 hSk) 7 (by decide) rfl (sr_92_7 hSk) (hW.nestF q179) (fun _ h => h) dX0_vatFor_49 ?_
            refine lv_iload_n hx hb dX0_vatFor_52 rfl (lv_at hl 1 rfl) ?_
            refine lv_iload hx hb dX0_vatFor_53 (lv_at hl 5 rfl) ?_
            obtain ⟨g15, e14, h⟩ := obd h
            refine r_sti hx hb hK hR hS (sk_96 hSk) e14 dX0_vatFor_55 (fun H locs hR hS => ?_)
            refine lv_aload_n hx hb dX0_vatFor_56 rfl (lv_at hl 0 rfl) ?_
            refine lv_iload_n hx hb dX0_vatFor_57 rfl (lv_at hl 2 rfl) ?_
            obtain ⟨r17, g18, e16, h⟩ := obd2 h
            refine rc_V0 (rest := []) (st1 := [.int r17]) hF (w_X0_depthsTried hSk a2 e16) (cwV 1 hts (lw_V q943 q945 qs25 q100 q946) rfl rfl rfl hd_X0_depthsTried ⟨Nat.le_of_ble_eq_true rfl, Nat.le_of_ble_eq_true rfl⟩) cfX0 (sk_64 hSk) hK hW hR hS rfl hl.1 rfl (Nat.le_of_ble_eq_true rfl) rfl dX0_vatFor_58 ⟨rfl, rfl⟩ ⟨Nat.zero_le _, Nat.zero_le _⟩ (fun H locs hR hS => ?_)
            refine lv_istore (lv' := [(6, .int r17), (0, .ref (adr G 64)), (1, .int a1), (2, .int a2), (3, .int x7), (4, .int x8), (5, .int x9)]) hx hb dX0_vatFor_61 hl (by decide) rfl (fun ls hl => ?_)
            refine lv_iload hx hb dX0_vatFor_63 (lv_at hl 0 rfl) ?_
            refine lv_iload hx hb dX0_vatFor_65 (lv_at hl 5 rfl) ?_
            have J76 : ∀ (x19 : Int32) (H : Heap) (locs : List Loc) (ls : Array Slot), Rep G sh g18 gl gr n H → va_S (own G) s.heap H locs → lv_has ls 7 [(0, .ref (adr G 64)), (1, .int a1), (2, .int a2), (4, .int x8), (5, .int x9), (6, .int r17)] → j_X0_vatFor_76 x8 x9 (l_X0_vatFor_27 a1 a2 k27) r17 g18 x19 = some (r, go) → W p l e rm_X0_vatFor s m ([.ref (adr G 64), .int a1, .int a2] : List Value).toArray below meth c H locs 0 0 (MQ below (QR G (some (.int r)) sh go gl gr n) ([.ref (adr G 64), .int a1, .int a2] : List Value).toArray s rm_X0_vatFor.cells rm_X0_vatFor.slots (own G)) (F0 m 76 ls [.int x19]) := by
              intro x19 H locs ls hR hS hl h
              unfold j_X0_vatFor_76 at h
              refine lv_istore_n (lv' := [(3, .int x19), (0, .ref (adr G 64)), (1, .int a1), (2, .int a2), (4, .int x8), (5, .int x9), (6, .int r17)]) hx hb dX0_vatFor_76 rfl hl (by decide) rfl (fun ls hl => ?_)
              refine lv_iload hx hb dX0_vatFor_77 (lv_at hl 4 rfl) ?_
              refine lv_iload hx hb dX0_vatFor_79 (lv_at hl 6 rfl) ?_
              refine va_mmax hx hb (hml.trans hl.1.symm) hown (hts _ q840) (hts _ q837) (hts _ q123) (hts _ q838) (Nat.le_of_ble_eq_true rfl) (Nat.le_of_ble_eq_true rfl) (Nat.zero_le _) (Nat.zero_le _) dX0_vatFor_81 ?_
              refine lv_istore (lv' := [(4, .int (imax x8 r17)), (3, .int x19), (0, .ref (adr G 64)), (1, .int a1), (2, .int a2), (5, .int x9), (6, .int r17)]) hx hb dX0_vatFor_84 hl (by decide) rfl (fun ls hl => ?_)
              refine lv_iinc (v := x9 + 1) (lv' := [(5, .int (x9 + 1)), (4, .int (imax x8 r17)), (3, .int x19), (0, .ref (adr G 64)), (1, .int a1), (2, .int a2), (6, .int r17)]) hx hb dX0_vatFor_86 hl (k := 5) rfl rfl (by decide) rfl (fun ls hl => ?_)
              refine lv_goto (tgt := 27) hx hb dX0_vatFor_89 (by decide) ?_
              exact ih27 x19 (imax x8 r17) (x9 + 1) g18 _ _ _ hR hS (lv_sub hl [3, 4, 5, 2, 1, 0] rfl) h
            refine lv_icmp_le (tgt := 75) hx hb dX0_vatFor_67 (by decide) (fun c20 => ?_) (fun c20 => ?_)
            · replace h := ifp h c20
              refine lv_iload_n hx hb dX0_vatFor_75 rfl (lv_at hl 4 rfl) ?_
              exact J76 x7 _ _ _ hR hS (lv_sub hl [1, 2, 3, 5, 6, 0] rfl) h
            · replace h := ifn h c20
              refine lv_iload hx hb dX0_vatFor_70 (lv_at hl 6 rfl) ?_
              refine lv_goto (tgt := 76) hx hb dX0_vatFor_72 (by decide) ?_
              exact J76 x9 _ _ _ hR hS (lv_sub hl [1, 2, 3, 5, 6, 0] rfl) h
      exact J27 fuel 0 (-1) 0 g _ _ _ hR hS (lv_sub hl [3, 4, 5, 2, 1, 0] rfl) h
    · replace h := ifp h c6
      exact J17  _ _ _ hR hS (lv_sub hl [] rfl) h
def rm_X0_kindFor : Room := { frames := 10, cells := 0, slots := 0, locals := 372 }
theorem hd_X0_kindFor : yX0_kindFor.cls = "IntentVats" ∧ yX0_kindFor.cls ≠ "java/lang/invoke/MethodHandle" ∧ yX0_kindFor.cls ≠ "java/lang/invoke/VarHandle" ∧ (parseMethodDescriptor yX0_kindFor.desc).map (fun d => d.parameters.length) = some 2 := by decide +kernel
theorem he_X0_kindFor : yX0_kindFor.cls ≠ "java/lang/invoke/MethodHandle" ∧ yX0_kindFor.cls ≠ "java/lang/invoke/VarHandle" ∧ (parseMethodDescriptor yX0_kindFor.desc).map (fun d => d.parameters.length) = some 2 := hd_X0_kindFor.2

set_option maxHeartbeats 4000000 in
set_option maxRecDepth 100000 in
theorem w_X0_kindFor {l : Launch} {G : Gx} {sh : SM} {g : GM} {gl : LM} {gr : RM} {n : Nat} (hSk : Sk sh gr) (a1 : Int32) (a2 : Int32)  {r : Int32} {go : GM} (h : f_X0_kindFor g a1 a2 = some (r, go)) : MetI l G yX0_kindFor (ws_ yX0_kindFor cX0_kindFor 6 (Option.some Jvm.ClassFile.FieldType.int)) rm_X0_kindFor [.ref (adr G 64), .int a1, .int a2] sh g gl gr n (some (.int r)) sh go gl gr n := by
  refine MetI.of (by decide) (Nat.le_of_ble_eq_true rfl) ?_
  intro p e s m below meth c ls hx hb hr hml hown hts hlk hnm hW hK hR hS hl
  have hown : s.vm.findClass RX0 = some m.cls := hown
  have hF : CallFix p m c cX0_kindFor 6 s ([.ref (adr G 64), .int a1, .int a2] : List Value).toArray lw_all RX0 := ⟨hx, hb, hml, hown, hts⟩
  have hl : lv_has ls 6 [(0, .ref (adr G 64)), (1, .int a1), (2, .int a2)] := hl
  unfold f_X0_kindFor at h
  refine lv_aload_n hx hb dX0_kindFor_0 rfl (lv_at hl 0 rfl) ?_
  refine lv_iload_n hx hb dX0_kindFor_1 rfl (lv_at hl 1 rfl) ?_
  obtain ⟨r2, e1, h⟩ := obd h
  refine rc_V0 (rest := []) (st1 := [.int r2]) hF (w_X0_isCloth hSk a1 e1) (cwV 1 hts (lw_V q715 q717 qs15 q100 q718) rfl rfl rfl hd_X0_isCloth ⟨Nat.le_of_ble_eq_true rfl, Nat.le_of_ble_eq_true rfl⟩) cfX0 (sk_64 hSk) hK hW hR hS rfl hl.1 rfl (Nat.le_of_ble_eq_true rfl) rfl dX0_kindFor_2 ⟨rfl, rfl⟩ ⟨Nat.zero_le _, Nat.zero_le _⟩ (fun H locs hR hS => ?_)
  have J18 : ∀  (H : Heap) (locs : List Loc) (ls : Array Slot), Rep G sh g gl gr n H → va_S (own G) s.heap H locs → lv_has ls 6 [] → j_X0_kindFor_18 g  = some (r, go) → W p l e rm_X0_kindFor s m ([.ref (adr G 64), .int a1, .int a2] : List Value).toArray below meth c H locs 0 0 (MQ below (QR G (some (.int r)) sh go gl gr n) ([.ref (adr G 64), .int a1, .int a2] : List Value).toArray s rm_X0_kindFor.cells rm_X0_kindFor.slots (own G)) (F0 m 18 ls []) := by
    intro  H locs ls hR hS hl h
    unfold j_X0_kindFor_18 at h
    refine lv_iconst (v := (-1)) hx hb dX0_kindFor_18 ki_m1 ?_
    obtain ⟨rfl, rfl⟩ := s2i h
    exact r_iret0 hx hb hr hlk hR hS (Nat.zero_le _) (Nat.zero_le _) dX0_kindFor_19
  refine lv_if_eq (tgt := 18) hx hb dX0_kindFor_5 (by decide) (fun c3 => ?_) (fun c3 => ?_)
  · replace h := ifp h c3
    exact J18  _ _ _ hR hS (lv_sub hl [] rfl) h
  · replace h := ifn h c3
    refine lv_iload_n hx hb dX0_kindFor_8 rfl (lv_at hl 2 rfl) ?_
    refine lv_iconst (v := 1) hx hb dX0_kindFor_9 ki_1 ?_
    refine lv_bipush (v := 40) hx hb dX0_kindFor_10 kb_40 ?_
    obtain ⟨r5, e4, h⟩ := obd h
    refine rc_S0 (rest := []) (st1 := [.int r5]) hF (w_X0_in hSk a2 1 40 e4) (va_cwS 3 hts (lw_S q508 q509 q100 q510) rfl rfl rfl he_X0_in ⟨Nat.le_of_ble_eq_true rfl, Nat.le_of_ble_eq_true rfl⟩) hW hR hS rfl hl.1 rfl (Nat.le_of_ble_eq_true rfl) rfl dX0_kindFor_12 ⟨rfl, rfl⟩ ⟨Nat.zero_le _, Nat.zero_le _⟩ (fun H locs hR hS => ?_)
    refine lv_if_ne (tgt := 20) hx hb dX0_kindFor_15 (by decide) (fun c6 => ?_) (fun c6 => ?_)
    · replace h := ifn h c6
      refine lv_iconst (v := 0) hx hb dX0_kindFor_20 ki_0 ?_
      refine lv_istore_n (lv' := [(3, .int 0), (0, .ref (adr G 64)), (1, .int a1), (2, .int a2)]) hx hb dX0_kindFor_21 rfl hl (by decide) rfl (fun ls hl => ?_)
      refine lv_iconst (v := (-1)) hx hb dX0_kindFor_22 ki_m1 ?_
      refine lv_istore (lv' := [(4, .int (-1)), (3, .int 0), (0, .ref (adr G 64)), (1, .int a1), (2, .int a2)]) hx hb dX0_kindFor_23 hl (by decide) rfl (fun ls hl => ?_)
      refine lv_iconst (v := 0) hx hb dX0_kindFor_25 ki_0 ?_
      refine lv_istore (lv' := [(5, .int 0), (4, .int (-1)), (3, .int 0), (0, .ref (adr G 64)), (1, .int a1), (2, .int a2)]) hx hb dX0_kindFor_26 hl (by decide) rfl (fun ls hl => ?_)
      have J28 : ∀ (k28 : Nat) (x7 : Int32) (x8 : Int32) (x9 : Int32) (g10 : GM) (H : Heap) (locs : List Loc) (ls : Array Slot), Rep G sh g10 gl gr n H → va_S (own G) s.heap H locs → lv_has ls 6 [(0, .ref (adr G 64)), (1, .int a1), (2, .int a2), (3, .int x7), (4, .int x8), (5, .int x9)] → l_X0_kindFor_28 a1 a2 k28 x7 x8 x9 g10 = some (r, go) → W p l e rm_X0_kindFor s m ([.ref (adr G 64), .int a1, .int a2] : List Value).toArray below meth c H locs 0 0 (MQ below (QR G (some (.int r)) sh go gl gr n) ([.ref (adr G 64), .int a1, .int a2] : List Value).toArray s rm_X0_kindFor.cells rm_X0_kindFor.slots (own G)) (F0 m 28 ls []) := by
        intro k28
        induction k28 with
        | zero => intro _ _ _ _ _ _ _ _ _ _; exact nofun
        | succ k28 ih28 =>
          intro x7 x8 x9 g10 H locs ls hR hS hl h
          unfold l_X0_kindFor_28 b_X0_kindFor_28 at h
          refine lv_iload hx hb dX0_kindFor_28 (lv_at hl 5 rfl) ?_
          refine lv_iconst (v := 5) hx hb dX0_kindFor_30 ki_5 ?_
          refine lv_icmp_gt (tgt := 108) hx hb dX0_kindFor_31 (by decide) (fun c11 => ?_) (fun c11 => ?_)
          · replace h := ifp h c11
            refine lv_iload_n hx hb dX0_kindFor_108 rfl (lv_at hl 3 rfl) ?_
            obtain ⟨rfl, rfl⟩ := s2i h
            exact r_iret0 hx hb hr hlk hR hS (Nat.zero_le _) (Nat.zero_le _) dX0_kindFor_109
          · replace h := ifn h c11
            refine lv_aload_n hx hb dX0_kindFor_34 rfl (lv_at hl 0 rfl) ?_
            refine r_getr hx hb hts cfX0 hown hK hR (sk_64 hSk) 3 (by decide) rfl (sr_64_3 hSk) (hts _ q452) (fun _ h => h) dX0_kindFor_35 ?_
            refine lv_aload_n hx hb dX0_kindFor_38 rfl (lv_at hl 0 rfl) ?_
            refine r_getr hx hb hts cfX0 hown hK hR (sk_64 hSk) 0 (by decide) rfl (sr_64_0 hSk) (hts _ q449) (fun _ h => h) dX0_kindFor_39 ?_
            obtain ⟨g13, e12, h⟩ := obd h
            refine rc_V0 (rest := []) (st1 := []) hF (w_X1_become hSk 92 65 (isMl_92) (isMl_65) e12) (cwV 1 hts (lw_V q516 q517 q518 q101 q519) rfl rfl rfl hd_X1_become ⟨Nat.le_of_ble_eq_true rfl, Nat.le_of_ble_eq_true rfl⟩) cfX1 (sk_92 hSk) hK hW hR hS rfl hl.1 rfl (Nat.le_of_ble_eq_true rfl) rfl dX0_kindFor_42 ⟨rfl, rfl⟩ ⟨Nat.zero_le _, Nat.zero_le _⟩ (fun H locs hR hS => ?_)
            refine lv_aload_n hx hb dX0_kindFor_45 rfl (lv_at hl 0 rfl) ?_
            refine r_getr hx hb hts cfX0 hown hK hR (sk_64 hSk) 3 (by decide) rfl (sr_64_3 hSk) (hts _ q452) (fun _ h => h) dX0_kindFor_46 ?_
            refine r_getrN hx hb hts cfX1 hown hK hR (sk_92 hSk) 8 (by decide) rfl (sr_92_8 hSk) (hW.nestF q181) (fun _ h => h) dX0_kindFor_49 ?_
            refine lv_iload_n hx hb dX0_kindFor_52 rfl (lv_at hl 1 rfl) ?_
            refine lv_iload hx hb dX0_kindFor_53 (lv_at hl 5 rfl) ?_
            obtain ⟨g15, e14, h⟩ := obd h
            refine r_sti hx hb hK hR hS (sk_97 hSk) e14 dX0_kindFor_55 (fun H locs hR hS => ?_)
            refine lv_aload_n hx hb dX0_kindFor_56 rfl (lv_at hl 0 rfl) ?_
            refine lv_aload_n hx hb dX0_kindFor_57 rfl (lv_at hl 0 rfl) ?_
            refine r_getr hx hb hts cfX0 hown hK hR (sk_64 hSk) 3 (by decide) rfl (sr_64_3 hSk) (hts _ q452) (fun _ h => h) dX0_kindFor_58 ?_
            refine lv_iload_n hx hb dX0_kindFor_61 rfl (lv_at hl 2 rfl) ?_
            obtain ⟨g17, e16, h⟩ := obd h
            refine rc_V0 (rest := []) (st1 := []) hF (w_X0_daysGo hSk 92 a2 (isMl_92) e16) (cwV 2 hts (lw_V q845 q847 qs18 q100 q848) rfl rfl rfl hd_X0_daysGo ⟨Nat.le_of_ble_eq_true rfl, Nat.le_of_ble_eq_true rfl⟩) cfX0 (sk_64 hSk) hK hW hR hS rfl hl.1 rfl (Nat.le_of_ble_eq_true rfl) rfl dX0_kindFor_62 ⟨rfl, rfl⟩ ⟨Nat.zero_le _, Nat.zero_le _⟩ (fun H locs hR hS => ?_)
            refine lv_aload_n hx hb dX0_kindFor_65 rfl (lv_at hl 0 rfl) ?_
            refine r_getr hx hb hts cfX0 hown hK hR (sk_64 hSk) 3 (by decide) rfl (sr_64_3 hSk) (hts _ q452) (fun _ h => h) dX0_kindFor_66 ?_
            refine r_getrN hx hb hts cfX1 hown hK hR (sk_92 hSk) 10 (by decide) rfl (sr_92_10 hSk) (hW.nestF q186) (fun _ h => h) dX0_kindFor_69 ?_
            refine lv_iload_n hx hb dX0_kindFor_72 rfl (lv_at hl 1 rfl) ?_
            obtain ⟨v19, e18, h⟩ := obd h
            refine r_ldi hx hb hK hR (sk_99 hSk) e18 dX0_kindFor_73 ?_
            refine lv_iload hx hb dX0_kindFor_74 (lv_at hl 4 rfl) ?_
            have J85 : ∀ (x20 : Int32) (H : Heap) (locs : List Loc) (ls : Array Slot), Rep G sh g17 gl gr n H → va_S (own G) s.heap H locs → lv_has ls 6 [(0, .ref (adr G 64)), (1, .int a1), (2, .int a2), (4, .int x8), (5, .int x9)] → j_X0_kindFor_85 a1 x8 x9 (l_X0_kindFor_28 a1 a2 k28) g17 x20 = some (r, go) → W p l e rm_X0_kindFor s m ([.ref (adr G 64), .int a1, .int a2] : List Value).toArray below meth c H locs 0 0 (MQ below (QR G (some (.int r)) sh go gl gr n) ([.ref (adr G 64), .int a1, .int a2] : List Value).toArray s rm_X0_kindFor.cells rm_X0_kindFor.slots (own G)) (F0 m 85 ls [.int x20]) := by
              intro x20 H locs ls hR hS hl h
              unfold j_X0_kindFor_85 at h
              refine lv_istore_n (lv' := [(3, .int x20), (0, .ref (adr G 64)), (1, .int a1), (2, .int a2), (4, .int x8), (5, .int x9)]) hx hb dX0_kindFor_85 rfl hl (by decide) rfl (fun ls hl => ?_)
              refine lv_iload hx hb dX0_kindFor_86 (lv_at hl 4 rfl) ?_
              refine lv_aload_n hx hb dX0_kindFor_88 rfl (lv_at hl 1 rfl) ?_
              refine r_getr hx hb hts cfX0 hown hK hR (sk_64 hSk) 3 (by decide) rfl (sr_64_3 hSk) (hts _ q452) (fun _ h => h) dX0_kindFor_89 ?_
              refine r_getrN hx hb hts cfX1 hown hK hR (sk_92 hSk) 10 (by decide) rfl (sr_92_10 hSk) (hW.nestF q186) (fun _ h => h) dX0_kindFor_92 ?_
              refine lv_iload_n hx hb dX0_kindFor_95 rfl (lv_at hl 2 rfl) ?_
              obtain ⟨v22, e21, h⟩ := obd h
              refine r_ldi hx hb hK hR (sk_99 hSk) e21 dX0_kindFor_96 ?_
              refine va_mmax hx hb (hml.trans hl.1.symm) hown (hts _ q840) (hts _ q837) (hts _ q123) (hts _ q838) (Nat.le_of_ble_eq_true rfl) (Nat.le_of_ble_eq_true rfl) (Nat.zero_le _) (Nat.zero_le _) dX0_kindFor_97 ?_
              refine lv_istore (lv' := [(4, .int (imax x8 v22)), (3, .int x20), (0, .ref (adr G 64)), (1, .int a1), (2, .int a2), (5, .int x9)]) hx hb dX0_kindFor_100 hl (by decide) rfl (fun ls hl => ?_)
              refine lv_iinc (v := x9 + 1) (lv' := [(5, .int (x9 + 1)), (4, .int (imax x8 v22)), (3, .int x20), (0, .ref (adr G 64)), (1, .int a1), (2, .int a2)]) hx hb dX0_kindFor_102 hl (k := 5) rfl rfl (by decide) rfl (fun ls hl => ?_)
              refine lv_goto (tgt := 28) hx hb dX0_kindFor_105 (by decide) ?_
              exact ih28 x20 (imax x8 v22) (x9 + 1) g17 _ _ _ hR hS (lv_sub hl [3, 4, 5, 2, 1, 0] rfl) h
            refine lv_icmp_le (tgt := 84) hx hb dX0_kindFor_76 (by decide) (fun c23 => ?_) (fun c23 => ?_)
            · replace h := ifp h c23
              refine lv_iload_n hx hb dX0_kindFor_84 rfl (lv_at hl 3 rfl) ?_
              exact J85 x7 _ _ _ hR hS (lv_sub hl [0, 1, 2, 4, 5] rfl) h
            · replace h := ifn h c23
              refine lv_iload hx hb dX0_kindFor_79 (lv_at hl 5 rfl) ?_
              refine lv_goto (tgt := 85) hx hb dX0_kindFor_81 (by decide) ?_
              exact J85 x9 _ _ _ hR hS (lv_sub hl [0, 1, 2, 4, 5] rfl) h
      exact J28 fuel 0 (-1) 0 g _ _ _ hR hS (lv_sub hl [3, 4, 5, 2, 1, 0] rfl) h
    · replace h := ifp h c6
      exact J18  _ _ _ hR hS (lv_sub hl [] rfl) h
def rm_X0_strengthFor : Room := { frames := 10, cells := 0, slots := 0, locals := 372 }
theorem hd_X0_strengthFor : yX0_strengthFor.cls = "IntentVats" ∧ yX0_strengthFor.cls ≠ "java/lang/invoke/MethodHandle" ∧ yX0_strengthFor.cls ≠ "java/lang/invoke/VarHandle" ∧ (parseMethodDescriptor yX0_strengthFor.desc).map (fun d => d.parameters.length) = some 4 := by decide +kernel
theorem he_X0_strengthFor : yX0_strengthFor.cls ≠ "java/lang/invoke/MethodHandle" ∧ yX0_strengthFor.cls ≠ "java/lang/invoke/VarHandle" ∧ (parseMethodDescriptor yX0_strengthFor.desc).map (fun d => d.parameters.length) = some 4 := hd_X0_strengthFor.2

set_option maxHeartbeats 4000000 in
set_option maxRecDepth 100000 in
theorem w_X0_strengthFor {l : Launch} {G : Gx} {sh : SM} {g : GM} {gl : LM} {gr : RM} {n : Nat} (hSk : Sk sh gr) (a1 : Int32) (a2 : Int32) (a3 : Int32) (a4 : Int32)  {r : Int32} {go : GM} (h : f_X0_strengthFor g a1 a2 a3 a4 = some (r, go)) : MetI l G yX0_strengthFor (ws_ yX0_strengthFor cX0_strengthFor 6 (Option.some Jvm.ClassFile.FieldType.int)) rm_X0_strengthFor [.ref (adr G 64), .int a1, .int a2, .int a3, .int a4] sh g gl gr n (some (.int r)) sh go gl gr n := by
  refine MetI.of (by decide) (Nat.le_of_ble_eq_true rfl) ?_
  intro p e s m below meth c ls hx hb hr hml hown hts hlk hnm hW hK hR hS hl
  have hown : s.vm.findClass RX0 = some m.cls := hown
  have hF : CallFix p m c cX0_strengthFor 6 s ([.ref (adr G 64), .int a1, .int a2, .int a3, .int a4] : List Value).toArray lw_all RX0 := ⟨hx, hb, hml, hown, hts⟩
  have hl : lv_has ls 6 [(0, .ref (adr G 64)), (1, .int a1), (2, .int a2), (3, .int a3), (4, .int a4)] := hl
  unfold f_X0_strengthFor at h
  refine lv_iload_n hx hb dX0_strengthFor_0 rfl (lv_at hl 1 rfl) ?_
  obtain ⟨r2, e1, h⟩ := obd h
  refine rc_S0 (rest := []) (st1 := [.int r2]) hF (w_X0_isVat hSk a1 e1) (va_cwS 1 hts (lw_S q682 q683 q100 q684) rfl rfl rfl he_X0_isVat ⟨Nat.le_of_ble_eq_true rfl, Nat.le_of_ble_eq_true rfl⟩) hW hR hS rfl hl.1 rfl (Nat.le_of_ble_eq_true rfl) rfl dX0_strengthFor_1 ⟨rfl, rfl⟩ ⟨Nat.zero_le _, Nat.zero_le _⟩ (fun H locs hR hS => ?_)
  have J33 : ∀  (H : Heap) (locs : List Loc) (ls : Array Slot), Rep G sh g gl gr n H → va_S (own G) s.heap H locs → lv_has ls 6 [] → j_X0_strengthFor_33 g  = some (r, go) → W p l e rm_X0_strengthFor s m ([.ref (adr G 64), .int a1, .int a2, .int a3, .int a4] : List Value).toArray below meth c H locs 0 0 (MQ below (QR G (some (.int r)) sh go gl gr n) ([.ref (adr G 64), .int a1, .int a2, .int a3, .int a4] : List Value).toArray s rm_X0_strengthFor.cells rm_X0_strengthFor.slots (own G)) (F0 m 33 ls []) := by
    intro  H locs ls hR hS hl h
    unfold j_X0_strengthFor_33 at h
    refine lv_iconst (v := (-1)) hx hb dX0_strengthFor_33 ki_m1 ?_
    obtain ⟨rfl, rfl⟩ := s2i h
    exact r_iret0 hx hb hr hlk hR hS (Nat.zero_le _) (Nat.zero_le _) dX0_strengthFor_34
  refine lv_if_eq (tgt := 33) hx hb dX0_strengthFor_4 (by decide) (fun c3 => ?_) (fun c3 => ?_)
  · replace h := ifp h c3
    exact J33  _ _ _ hR hS (lv_sub hl [] rfl) h
  · replace h := ifn h c3
    refine lv_aload_n hx hb dX0_strengthFor_7 rfl (lv_at hl 0 rfl) ?_
    refine lv_iload_n hx hb dX0_strengthFor_8 rfl (lv_at hl 2 rfl) ?_
    obtain ⟨r5, e4, h⟩ := obd h
    refine rc_V0 (rest := []) (st1 := [.int r5]) hF (w_X0_isCloth hSk a2 e4) (cwV 1 hts (lw_V q715 q717 qs15 q100 q718) rfl rfl rfl hd_X0_isCloth ⟨Nat.le_of_ble_eq_true rfl, Nat.le_of_ble_eq_true rfl⟩) cfX0 (sk_64 hSk) hK hW hR hS rfl hl.1 rfl (Nat.le_of_ble_eq_true rfl) rfl dX0_strengthFor_9 ⟨rfl, rfl⟩ ⟨Nat.zero_le _, Nat.zero_le _⟩ (fun H locs hR hS => ?_)
    refine lv_if_eq (tgt := 33) hx hb dX0_strengthFor_12 (by decide) (fun c6 => ?_) (fun c6 => ?_)
    · replace h := ifp h c6
      exact J33  _ _ _ hR hS (lv_sub hl [] rfl) h
    · replace h := ifn h c6
      refine lv_iload_n hx hb dX0_strengthFor_15 rfl (lv_at hl 3 rfl) ?_
      obtain ⟨r8, e7, h⟩ := obd h
      refine rc_S0 (rest := []) (st1 := [.int r8]) hF (w_X0_isPurpose hSk a3 e7) (va_cwS 1 hts (lw_S q813 q814 q100 q815) rfl rfl rfl he_X0_isPurpose ⟨Nat.le_of_ble_eq_true rfl, Nat.le_of_ble_eq_true rfl⟩) hW hR hS rfl hl.1 rfl (Nat.le_of_ble_eq_true rfl) rfl dX0_strengthFor_16 ⟨rfl, rfl⟩ ⟨Nat.zero_le _, Nat.zero_le _⟩ (fun H locs hR hS => ?_)
      refine lv_if_eq (tgt := 33) hx hb dX0_strengthFor_19 (by decide) (fun c9 => ?_) (fun c9 => ?_)
      · replace h := ifp h c9
        exact J33  _ _ _ hR hS (lv_sub hl [] rfl) h
      · replace h := ifn h c9
        refine lv_iload hx hb dX0_strengthFor_22 (lv_at hl 4 rfl) ?_
        refine lv_iconst (v := 1) hx hb dX0_strengthFor_24 ki_1 ?_
        refine lv_bipush (v := 40) hx hb dX0_strengthFor_25 kb_40 ?_
        obtain ⟨r11, e10, h⟩ := obd h
        refine rc_S0 (rest := []) (st1 := [.int r11]) hF (w_X0_in hSk a4 1 40 e10) (va_cwS 3 hts (lw_S q508 q509 q100 q510) rfl rfl rfl he_X0_in ⟨Nat.le_of_ble_eq_true rfl, Nat.le_of_ble_eq_true rfl⟩) hW hR hS rfl hl.1 rfl (Nat.le_of_ble_eq_true rfl) rfl dX0_strengthFor_27 ⟨rfl, rfl⟩ ⟨Nat.zero_le _, Nat.zero_le _⟩ (fun H locs hR hS => ?_)
        refine lv_if_ne (tgt := 35) hx hb dX0_strengthFor_30 (by decide) (fun c12 => ?_) (fun c12 => ?_)
        · replace h := ifn h c12
          refine lv_iconst (v := 0) hx hb dX0_strengthFor_35 ki_0 ?_
          refine lv_istore (lv' := [(5, .int 0), (0, .ref (adr G 64)), (1, .int a1), (2, .int a2), (3, .int a3), (4, .int a4)]) hx hb dX0_strengthFor_36 hl (by decide) rfl (fun ls hl => ?_)
          have J38 : ∀ (k38 : Nat) (x13 : Int32) (g14 : GM) (H : Heap) (locs : List Loc) (ls : Array Slot), Rep G sh g14 gl gr n H → va_S (own G) s.heap H locs → lv_has ls 6 [(0, .ref (adr G 64)), (1, .int a1), (2, .int a2), (3, .int a3), (4, .int a4), (5, .int x13)] → l_X0_strengthFor_38 a1 a2 a3 a4 k38 x13 g14 = some (r, go) → W p l e rm_X0_strengthFor s m ([.ref (adr G 64), .int a1, .int a2, .int a3, .int a4] : List Value).toArray below meth c H locs 0 0 (MQ below (QR G (some (.int r)) sh go gl gr n) ([.ref (adr G 64), .int a1, .int a2, .int a3, .int a4] : List Value).toArray s rm_X0_strengthFor.cells rm_X0_strengthFor.slots (own G)) (F0 m 38 ls []) := by
            intro k38
            induction k38 with
            | zero => intro _ _ _ _ _ _ _ _; exact nofun
            | succ k38 ih38 =>
              intro x13 g14 H locs ls hR hS hl h
              unfold l_X0_strengthFor_38 b_X0_strengthFor_38 at h
              refine lv_iload hx hb dX0_strengthFor_38 (lv_at hl 5 rfl) ?_
              refine lv_bipush (v := 9) hx hb dX0_strengthFor_40 kb_9 ?_
              refine lv_icmp_gt (tgt := 99) hx hb dX0_strengthFor_42 (by decide) (fun c15 => ?_) (fun c15 => ?_)
              · replace h := ifp h c15
                refine lv_bipush (v := (-3)) hx hb dX0_strengthFor_99 kb_m3 ?_
                obtain ⟨rfl, rfl⟩ := s2i h
                exact r_iret0 hx hb hr hlk hR hS (Nat.zero_le _) (Nat.zero_le _) dX0_strengthFor_101
              · replace h := ifn h c15
                refine lv_aload_n hx hb dX0_strengthFor_45 rfl (lv_at hl 0 rfl) ?_
                refine r_getr hx hb hts cfX0 hown hK hR (sk_64 hSk) 3 (by decide) rfl (sr_64_3 hSk) (hts _ q452) (fun _ h => h) dX0_strengthFor_46 ?_
                refine lv_aload_n hx hb dX0_strengthFor_49 rfl (lv_at hl 0 rfl) ?_
                refine r_getr hx hb hts cfX0 hown hK hR (sk_64 hSk) 0 (by decide) rfl (sr_64_0 hSk) (hts _ q449) (fun _ h => h) dX0_strengthFor_50 ?_
                obtain ⟨g17, e16, h⟩ := obd h
                refine rc_V0 (rest := []) (st1 := []) hF (w_X1_become hSk 92 65 (isMl_92) (isMl_65) e16) (cwV 1 hts (lw_V q516 q517 q518 q101 q519) rfl rfl rfl hd_X1_become ⟨Nat.le_of_ble_eq_true rfl, Nat.le_of_ble_eq_true rfl⟩) cfX1 (sk_92 hSk) hK hW hR hS rfl hl.1 rfl (Nat.le_of_ble_eq_true rfl) rfl dX0_strengthFor_53 ⟨rfl, rfl⟩ ⟨Nat.zero_le _, Nat.zero_le _⟩ (fun H locs hR hS => ?_)
                refine lv_aload_n hx hb dX0_strengthFor_56 rfl (lv_at hl 0 rfl) ?_
                refine r_getr hx hb hts cfX0 hown hK hR (sk_64 hSk) 3 (by decide) rfl (sr_64_3 hSk) (hts _ q452) (fun _ h => h) dX0_strengthFor_57 ?_
                refine r_getrN hx hb hts cfX1 hown hK hR (sk_92 hSk) 6 (by decide) rfl (sr_92_6 hSk) (hW.nestF q175) (fun _ h => h) dX0_strengthFor_60 ?_
                refine lv_iload_n hx hb dX0_strengthFor_63 rfl (lv_at hl 1 rfl) ?_
                refine lv_iload hx hb dX0_strengthFor_64 (lv_at hl 5 rfl) ?_
                obtain ⟨g19, e18, h⟩ := obd h
                refine r_sti hx hb hK hR hS (sk_95 hSk) e18 dX0_strengthFor_66 (fun H locs hR hS => ?_)
                refine lv_aload_n hx hb dX0_strengthFor_67 rfl (lv_at hl 0 rfl) ?_
                refine lv_aload_n hx hb dX0_strengthFor_68 rfl (lv_at hl 0 rfl) ?_
                refine r_getr hx hb hts cfX0 hown hK hR (sk_64 hSk) 3 (by decide) rfl (sr_64_3 hSk) (hts _ q452) (fun _ h => h) dX0_strengthFor_69 ?_
                refine lv_iload hx hb dX0_strengthFor_72 (lv_at hl 4 rfl) ?_
                obtain ⟨g21, e20, h⟩ := obd h
                refine rc_V0 (rest := []) (st1 := []) hF (w_X0_daysGo hSk 92 a4 (isMl_92) e20) (cwV 2 hts (lw_V q845 q847 qs18 q100 q848) rfl rfl rfl hd_X0_daysGo ⟨Nat.le_of_ble_eq_true rfl, Nat.le_of_ble_eq_true rfl⟩) cfX0 (sk_64 hSk) hK hW hR hS rfl hl.1 rfl (Nat.le_of_ble_eq_true rfl) rfl dX0_strengthFor_74 ⟨rfl, rfl⟩ ⟨Nat.zero_le _, Nat.zero_le _⟩ (fun H locs hR hS => ?_)
                refine lv_aload_n hx hb dX0_strengthFor_77 rfl (lv_at hl 0 rfl) ?_
                refine r_getr hx hb hts cfX0 hown hK hR (sk_64 hSk) 3 (by decide) rfl (sr_64_3 hSk) (hts _ q452) (fun _ h => h) dX0_strengthFor_78 ?_
                refine r_getrN hx hb hts cfX1 hown hK hR (sk_92 hSk) 9 (by decide) rfl (sr_92_9 hSk) (hW.nestF q183) (fun _ h => h) dX0_strengthFor_81 ?_
                refine lv_iload_n hx hb dX0_strengthFor_84 rfl (lv_at hl 2 rfl) ?_
                obtain ⟨v23, e22, h⟩ := obd h
                refine r_ldi hx hb hK hR (sk_98 hSk) e22 dX0_strengthFor_85 ?_
                refine lv_iload_n hx hb dX0_strengthFor_86 rfl (lv_at hl 3 rfl) ?_
                refine lv_icmp_ne (tgt := 93) hx hb dX0_strengthFor_87 (by decide) (fun c24 => ?_) (fun c24 => ?_)
                · replace h := ifn h c24
                  refine lv_iinc (v := x13 + 1) (lv' := [(5, .int (x13 + 1)), (0, .ref (adr G 64)), (1, .int a1), (2, .int a2), (3, .int a3), (4, .int a4)]) hx hb dX0_strengthFor_93 hl (k := 5) rfl rfl (by decide) rfl (fun ls hl => ?_)
                  refine lv_goto (tgt := 38) hx hb dX0_strengthFor_96 (by decide) ?_
                  exact ih38 (x13 + 1) g21 _ _ _ hR hS (lv_sub hl [1, 2, 3, 4, 5, 0] rfl) h
                · replace h := ifp h c24
                  refine lv_iload hx hb dX0_strengthFor_90 (lv_at hl 5 rfl) ?_
                  obtain ⟨rfl, rfl⟩ := s2i h
                  exact r_iret0 hx hb hr hlk hR hS (Nat.zero_le _) (Nat.zero_le _) dX0_strengthFor_92
          exact J38 fuel 0 g _ _ _ hR hS (lv_sub hl [1, 2, 3, 4, 5, 0] rfl) h
        · replace h := ifp h c12
          exact J33  _ _ _ hR hS (lv_sub hl [] rfl) h
def rm_X0_ones : Room := { frames := 1, cells := 0, slots := 0, locals := 12 }
theorem he_X0_ones : yX0_ones.cls ≠ "java/lang/invoke/MethodHandle" ∧ yX0_ones.cls ≠ "java/lang/invoke/VarHandle" ∧ (parseMethodDescriptor yX0_ones.desc).map (fun d => d.parameters.length) = some 1 := by decide +kernel

set_option maxHeartbeats 4000000 in
set_option maxRecDepth 100000 in
theorem w_X0_ones {l : Launch} {G : Gx} {sh : SM} {g : GM} {gl : LM} {gr : RM} {n : Nat} (hSk : Sk sh gr) (a0 : Int32)  {r : Int32} (h : f_X0_ones  a0 = some r) : MetI l G yX0_ones (ws_ yX0_ones cX0_ones 3 (Option.some Jvm.ClassFile.FieldType.int)) rm_X0_ones [.int a0] sh g gl gr n (some (.int r)) sh g gl gr n := by
  refine MetI.of (by decide) (Nat.le_of_ble_eq_true rfl) ?_
  intro p e s m below meth c ls hx hb hr hml hown hts hlk hnm hW hK hR hS hl
  have hown : s.vm.findClass RX0 = some m.cls := hown
  have hF : CallFix p m c cX0_ones 3 s ([.int a0] : List Value).toArray lw_all RX0 := ⟨hx, hb, hml, hown, hts⟩
  have hl : lv_has ls 3 [(0, .int a0)] := hl
  unfold f_X0_ones at h
  refine lv_iconst (v := 0) hx hb dX0_ones_0 ki_0 ?_
  refine lv_istore_n (lv' := [(1, .int 0), (0, .int a0)]) hx hb dX0_ones_1 rfl hl (by decide) rfl (fun ls hl => ?_)
  refine lv_iload_n hx hb dX0_ones_2 rfl (lv_at hl 1 rfl) ?_
  refine lv_istore_n (lv' := [(2, .int a0), (1, .int 0), (0, .int a0)]) hx hb dX0_ones_3 rfl hl (by decide) rfl (fun ls hl => ?_)
  have J4 : ∀ (k4 : Nat) (x1 : Int32) (x2 : Int32) (H : Heap) (locs : List Loc) (ls : Array Slot), Rep G sh g gl gr n H → va_S (own G) s.heap H locs → lv_has ls 3 [(1, .int x1), (2, .int x2)] → l_X0_ones_4  k4 x1 x2 = some r → W p l e rm_X0_ones s m ([.int a0] : List Value).toArray below meth c H locs 0 0 (MQ below (QR G (some (.int r)) sh g gl gr n) ([.int a0] : List Value).toArray s rm_X0_ones.cells rm_X0_ones.slots (own G)) (F0 m 4 ls []) := by
    intro k4
    induction k4 with
    | zero => intro _ _ _ _ _ _ _ _; exact nofun
    | succ k4 ih4 =>
      intro x1 x2 H locs ls hR hS hl h
      unfold l_X0_ones_4 b_X0_ones_4 at h
      refine lv_iload_n hx hb dX0_ones_4 rfl (lv_at hl 1 rfl) ?_
      refine lv_if_eq (tgt := 20) hx hb dX0_ones_5 (by decide) (fun c3 => ?_) (fun c3 => ?_)
      · replace h := ifp h c3
        refine lv_iload_n hx hb dX0_ones_20 rfl (lv_at hl 0 rfl) ?_
        obtain rfl := s1i h
        exact r_iret0 hx hb hr hlk hR hS (Nat.zero_le _) (Nat.zero_le _) dX0_ones_21
      · replace h := ifn h c3
        refine lv_iinc (v := x1 + 1) (lv' := [(1, .int (x1 + 1)), (2, .int x2)]) hx hb dX0_ones_8 hl (k := 0) rfl rfl (by decide) rfl (fun ls hl => ?_)
        refine lv_iload_n hx hb dX0_ones_11 rfl (lv_at hl 1 rfl) ?_
        refine lv_iload_n hx hb dX0_ones_12 rfl (lv_at hl 1 rfl) ?_
        refine lv_iconst (v := 1) hx hb dX0_ones_13 ki_1 ?_
        refine lv_isub hx hb dX0_ones_14 ?_
        refine lv_iand hx hb dX0_ones_15 ?_
        refine lv_istore_n (lv' := [(2, .int (x2 &&& (x2 - 1))), (1, .int (x1 + 1))]) hx hb dX0_ones_16 rfl hl (by decide) rfl (fun ls hl => ?_)
        refine lv_goto (tgt := 4) hx hb dX0_ones_17 (by decide) ?_
        exact ih4 (x1 + 1) (x2 &&& (x2 - 1)) _ _ _ hR hS (lv_sub hl [1, 0] rfl) h
  exact J4 fuel 0 a0 _ _ _ hR hS (lv_sub hl [1, 0] rfl) h
def rm_X0_hangFor : Room := { frames := 11, cells := 0, slots := 0, locals := 395 }
theorem hd_X0_hangFor : yX0_hangFor.cls = "IntentVats" ∧ yX0_hangFor.cls ≠ "java/lang/invoke/MethodHandle" ∧ yX0_hangFor.cls ≠ "java/lang/invoke/VarHandle" ∧ (parseMethodDescriptor yX0_hangFor.desc).map (fun d => d.parameters.length) = some 2 := by decide +kernel
theorem he_X0_hangFor : yX0_hangFor.cls ≠ "java/lang/invoke/MethodHandle" ∧ yX0_hangFor.cls ≠ "java/lang/invoke/VarHandle" ∧ (parseMethodDescriptor yX0_hangFor.desc).map (fun d => d.parameters.length) = some 2 := hd_X0_hangFor.2

set_option maxHeartbeats 4000000 in
set_option maxRecDepth 100000 in
theorem w_X0_hangFor {l : Launch} {G : Gx} {sh : SM} {g : GM} {gl : LM} {gr : RM} {n : Nat} (hSk : Sk sh gr) (a1 : Int32) (a2 : Int32)  {r : Int32} {go : GM} (h : f_X0_hangFor g a1 a2 = some (r, go)) : MetI l G yX0_hangFor (ws_ yX0_hangFor cX0_hangFor 5 (Option.some Jvm.ClassFile.FieldType.int)) rm_X0_hangFor [.ref (adr G 64), .int a1, .int a2] sh g gl gr n (some (.int r)) sh go gl gr n := by
  refine MetI.of (by decide) (Nat.le_of_ble_eq_true rfl) ?_
  intro p e s m below meth c ls hx hb hr hml hown hts hlk hnm hW hK hR hS hl
  have hown : s.vm.findClass RX0 = some m.cls := hown
  have hF : CallFix p m c cX0_hangFor 5 s ([.ref (adr G 64), .int a1, .int a2] : List Value).toArray lw_all RX0 := ⟨hx, hb, hml, hown, hts⟩
  have hl : lv_has ls 5 [(0, .ref (adr G 64)), (1, .int a1), (2, .int a2)] := hl
  unfold f_X0_hangFor at h
  refine lv_iload_n hx hb dX0_hangFor_0 rfl (lv_at hl 1 rfl) ?_
  refine lv_iconst (v := 1) hx hb dX0_hangFor_1 ki_1 ?_
  refine lv_bipush (v := 30) hx hb dX0_hangFor_2 kb_30 ?_
  obtain ⟨r2, e1, h⟩ := obd h
  refine rc_S0 (rest := []) (st1 := [.int r2]) hF (w_X0_in hSk a1 1 30 e1) (va_cwS 3 hts (lw_S q508 q509 q100 q510) rfl rfl rfl he_X0_in ⟨Nat.le_of_ble_eq_true rfl, Nat.le_of_ble_eq_true rfl⟩) hW hR hS rfl hl.1 rfl (Nat.le_of_ble_eq_true rfl) rfl dX0_hangFor_4 ⟨rfl, rfl⟩ ⟨Nat.zero_le _, Nat.zero_le _⟩ (fun H locs hR hS => ?_)
  have J20 : ∀  (H : Heap) (locs : List Loc) (ls : Array Slot), Rep G sh g gl gr n H → va_S (own G) s.heap H locs → lv_has ls 5 [] → j_X0_hangFor_20 g  = some (r, go) → W p l e rm_X0_hangFor s m ([.ref (adr G 64), .int a1, .int a2] : List Value).toArray below meth c H locs 0 0 (MQ below (QR G (some (.int r)) sh go gl gr n) ([.ref (adr G 64), .int a1, .int a2] : List Value).toArray s rm_X0_hangFor.cells rm_X0_hangFor.slots (own G)) (F0 m 20 ls []) := by
    intro  H locs ls hR hS hl h
    unfold j_X0_hangFor_20 at h
    refine lv_iconst (v := (-1)) hx hb dX0_hangFor_20 ki_m1 ?_
    obtain ⟨rfl, rfl⟩ := s2i h
    exact r_iret0 hx hb hr hlk hR hS (Nat.zero_le _) (Nat.zero_le _) dX0_hangFor_21
  refine lv_if_eq (tgt := 20) hx hb dX0_hangFor_7 (by decide) (fun c3 => ?_) (fun c3 => ?_)
  · replace h := ifp h c3
    exact J20  _ _ _ hR hS (lv_sub hl [] rfl) h
  · replace h := ifn h c3
    refine lv_iload_n hx hb dX0_hangFor_10 rfl (lv_at hl 2 rfl) ?_
    refine lv_iconst (v := 0) hx hb dX0_hangFor_11 ki_0 ?_
    refine lv_bipush (v := 8) hx hb dX0_hangFor_12 kb_8 ?_
    obtain ⟨r5, e4, h⟩ := obd h
    refine rc_S0 (rest := []) (st1 := [.int r5]) hF (w_X0_in hSk a2 0 8 e4) (va_cwS 3 hts (lw_S q508 q509 q100 q510) rfl rfl rfl he_X0_in ⟨Nat.le_of_ble_eq_true rfl, Nat.le_of_ble_eq_true rfl⟩) hW hR hS rfl hl.1 rfl (Nat.le_of_ble_eq_true rfl) rfl dX0_hangFor_14 ⟨rfl, rfl⟩ ⟨Nat.zero_le _, Nat.zero_le _⟩ (fun H locs hR hS => ?_)
    refine lv_if_ne (tgt := 22) hx hb dX0_hangFor_17 (by decide) (fun c6 => ?_) (fun c6 => ?_)
    · replace h := ifn h c6
      refine lv_bipush (v := (-3)) hx hb dX0_hangFor_22 kb_m3 ?_
      refine lv_istore_n (lv' := [(3, .int (-3)), (0, .ref (adr G 64)), (1, .int a1), (2, .int a2)]) hx hb dX0_hangFor_24 rfl hl (by decide) rfl (fun ls hl => ?_)
      refine lv_iconst (v := 0) hx hb dX0_hangFor_25 ki_0 ?_
      refine lv_istore (lv' := [(4, .int 0), (3, .int (-3)), (0, .ref (adr G 64)), (1, .int a1), (2, .int a2)]) hx hb dX0_hangFor_26 hl (by decide) rfl (fun ls hl => ?_)
      have J28 : ∀ (k28 : Nat) (x7 : Int32) (x8 : Int32) (g9 : GM) (H : Heap) (locs : List Loc) (ls : Array Slot), Rep G sh g9 gl gr n H → va_S (own G) s.heap H locs → lv_has ls 5 [(0, .ref (adr G 64)), (1, .int a1), (2, .int a2), (3, .int x7), (4, .int x8)] → l_X0_hangFor_28 a1 a2 k28 x7 x8 g9 = some (r, go) → W p l e rm_X0_hangFor s m ([.ref (adr G 64), .int a1, .int a2] : List Value).toArray below meth c H locs 0 0 (MQ below (QR G (some (.int r)) sh go gl gr n) ([.ref (adr G 64), .int a1, .int a2] : List Value).toArray s rm_X0_hangFor.cells rm_X0_hangFor.slots (own G)) (F0 m 28 ls []) := by
        intro k28
        induction k28 with
        | zero => intro _ _ _ _ _ _ _ _ _; exact nofun
        | succ k28 ih28 =>
          intro x7 x8 g9 H locs ls hR hS hl h
          unfold l_X0_hangFor_28 b_X0_hangFor_28 at h
          refine lv_iload hx hb dX0_hangFor_28 (lv_at hl 4 rfl) ?_
          refine lv_iconst (v := 1) hx hb dX0_hangFor_30 ki_1 ?_
          refine lv_aload_n hx hb dX0_hangFor_31 rfl (lv_at hl 0 rfl) ?_
          refine r_getr hx hb hts cfX0 hown hK hR (sk_64 hSk) 0 (by decide) rfl (sr_64_0 hSk) (hts _ q449) (fun _ h => h) dX0_hangFor_32 ?_
          refine r_getiN hx hb hts cfX1 hown hK hR (sk_65 hSk) 0 (by decide) rfl (hW.nestF q153) (fun _ h => h) dX0_hangFor_35 ?_
          refine lv_ishl hx hb dX0_hangFor_38 ?_
          refine lv_icmp_ge (tgt := 105) hx hb dX0_hangFor_39 (by decide) (fun c10 => ?_) (fun c10 => ?_)
          · replace h := ifp h c10
            refine lv_iload_n hx hb dX0_hangFor_105 rfl (lv_at hl 3 rfl) ?_
            obtain ⟨rfl, rfl⟩ := s2i h
            exact r_iret0 hx hb hr hlk hR hS (Nat.zero_le _) (Nat.zero_le _) dX0_hangFor_106
          · replace h := ifn h c10
            refine lv_iload_n hx hb dX0_hangFor_42 rfl (lv_at hl 3 rfl) ?_
            refine lv_bipush (v := (-3)) hx hb dX0_hangFor_43 kb_m3 ?_
            have J99 : ∀ (x11 : Int32) (g12 : GM) (H : Heap) (locs : List Loc) (ls : Array Slot), Rep G sh g12 gl gr n H → va_S (own G) s.heap H locs → lv_has ls 5 [(0, .ref (adr G 64)), (1, .int a1), (2, .int a2), (3, .int x11), (4, .int x8)] → j_X0_hangFor_99 x8 (l_X0_hangFor_28 a1 a2 k28) x11 g12 = some (r, go) → W p l e rm_X0_hangFor s m ([.ref (adr G 64), .int a1, .int a2] : List Value).toArray below meth c H locs 0 0 (MQ below (QR G (some (.int r)) sh go gl gr n) ([.ref (adr G 64), .int a1, .int a2] : List Value).toArray s rm_X0_hangFor.cells rm_X0_hangFor.slots (own G)) (F0 m 99 ls []) := by
              intro x11 g12 H locs ls hR hS hl h
              unfold j_X0_hangFor_99 at h
              refine lv_iinc (v := x8 + 1) (lv' := [(4, .int (x8 + 1)), (0, .ref (adr G 64)), (1, .int a1), (2, .int a2), (3, .int x11)]) hx hb dX0_hangFor_99 hl (k := 4) rfl rfl (by decide) rfl (fun ls hl => ?_)
              refine lv_goto (tgt := 28) hx hb dX0_hangFor_102 (by decide) ?_
              exact ih28 x11 (x8 + 1) g12 _ _ _ hR hS (lv_sub hl [1, 2, 3, 4, 0] rfl) h
            have J63 : ∀  (H : Heap) (locs : List Loc) (ls : Array Slot), Rep G sh g9 gl gr n H → va_S (own G) s.heap H locs → lv_has ls 5 [(0, .ref (adr G 64)), (1, .int a1), (2, .int a2), (3, .int x7), (4, .int x8)] → j_X0_hangFor_63 a1 a2 x7 x8 g9 (l_X0_hangFor_28 a1 a2 k28)  = some (r, go) → W p l e rm_X0_hangFor s m ([.ref (adr G 64), .int a1, .int a2] : List Value).toArray below meth c H locs 0 0 (MQ below (QR G (some (.int r)) sh go gl gr n) ([.ref (adr G 64), .int a1, .int a2] : List Value).toArray s rm_X0_hangFor.cells rm_X0_hangFor.slots (own G)) (F0 m 63 ls []) := by
              intro  H locs ls hR hS hl h
              unfold j_X0_hangFor_63 at h
              refine lv_aload_n hx hb dX0_hangFor_63 rfl (lv_at hl 0 rfl) ?_
              refine r_getr hx hb hts cfX0 hown hK hR (sk_64 hSk) 3 (by decide) rfl (sr_64_3 hSk) (hts _ q452) (fun _ h => h) dX0_hangFor_64 ?_
              refine lv_aload_n hx hb dX0_hangFor_67 rfl (lv_at hl 0 rfl) ?_
              refine r_getr hx hb hts cfX0 hown hK hR (sk_64 hSk) 0 (by decide) rfl (sr_64_0 hSk) (hts _ q449) (fun _ h => h) dX0_hangFor_68 ?_
              obtain ⟨g14, e13, h⟩ := obd h
              refine rc_V0 (rest := []) (st1 := []) hF (w_X1_become hSk 92 65 (isMl_92) (isMl_65) e13) (cwV 1 hts (lw_V q516 q517 q518 q101 q519) rfl rfl rfl hd_X1_become ⟨Nat.le_of_ble_eq_true rfl, Nat.le_of_ble_eq_true rfl⟩) cfX1 (sk_92 hSk) hK hW hR hS rfl hl.1 rfl (Nat.le_of_ble_eq_true rfl) rfl dX0_hangFor_71 ⟨rfl, rfl⟩ ⟨Nat.zero_le _, Nat.zero_le _⟩ (fun H locs hR hS => ?_)
              refine lv_aload_n hx hb dX0_hangFor_74 rfl (lv_at hl 0 rfl) ?_
              refine r_getr hx hb hts cfX0 hown hK hR (sk_64 hSk) 3 (by decide) rfl (sr_64_3 hSk) (hts _ q452) (fun _ h => h) dX0_hangFor_75 ?_
              refine lv_iload hx hb dX0_hangFor_78 (lv_at hl 4 rfl) ?_
              obtain ⟨g16, e15, h⟩ := obd h
              refine r_putiN hx hb hts cfX1 hown hK hR hS (sk_92 hSk) 2 (by decide) rfl (hW.nestF q158) (fun _ h => h) rfl rfl rfl e15 dX0_hangFor_80 (fun H locs hR hS => ?_)
              refine lv_aload_n hx hb dX0_hangFor_83 rfl (lv_at hl 0 rfl) ?_
              refine lv_iload_n hx hb dX0_hangFor_84 rfl (lv_at hl 1 rfl) ?_
              obtain ⟨r18, g19, e17, h⟩ := obd2 h
              refine rc_V0 (rest := []) (st1 := [.int r18]) hF (w_X0_spoiltTried hSk a1 e17) (cwV 1 hts (lw_V q927 q929 qs23 q100 q930) rfl rfl rfl hd_X0_spoiltTried ⟨Nat.le_of_ble_eq_true rfl, Nat.le_of_ble_eq_true rfl⟩) cfX0 (sk_64 hSk) hK hW hR hS rfl hl.1 rfl (Nat.le_of_ble_eq_true rfl) rfl dX0_hangFor_85 ⟨rfl, rfl⟩ ⟨Nat.zero_le _, Nat.zero_le _⟩ (fun H locs hR hS => ?_)
              refine lv_iload_n hx hb dX0_hangFor_88 rfl (lv_at hl 2 rfl) ?_
              have J98 : ∀ (x20 : Int32) (H : Heap) (locs : List Loc) (ls : Array Slot), Rep G sh g19 gl gr n H → va_S (own G) s.heap H locs → lv_has ls 5 [(0, .ref (adr G 64)), (1, .int a1), (2, .int a2), (4, .int x8)] → j_X0_hangFor_98 x8 (l_X0_hangFor_28 a1 a2 k28) g19 x20 = some (r, go) → W p l e rm_X0_hangFor s m ([.ref (adr G 64), .int a1, .int a2] : List Value).toArray below meth c H locs 0 0 (MQ below (QR G (some (.int r)) sh go gl gr n) ([.ref (adr G 64), .int a1, .int a2] : List Value).toArray s rm_X0_hangFor.cells rm_X0_hangFor.slots (own G)) (F0 m 98 ls [.int x20]) := by
                intro x20 H locs ls hR hS hl h
                unfold j_X0_hangFor_98 at h
                refine lv_istore_n (lv' := [(3, .int x20), (0, .ref (adr G 64)), (1, .int a1), (2, .int a2), (4, .int x8)]) hx hb dX0_hangFor_98 rfl hl (by decide) rfl (fun ls hl => ?_)
                exact J99 x20 g19 _ _ _ hR hS (lv_sub hl [1, 2, 3, 0, 4] rfl) h
              refine lv_icmp_gt (tgt := 97) hx hb dX0_hangFor_89 (by decide) (fun c21 => ?_) (fun c21 => ?_)
              · replace h := ifp h c21
                refine lv_iload_n hx hb dX0_hangFor_97 rfl (lv_at hl 3 rfl) ?_
                exact J98 x7 _ _ _ hR hS (lv_sub hl [0, 1, 2, 4] rfl) h
              · replace h := ifn h c21
                refine lv_iload hx hb dX0_hangFor_92 (lv_at hl 4 rfl) ?_
                refine lv_goto (tgt := 98) hx hb dX0_hangFor_94 (by decide) ?_
                exact J98 x8 _ _ _ hR hS (lv_sub hl [0, 1, 2, 4] rfl) h
            refine lv_icmp_eq (tgt := 63) hx hb dX0_hangFor_45 (by decide) (fun c22 => ?_) (fun c22 => ?_)
            · replace h := ifp h c22
              exact J63  _ _ _ hR hS (lv_sub hl [0, 1, 2, 3, 4] rfl) h
            · replace h := ifn h c22
              refine lv_iload hx hb dX0_hangFor_48 (lv_at hl 4 rfl) ?_
              obtain ⟨r24, e23, h⟩ := obd h
              refine rc_S0 (rest := []) (st1 := [.int r24]) hF (w_X0_ones hSk x8 e23) (va_cwS 1 hts (lw_S q959 q960 q100 q961) rfl rfl rfl he_X0_ones ⟨Nat.le_of_ble_eq_true rfl, Nat.le_of_ble_eq_true rfl⟩) hW hR hS rfl hl.1 rfl (Nat.le_of_ble_eq_true rfl) rfl dX0_hangFor_50 ⟨rfl, rfl⟩ ⟨Nat.zero_le _, Nat.zero_le _⟩ (fun H locs hR hS => ?_)
              refine lv_iload_n hx hb dX0_hangFor_53 rfl (lv_at hl 3 rfl) ?_
              obtain ⟨r26, e25, h⟩ := obd h
              refine rc_S0 (rest := [.int r24]) (st1 := [.int r26, .int r24]) hF (w_X0_ones hSk x7 e25) (va_cwS 1 hts (lw_S q959 q960 q100 q961) rfl rfl rfl he_X0_ones ⟨Nat.le_of_ble_eq_true rfl, Nat.le_of_ble_eq_true rfl⟩) hW hR hS rfl hl.1 rfl (Nat.le_of_ble_eq_true rfl) rfl dX0_hangFor_54 ⟨rfl, rfl⟩ ⟨Nat.zero_le _, Nat.zero_le _⟩ (fun H locs hR hS => ?_)
              refine lv_icmp_lt (tgt := 63) hx hb dX0_hangFor_57 (by decide) (fun c27 => ?_) (fun c27 => ?_)
              · replace h := ifp h c27
                exact J63  _ _ _ hR hS (lv_sub hl [0, 1, 2, 3, 4] rfl) h
              · replace h := ifn h c27
                refine lv_goto (tgt := 99) hx hb dX0_hangFor_60 (by decide) ?_
                exact J99 x7 g9 _ _ _ hR hS (lv_sub hl [0, 1, 2, 3, 4] rfl) h
      exact J28 fuel (-3) 0 g _ _ _ hR hS (lv_sub hl [2, 3, 4, 1, 0] rfl) h
    · replace h := ifp h c6
      exact J20  _ _ _ hR hS (lv_sub hl [] rfl) h
def rm_X0_isSheet : Room := { frames := 2, cells := 0, slots := 0, locals := 34 }
theorem he_X0_isSheet : yX0_isSheet.cls ≠ "java/lang/invoke/MethodHandle" ∧ yX0_isSheet.cls ≠ "java/lang/invoke/VarHandle" ∧ (parseMethodDescriptor yX0_isSheet.desc).map (fun d => d.parameters.length) = some 1 := by decide +kernel

set_option maxHeartbeats 4000000 in
set_option maxRecDepth 100000 in
theorem w_X0_isSheet {l : Launch} {G : Gx} {sh : SM} {g : GM} {gl : LM} {gr : RM} {n : Nat} (hSk : Sk sh gr) (a0 : Int32)  {r : Int32} (h : f_X0_isSheet  a0 = some r) : MetI l G yX0_isSheet (ws_ yX0_isSheet cX0_isSheet 1 (Option.some Jvm.ClassFile.FieldType.boolean)) rm_X0_isSheet [.int a0] sh g gl gr n (some (.int r)) sh g gl gr n := by
  refine MetI.of (by decide) (Nat.le_of_ble_eq_true rfl) ?_
  intro p e s m below meth c ls hx hb hr hml hown hts hlk hnm hW hK hR hS hl
  have hown : s.vm.findClass RX0 = some m.cls := hown
  have hF : CallFix p m c cX0_isSheet 1 s ([.int a0] : List Value).toArray lw_all RX0 := ⟨hx, hb, hml, hown, hts⟩
  have hl : lv_has ls 1 [(0, .int a0)] := hl
  unfold f_X0_isSheet at h
  refine lv_iload_n hx hb dX0_isSheet_0 rfl (lv_at hl 0 rfl) ?_
  refine lv_iconst (v := 0) hx hb dX0_isSheet_1 ki_0 ?_
  refine lv_iconst (v := 3) hx hb dX0_isSheet_2 ki_3 ?_
  obtain ⟨r2, e1, h⟩ := obd h
  refine rc_S0 (rest := []) (st1 := [.int r2]) hF (w_X0_in hSk a0 0 3 e1) (va_cwS 3 hts (lw_S q508 q509 q100 q510) rfl rfl rfl he_X0_in ⟨Nat.le_of_ble_eq_true rfl, Nat.le_of_ble_eq_true rfl⟩) hW hR hS rfl hl.1 rfl (Nat.le_of_ble_eq_true rfl) rfl dX0_isSheet_3 ⟨rfl, rfl⟩ ⟨Nat.zero_le _, Nat.zero_le _⟩ (fun H locs hR hS => ?_)
  obtain ⟨c3, h⟩ := ogrd h
  obtain rfl := s1i h
  exact r_zret0 hx hb hr hlk hR hS (Nat.zero_le _) (Nat.zero_le _) (nb01 c3) dX0_isSheet_6
def rm_X0_there : Room := { frames := 3, cells := 0, slots := 0, locals := 12 }
theorem hd_X0_there : yX0_there.cls = "IntentVats" ∧ yX0_there.cls ≠ "java/lang/invoke/MethodHandle" ∧ yX0_there.cls ≠ "java/lang/invoke/VarHandle" ∧ (parseMethodDescriptor yX0_there.desc).map (fun d => d.parameters.length) = some 1 := by decide +kernel
theorem he_X0_there : yX0_there.cls ≠ "java/lang/invoke/MethodHandle" ∧ yX0_there.cls ≠ "java/lang/invoke/VarHandle" ∧ (parseMethodDescriptor yX0_there.desc).map (fun d => d.parameters.length) = some 1 := hd_X0_there.2
set_option maxHeartbeats 4000000 in
set_option maxRecDepth 100000 in
theorem w_X0_there {l : Launch} {G : Gx} {sh : SM} {g : GM} {gl : LM} {gr : RM} {n0 : Nat} (hSk : Sk sh gr) (a1 : Option Nat)  {oo : (Nat ⊕ Nat)} {o : XO} (h : f_X0_there  a1 = some oo) (ho : o = (oo.elim (fun p => .inl (some (.ref (adr G p)), sh, g, gl, gr)) (fun q => .inr (q, sh, g, gl, gr)))) : MetX l G yX0_there (ws_ yX0_there cX0_there 2 (Option.some (Jvm.ClassFile.FieldType.object "java/lang/Object"))) rm_X0_there [.ref (adr G 64), va_rf (Option.map (adr G) a1)] sh g gl gr n0 o := by
  refine MetX.of (by decide) (by cases a1 <;> exact Nat.le_of_ble_eq_true rfl) ?_
  intro p e s m below meth c ls hx hb hr hml hown hts hlk htb hW hK hR hS hl
  have hn : n0 ≤ n0 := Nat.le_refl _
  have hown : s.vm.findClass RX0 = some m.cls := hown
  have hF : CallFix p m c cX0_there 2 s ([.ref (adr G 64), va_rf (Option.map (adr G) a1)] : List Value).toArray lw_all RX0 := ⟨hx, hb, hml, hown, hts⟩
  have hl : lv_has ls 2 [(0, .ref (adr G 64)), (1, va_rf (Option.map (adr G) a1))] := hl
  unfold f_X0_there at h
  refine r_aloadV_n hx hb dX0_there_0 rfl (lv_at hl 1 rfl) ?_
  cases a1 with
  | none =>
    replace h := onull_n h
    refine lv_ifnonnullN hx hb dX0_there_1 ?_
    refine lv_aload_n hx hb dX0_there_4 rfl (lv_at hl 0 rfl) ?_
    refine r_getr hx hb hts cfX0 hown hK hR (sk_64 hSk) 14 (by decide) rfl (sr_64_14 hSk) (hts _ q463) (fun _ h => h) dX0_there_5 ?_
    obtain rfl := s1i h
    exact x_throw hx hb cfX12 hK (sk_121 hSk) rfl rfl htb hlk hn hR hS (Nat.zero_le _) (Nat.zero_le _) ho dX0_there_8
  | some v1 =>
    replace h := onull_s h
    refine lv_ifnonnull (tgt := 9) hx hb dX0_there_1 (by decide) ?_
    refine lv_aload_n hx hb dX0_there_9 rfl (lv_at hl 1 rfl) ?_
    obtain rfl := s1i h
    exact x_aret (v := some (adr G v1)) hx hb hr (Or.inl ⟨_, rfl⟩) hlk hn hR hS (Nat.zero_le _) (Nat.zero_le _) ho dX0_there_10
