/-! walks: X8_here, X8_isLetter, X8_isDigit, X8_next, X8_begins, X8_isWord, X8_placeOf, X9_at, X8_need, X8_may, X8_seen, X8_number, X8_cloth, X8_must, X8_vat, X8_strong -/
def rm_X8_here : Room := { frames := 1, cells := 0, slots := 0, locals := 12 }
theorem hd_X8_here : yX8_here.cls = "IntentVats$Reader" ∧ yX8_here.cls ≠ "java/lang/invoke/MethodHandle" ∧ yX8_here.cls ≠ "java/lang/invoke/VarHandle" ∧ (parseMethodDescriptor yX8_here.desc).map (fun d => d.parameters.length) = some 0 := by decide +kernel
theorem he_X8_here : yX8_here.cls ≠ "java/lang/invoke/MethodHandle" ∧ yX8_here.cls ≠ "java/lang/invoke/VarHandle" ∧ (parseMethodDescriptor yX8_here.desc).map (fun d => d.parameters.length) = some 0 := hd_X8_here.2

set_option maxHeartbeats 4000000 in
set_option maxRecDepth 100000 in
theorem w_X8_here {l : Launch} {G : Gx} {sh : SM} {g : GM} {gl : LM} {gr : RM} {n : Nat} (hSk : Sk sh gr)  (hTx : gr 109 4 = some 108) {r : Int32} (h : f_X8_here g  = some r) : MetI l G yX8_here (ws_ yX8_here cX8_here 1 (Option.some Jvm.ClassFile.FieldType.int)) rm_X8_here [.ref (adr G 109)] sh g gl gr n (some (.int r)) sh g gl gr n := by
  refine MetI.of (by decide) (Nat.le_of_ble_eq_true rfl) ?_
  intro p e s m below meth c ls hx hb hr hml hown hts hlk hnm hW hK hR hS hl
  have hown : s.vm.findClass RX8 = some m.cls := hown
  have hF : CallFix p m c cX8_here 1 s ([.ref (adr G 109)] : List Value).toArray lw_all RX8 := ⟨hx, hb, hml, hown, hts⟩
  have hl : lv_has ls 1 [(0, .ref (adr G 109))] := hl
  unfold f_X8_here at h
  refine lv_aload_n hx hb dX8_here_0 rfl (lv_at hl 0 rfl) ?_
  refine r_geti hx hb hts cfX8 hown hK hR (sk_109 hSk) 6 (by decide) rfl (hts _ q357) (fun _ h => h) dX8_here_1 ?_
  refine lv_aload_n hx hb dX8_here_4 rfl (lv_at hl 0 rfl) ?_
  refine r_geti hx hb hts cfX8 hown hK hR (sk_109 hSk) 5 (by decide) rfl (hts _ q356) (fun _ h => h) dX8_here_5 ?_
  have J24 : ∀ (x1 : Int32) (H : Heap) (locs : List Loc) (ls : Array Slot), Rep G sh g gl gr n H → va_S (own G) s.heap H locs → lv_has ls 1 [] → j_X8_here_24  x1 = some r → W p l e rm_X8_here s m ([.ref (adr G 109)] : List Value).toArray below meth c H locs 0 0 (MQ below (QR G (some (.int r)) sh g gl gr n) ([.ref (adr G 109)] : List Value).toArray s rm_X8_here.cells rm_X8_here.slots (own G)) (F0 m 24 ls [.int x1]) := by
    intro x1 H locs ls hR hS hl h
    unfold j_X8_here_24 at h
    obtain rfl := s1i h
    exact r_iret0 hx hb hr hlk hR hS (Nat.zero_le _) (Nat.zero_le _) dX8_here_24
  refine lv_icmp_ge (tgt := 23) hx hb dX8_here_8 (by decide) (fun c2 => ?_) (fun c2 => ?_)
  · replace h := ifp h c2
    refine lv_iconst (v := (-1)) hx hb dX8_here_23 ki_m1 ?_
    exact J24 (-1) _ _ _ hR hS (lv_sub hl [] rfl) h
  · replace h := ifn h c2
    refine lv_aload_n hx hb dX8_here_11 rfl (lv_at hl 0 rfl) ?_
    refine r_getr hx hb hts cfX8 hown hK hR (sk_109 hSk) 4 (by decide) rfl hTx (hts _ q355) (fun _ h => h) dX8_here_12 ?_
    refine lv_aload_n hx hb dX8_here_15 rfl (lv_at hl 0 rfl) ?_
    refine r_geti hx hb hts cfX8 hown hK hR (sk_109 hSk) 6 (by decide) rfl (hts _ q357) (fun _ h => h) dX8_here_16 ?_
    obtain ⟨v4, e3, h⟩ := obd h
    refine r_ldb hx hb hK hR (sk_108 hSk) e3 dX8_here_19 ?_
    refine lv_goto (tgt := 24) hx hb dX8_here_20 (by decide) ?_
    exact J24 v4 _ _ _ hR hS (lv_sub hl [] rfl) h
def rm_X8_isLetter : Room := { frames := 1, cells := 0, slots := 0, locals := 12 }
theorem he_X8_isLetter : yX8_isLetter.cls ≠ "java/lang/invoke/MethodHandle" ∧ yX8_isLetter.cls ≠ "java/lang/invoke/VarHandle" ∧ (parseMethodDescriptor yX8_isLetter.desc).map (fun d => d.parameters.length) = some 1 := by decide +kernel

set_option maxHeartbeats 4000000 in
set_option maxRecDepth 100000 in
theorem w_X8_isLetter {l : Launch} {G : Gx} {sh : SM} {g : GM} {gl : LM} {gr : RM} {n : Nat} (hSk : Sk sh gr) (a0 : Int32)  {r : Int32} (h : f_X8_isLetter  a0 = some r) : MetI l G yX8_isLetter (ws_ yX8_isLetter cX8_isLetter 1 (Option.some Jvm.ClassFile.FieldType.boolean)) rm_X8_isLetter [.int a0] sh g gl gr n (some (.int r)) sh g gl gr n := by
  refine MetI.of (by decide) (Nat.le_of_ble_eq_true rfl) ?_
  intro p e s m below meth c ls hx hb hr hml hown hts hlk hnm hW hK hR hS hl
  have hown : s.vm.findClass RX8 = some m.cls := hown
  have hF : CallFix p m c cX8_isLetter 1 s ([.int a0] : List Value).toArray lw_all RX8 := ⟨hx, hb, hml, hown, hts⟩
  have hl : lv_has ls 1 [(0, .int a0)] := hl
  unfold f_X8_isLetter at h
  refine lv_iload_n hx hb dX8_isLetter_0 rfl (lv_at hl 0 rfl) ?_
  refine lv_bipush (v := 97) hx hb dX8_isLetter_1 kb_97 ?_
  have J17 : ∀ (x1 : Int32) (H : Heap) (locs : List Loc) (ls : Array Slot), Rep G sh g gl gr n H → va_S (own G) s.heap H locs → lv_has ls 1 [] → j_X8_isLetter_17  x1 = some r → W p l e rm_X8_isLetter s m ([.int a0] : List Value).toArray below meth c H locs 0 0 (MQ below (QR G (some (.int r)) sh g gl gr n) ([.int a0] : List Value).toArray s rm_X8_isLetter.cells rm_X8_isLetter.slots (own G)) (F0 m 17 ls [.int x1]) := by
    intro x1 H locs ls hR hS hl h
    unfold j_X8_isLetter_17 at h
    obtain ⟨c2, h⟩ := ogrd h
    obtain rfl := s1i h
    exact r_zret0 hx hb hr hlk hR hS (Nat.zero_le _) (Nat.zero_le _) (nb01 c2) dX8_isLetter_17
  have J16 : ∀  (H : Heap) (locs : List Loc) (ls : Array Slot), Rep G sh g gl gr n H → va_S (own G) s.heap H locs → lv_has ls 1 [] → j_X8_isLetter_16   = some r → W p l e rm_X8_isLetter s m ([.int a0] : List Value).toArray below meth c H locs 0 0 (MQ below (QR G (some (.int r)) sh g gl gr n) ([.int a0] : List Value).toArray s rm_X8_isLetter.cells rm_X8_isLetter.slots (own G)) (F0 m 16 ls []) := by
    intro  H locs ls hR hS hl h
    unfold j_X8_isLetter_16 at h
    refine lv_iconst (v := 0) hx hb dX8_isLetter_16 ki_0 ?_
    exact J17 0 _ _ _ hR hS (lv_sub hl [] rfl) h
  refine lv_icmp_lt (tgt := 16) hx hb dX8_isLetter_3 (by decide) (fun c3 => ?_) (fun c3 => ?_)
  · replace h := ifp h c3
    exact J16  _ _ _ hR hS (lv_sub hl [] rfl) h
  · replace h := ifn h c3
    refine lv_iload_n hx hb dX8_isLetter_6 rfl (lv_at hl 0 rfl) ?_
    refine lv_bipush (v := 122) hx hb dX8_isLetter_7 kb_122 ?_
    refine lv_icmp_gt (tgt := 16) hx hb dX8_isLetter_9 (by decide) (fun c4 => ?_) (fun c4 => ?_)
    · replace h := ifp h c4
      exact J16  _ _ _ hR hS (lv_sub hl [] rfl) h
    · replace h := ifn h c4
      refine lv_iconst (v := 1) hx hb dX8_isLetter_12 ki_1 ?_
      refine lv_goto (tgt := 17) hx hb dX8_isLetter_13 (by decide) ?_
      exact J17 1 _ _ _ hR hS (lv_sub hl [] rfl) h
def rm_X8_isDigit : Room := { frames := 1, cells := 0, slots := 0, locals := 12 }
theorem he_X8_isDigit : yX8_isDigit.cls ≠ "java/lang/invoke/MethodHandle" ∧ yX8_isDigit.cls ≠ "java/lang/invoke/VarHandle" ∧ (parseMethodDescriptor yX8_isDigit.desc).map (fun d => d.parameters.length) = some 1 := by decide +kernel

set_option maxHeartbeats 4000000 in
set_option maxRecDepth 100000 in
theorem w_X8_isDigit {l : Launch} {G : Gx} {sh : SM} {g : GM} {gl : LM} {gr : RM} {n : Nat} (hSk : Sk sh gr) (a0 : Int32)  {r : Int32} (h : f_X8_isDigit  a0 = some r) : MetI l G yX8_isDigit (ws_ yX8_isDigit cX8_isDigit 1 (Option.some Jvm.ClassFile.FieldType.boolean)) rm_X8_isDigit [.int a0] sh g gl gr n (some (.int r)) sh g gl gr n := by
  refine MetI.of (by decide) (Nat.le_of_ble_eq_true rfl) ?_
  intro p e s m below meth c ls hx hb hr hml hown hts hlk hnm hW hK hR hS hl
  have hown : s.vm.findClass RX8 = some m.cls := hown
  have hF : CallFix p m c cX8_isDigit 1 s ([.int a0] : List Value).toArray lw_all RX8 := ⟨hx, hb, hml, hown, hts⟩
  have hl : lv_has ls 1 [(0, .int a0)] := hl
  unfold f_X8_isDigit at h
  refine lv_iload_n hx hb dX8_isDigit_0 rfl (lv_at hl 0 rfl) ?_
  refine lv_bipush (v := 48) hx hb dX8_isDigit_1 kb_48 ?_
  have J17 : ∀ (x1 : Int32) (H : Heap) (locs : List Loc) (ls : Array Slot), Rep G sh g gl gr n H → va_S (own G) s.heap H locs → lv_has ls 1 [] → j_X8_isDigit_17  x1 = some r → W p l e rm_X8_isDigit s m ([.int a0] : List Value).toArray below meth c H locs 0 0 (MQ below (QR G (some (.int r)) sh g gl gr n) ([.int a0] : List Value).toArray s rm_X8_isDigit.cells rm_X8_isDigit.slots (own G)) (F0 m 17 ls [.int x1]) := by
    intro x1 H locs ls hR hS hl h
    unfold j_X8_isDigit_17 at h
    obtain ⟨c2, h⟩ := ogrd h
    obtain rfl := s1i h
    exact r_zret0 hx hb hr hlk hR hS (Nat.zero_le _) (Nat.zero_le _) (nb01 c2) dX8_isDigit_17
  have J16 : ∀  (H : Heap) (locs : List Loc) (ls : Array Slot), Rep G sh g gl gr n H → va_S (own G) s.heap H locs → lv_has ls 1 [] → j_X8_isDigit_16   = some r → W p l e rm_X8_isDigit s m ([.int a0] : List Value).toArray below meth c H locs 0 0 (MQ below (QR G (some (.int r)) sh g gl gr n) ([.int a0] : List Value).toArray s rm_X8_isDigit.cells rm_X8_isDigit.slots (own G)) (F0 m 16 ls []) := by
    intro  H locs ls hR hS hl h
    unfold j_X8_isDigit_16 at h
    refine lv_iconst (v := 0) hx hb dX8_isDigit_16 ki_0 ?_
    exact J17 0 _ _ _ hR hS (lv_sub hl [] rfl) h
  refine lv_icmp_lt (tgt := 16) hx hb dX8_isDigit_3 (by decide) (fun c3 => ?_) (fun c3 => ?_)
  · replace h := ifp h c3
    exact J16  _ _ _ hR hS (lv_sub hl [] rfl) h
  · replace h := ifn h c3
    refine lv_iload_n hx hb dX8_isDigit_6 rfl (lv_at hl 0 rfl) ?_
    refine lv_bipush (v := 57) hx hb dX8_isDigit_7 kb_57 ?_
    refine lv_icmp_gt (tgt := 16) hx hb dX8_isDigit_9 (by decide) (fun c4 => ?_) (fun c4 => ?_)
    · replace h := ifp h c4
      exact J16  _ _ _ hR hS (lv_sub hl [] rfl) h
    · replace h := ifn h c4
      refine lv_iconst (v := 1) hx hb dX8_isDigit_12 ki_1 ?_
      refine lv_goto (tgt := 17) hx hb dX8_isDigit_13 (by decide) ?_
      exact J17 1 _ _ _ hR hS (lv_sub hl [] rfl) h
def rm_X8_next : Room := { frames := 2, cells := 0, slots := 0, locals := 32 }
theorem hd_X8_next : yX8_next.cls = "IntentVats$Reader" ∧ yX8_next.cls ≠ "java/lang/invoke/MethodHandle" ∧ yX8_next.cls ≠ "java/lang/invoke/VarHandle" ∧ (parseMethodDescriptor yX8_next.desc).map (fun d => d.parameters.length) = some 0 := by decide +kernel
theorem he_X8_next : yX8_next.cls ≠ "java/lang/invoke/MethodHandle" ∧ yX8_next.cls ≠ "java/lang/invoke/VarHandle" ∧ (parseMethodDescriptor yX8_next.desc).map (fun d => d.parameters.length) = some 0 := hd_X8_next.2

set_option maxHeartbeats 4000000 in
set_option maxRecDepth 100000 in
theorem w_X8_next {l : Launch} {G : Gx} {sh : SM} {g : GM} {gl : LM} {gr : RM} {n : Nat} (hSk : Sk sh gr)  (hTx : gr 109 4 = some 108) {go : GM} (h : f_X8_next g  = some go) : MetI l G yX8_next (ws_ yX8_next cX8_next 3 (Option.none : Option Jvm.ClassFile.FieldType)) rm_X8_next [.ref (adr G 109)] sh g gl gr n none sh go gl gr n := by
  refine MetI.of (by decide) (Nat.le_of_ble_eq_true rfl) ?_
  intro p e s m below meth c ls hx hb hr hml hown hts hlk hnm hW hK hR hS hl
  have hown : s.vm.findClass RX8 = some m.cls := hown
  have hF : CallFix p m c cX8_next 3 s ([.ref (adr G 109)] : List Value).toArray lw_all RX8 := ⟨hx, hb, hml, hown, hts⟩
  have hl : lv_has ls 3 [(0, .ref (adr G 109))] := hl
  unfold f_X8_next at h
  refine lv_aload_n hx hb dX8_next_0 rfl (lv_at hl 0 rfl) ?_
  refine lv_aload_n hx hb dX8_next_1 rfl (lv_at hl 0 rfl) ?_
  refine r_geti hx hb hts cfX8 hown hK hR (sk_109 hSk) 7 (by decide) rfl (hts _ q358) (fun _ h => h) dX8_next_2 ?_
  obtain ⟨g2, e1, h⟩ := obd h
  refine r_puti hx hb hts cfX8 hown hK hR hS (sk_109 hSk) 6 (by decide) rfl (hts _ q357) (fun _ h => h) (Or.inl rfl) rfl rfl e1 dX8_next_5 (fun H locs hR hS => ?_)
  have J8 : ∀ (k8 : Nat) (g3 : GM) (H : Heap) (locs : List Loc) (ls : Array Slot), Rep G sh g3 gl gr n H → va_S (own G) s.heap H locs → lv_has ls 3 [(0, .ref (adr G 109))] → l_X8_next_8  k8 g3 = some go → W p l e rm_X8_next s m ([.ref (adr G 109)] : List Value).toArray below meth c H locs 0 0 (MQ below (QR G none sh go gl gr n) ([.ref (adr G 109)] : List Value).toArray s rm_X8_next.cells rm_X8_next.slots (own G)) (F0 m 8 ls []) := by
    intro k8
    induction k8 with
    | zero => intro _ _ _ _ _ _ _; exact nofun
    | succ k8 ih8 =>
      intro g3 H locs ls hR hS hl h
      unfold l_X8_next_8 b_X8_next_8 at h
      refine lv_aload_n hx hb dX8_next_8 rfl (lv_at hl 0 rfl) ?_
      refine r_geti hx hb hts cfX8 hown hK hR (sk_109 hSk) 6 (by decide) rfl (hts _ q357) (fun _ h => h) dX8_next_9 ?_
      refine lv_aload_n hx hb dX8_next_12 rfl (lv_at hl 0 rfl) ?_
      refine r_geti hx hb hts cfX8 hown hK hR (sk_109 hSk) 5 (by decide) rfl (hts _ q356) (fun _ h => h) dX8_next_13 ?_
      have J46 : ∀  (H : Heap) (locs : List Loc) (ls : Array Slot), Rep G sh g3 gl gr n H → va_S (own G) s.heap H locs → lv_has ls 3 [(0, .ref (adr G 109))] → j_X8_next_46 g3  = some go → W p l e rm_X8_next s m ([.ref (adr G 109)] : List Value).toArray below meth c H locs 0 0 (MQ below (QR G none sh go gl gr n) ([.ref (adr G 109)] : List Value).toArray s rm_X8_next.cells rm_X8_next.slots (own G)) (F0 m 46 ls []) := by
        intro  H locs ls hR hS hl h
        unfold j_X8_next_46 at h
        refine lv_aload_n hx hb dX8_next_46 rfl (lv_at hl 0 rfl) ?_
        refine lv_aload_n hx hb dX8_next_47 rfl (lv_at hl 0 rfl) ?_
        refine r_geti hx hb hts cfX8 hown hK hR (sk_109 hSk) 6 (by decide) rfl (hts _ q357) (fun _ h => h) dX8_next_48 ?_
        refine lv_aload_n hx hb dX8_next_51 rfl (lv_at hl 0 rfl) ?_
        refine r_geti hx hb hts cfX8 hown hK hR (sk_109 hSk) 5 (by decide) rfl (hts _ q356) (fun _ h => h) dX8_next_52 ?_
        have J71 : ∀ (x4 : Int32) (H : Heap) (locs : List Loc) (ls : Array Slot), Rep G sh g3 gl gr n H → va_S (own G) s.heap H locs → lv_has ls 3 [(0, .ref (adr G 109))] → j_X8_next_71 g3 x4 = some go → W p l e rm_X8_next s m ([.ref (adr G 109)] : List Value).toArray below meth c H locs 0 0 (MQ below (QR G none sh go gl gr n) ([.ref (adr G 109)] : List Value).toArray s rm_X8_next.cells rm_X8_next.slots (own G)) (F0 m 71 ls [.int x4, .ref (adr G 109)]) := by
          intro x4 H locs ls hR hS hl h
          unfold j_X8_next_71 at h
          obtain ⟨g6, e5, h⟩ := obd h
          refine r_puti hx hb hts cfX8 hown hK hR hS (sk_109 hSk) 7 (by decide) rfl (hts _ q358) (fun _ h => h) (Or.inl rfl) rfl rfl e5 dX8_next_71 (fun H locs hR hS => ?_)
          refine lv_aload_n hx hb dX8_next_74 rfl (lv_at hl 0 rfl) ?_
          obtain ⟨r8, e7, h⟩ := obd h
          refine rc_V0 (rest := []) (st1 := [.int r8]) hF (w_X8_here hSk hTx e7) (cwV 0 hts (lw_V q538 q540 qs3 q108 q541) rfl rfl rfl hd_X8_here ⟨Nat.le_of_ble_eq_true rfl, Nat.le_of_ble_eq_true rfl⟩) cfX8 (sk_109 hSk) hK hW hR hS rfl hl.1 rfl (Nat.le_of_ble_eq_true rfl) rfl dX8_next_75 ⟨rfl, rfl⟩ ⟨Nat.zero_le _, Nat.zero_le _⟩ (fun H locs hR hS => ?_)
          obtain ⟨r10, e9, h⟩ := obd h
          refine rc_S0 (rest := []) (st1 := [.int r10]) hF (w_X8_isLetter hSk r8 e9) (va_cwS 1 hts (lw_S q542 q543 q108 q544) rfl rfl rfl he_X8_isLetter ⟨Nat.le_of_ble_eq_true rfl, Nat.le_of_ble_eq_true rfl⟩) hW hR hS rfl hl.1 rfl (Nat.le_of_ble_eq_true rfl) rfl dX8_next_78 ⟨rfl, rfl⟩ ⟨Nat.zero_le _, Nat.zero_le _⟩ (fun H locs hR hS => ?_)
          refine lv_istore_n (lv' := [(1, .int r10), (0, .ref (adr G 109))]) hx hb dX8_next_81 rfl hl (by decide) rfl (fun ls hl => ?_)
          refine lv_aload_n hx hb dX8_next_82 rfl (lv_at hl 1 rfl) ?_
          obtain ⟨r12, e11, h⟩ := obd h
          refine rc_V0 (rest := []) (st1 := [.int r12]) hF (w_X8_here hSk hTx e11) (cwV 0 hts (lw_V q538 q540 qs3 q108 q541) rfl rfl rfl hd_X8_here ⟨Nat.le_of_ble_eq_true rfl, Nat.le_of_ble_eq_true rfl⟩) cfX8 (sk_109 hSk) hK hW hR hS rfl hl.1 rfl (Nat.le_of_ble_eq_true rfl) rfl dX8_next_83 ⟨rfl, rfl⟩ ⟨Nat.zero_le _, Nat.zero_le _⟩ (fun H locs hR hS => ?_)
          obtain ⟨r14, e13, h⟩ := obd h
          refine rc_S0 (rest := []) (st1 := [.int r14]) hF (w_X8_isDigit hSk r12 e13) (va_cwS 1 hts (lw_S q545 q546 q108 q547) rfl rfl rfl he_X8_isDigit ⟨Nat.le_of_ble_eq_true rfl, Nat.le_of_ble_eq_true rfl⟩) hW hR hS rfl hl.1 rfl (Nat.le_of_ble_eq_true rfl) rfl dX8_next_86 ⟨rfl, rfl⟩ ⟨Nat.zero_le _, Nat.zero_le _⟩ (fun H locs hR hS => ?_)
          refine lv_istore_n (lv' := [(2, .int r14), (1, .int r10), (0, .ref (adr G 109))]) hx hb dX8_next_89 rfl hl (by decide) rfl (fun ls hl => ?_)
          have J90 : ∀ (k90 : Nat) (g15 : GM) (H : Heap) (locs : List Loc) (ls : Array Slot), Rep G sh g15 gl gr n H → va_S (own G) s.heap H locs → lv_has ls 3 [(0, .ref (adr G 109)), (1, .int r10), (2, .int r14)] → l_X8_next_90 r10 r14 k90 g15 = some go → W p l e rm_X8_next s m ([.ref (adr G 109)] : List Value).toArray below meth c H locs 0 0 (MQ below (QR G none sh go gl gr n) ([.ref (adr G 109)] : List Value).toArray s rm_X8_next.cells rm_X8_next.slots (own G)) (F0 m 90 ls []) := by
            intro k90
            induction k90 with
            | zero => intro _ _ _ _ _ _ _; exact nofun
            | succ k90 ih90 =>
              intro g15 H locs ls hR hS hl h
              unfold l_X8_next_90 b_X8_next_90 at h
              refine lv_aload_n hx hb dX8_next_90 rfl (lv_at hl 0 rfl) ?_
              refine r_geti hx hb hts cfX8 hown hK hR (sk_109 hSk) 7 (by decide) rfl (hts _ q358) (fun _ h => h) dX8_next_91 ?_
              refine lv_aload_n hx hb dX8_next_94 rfl (lv_at hl 0 rfl) ?_
              refine r_geti hx hb hts cfX8 hown hK hR (sk_109 hSk) 5 (by decide) rfl (hts _ q356) (fun _ h => h) dX8_next_95 ?_
              have J152 : ∀  (H : Heap) (locs : List Loc) (ls : Array Slot), Rep G sh g15 gl gr n H → va_S (own G) s.heap H locs → lv_has ls 3 [] → j_X8_next_152 g15  = some go → W p l e rm_X8_next s m ([.ref (adr G 109)] : List Value).toArray below meth c H locs 0 0 (MQ below (QR G none sh go gl gr n) ([.ref (adr G 109)] : List Value).toArray s rm_X8_next.cells rm_X8_next.slots (own G)) (F0 m 152 ls []) := by
                intro  H locs ls hR hS hl h
                unfold j_X8_next_152 at h
                obtain rfl := s1i h
                exact r_vret0 hx hb hr hlk hR hS (Nat.zero_le _) (Nat.zero_le _) dX8_next_152
              refine lv_icmp_ge (tgt := 152) hx hb dX8_next_98 (by decide) (fun c16 => ?_) (fun c16 => ?_)
              · replace h := ifp h c16
                exact J152  _ _ _ hR hS (lv_sub hl [] rfl) h
              · replace h := ifn h c16
                refine lv_iload_n hx hb dX8_next_101 rfl (lv_at hl 1 rfl) ?_
                have J139 : ∀  (H : Heap) (locs : List Loc) (ls : Array Slot), Rep G sh g15 gl gr n H → va_S (own G) s.heap H locs → lv_has ls 3 [(0, .ref (adr G 109)), (1, .int r10), (2, .int r14)] → j_X8_next_139 g15 (l_X8_next_90 r10 r14 k90)  = some go → W p l e rm_X8_next s m ([.ref (adr G 109)] : List Value).toArray below meth c H locs 0 0 (MQ below (QR G none sh go gl gr n) ([.ref (adr G 109)] : List Value).toArray s rm_X8_next.cells rm_X8_next.slots (own G)) (F0 m 139 ls []) := by
                  intro  H locs ls hR hS hl h
                  unfold j_X8_next_139 at h
                  refine lv_aload_n hx hb dX8_next_139 rfl (lv_at hl 0 rfl) ?_
                  refine lv_dup hx hb dX8_next_140 rfl ?_
                  refine r_geti hx hb hts cfX8 hown hK hR (sk_109 hSk) 7 (by decide) rfl (hts _ q358) (fun _ h => h) dX8_next_141 ?_
                  refine lv_iconst (v := 1) hx hb dX8_next_144 ki_1 ?_
                  refine lv_iadd hx hb dX8_next_145 ?_
                  obtain ⟨g18, e17, h⟩ := obd h
                  refine r_puti hx hb hts cfX8 hown hK hR hS (sk_109 hSk) 7 (by decide) rfl (hts _ q358) (fun _ h => h) (Or.inl rfl) rfl rfl e17 dX8_next_146 (fun H locs hR hS => ?_)
                  refine lv_goto (tgt := 90) hx hb dX8_next_149 (by decide) ?_
                  exact ih90 g18 _ _ _ hR hS (lv_sub hl [0, 1, 2] rfl) h
                have J120 : ∀  (H : Heap) (locs : List Loc) (ls : Array Slot), Rep G sh g15 gl gr n H → va_S (own G) s.heap H locs → lv_has ls 3 [(0, .ref (adr G 109)), (1, .int r10), (2, .int r14)] → j_X8_next_120 r14 g15 (l_X8_next_90 r10 r14 k90)  = some go → W p l e rm_X8_next s m ([.ref (adr G 109)] : List Value).toArray below meth c H locs 0 0 (MQ below (QR G none sh go gl gr n) ([.ref (adr G 109)] : List Value).toArray s rm_X8_next.cells rm_X8_next.slots (own G)) (F0 m 120 ls []) := by
                  intro  H locs ls hR hS hl h
                  unfold j_X8_next_120 at h
                  refine lv_iload_n hx hb dX8_next_120 rfl (lv_at hl 2 rfl) ?_
                  refine lv_if_eq (tgt := 152) hx hb dX8_next_121 (by decide) (fun c19 => ?_) (fun c19 => ?_)
                  · replace h := ifp h c19
                    exact J152  _ _ _ hR hS (lv_sub hl [] rfl) h
                  · replace h := ifn h c19
                    refine lv_aload_n hx hb dX8_next_124 rfl (lv_at hl 0 rfl) ?_
                    refine r_getr hx hb hts cfX8 hown hK hR (sk_109 hSk) 4 (by decide) rfl hTx (hts _ q355) (fun _ h => h) dX8_next_125 ?_
                    refine lv_aload_n hx hb dX8_next_128 rfl (lv_at hl 0 rfl) ?_
                    refine r_geti hx hb hts cfX8 hown hK hR (sk_109 hSk) 7 (by decide) rfl (hts _ q358) (fun _ h => h) dX8_next_129 ?_
                    obtain ⟨v21, e20, h⟩ := obd h
                    refine r_ldb hx hb hK hR (sk_108 hSk) e20 dX8_next_132 ?_
                    obtain ⟨r23, e22, h⟩ := obd h
                    refine rc_S0 (rest := []) (st1 := [.int r23]) hF (w_X8_isDigit hSk v21 e22) (va_cwS 1 hts (lw_S q545 q546 q108 q547) rfl rfl rfl he_X8_isDigit ⟨Nat.le_of_ble_eq_true rfl, Nat.le_of_ble_eq_true rfl⟩) hW hR hS rfl hl.1 rfl (Nat.le_of_ble_eq_true rfl) rfl dX8_next_133 ⟨rfl, rfl⟩ ⟨Nat.zero_le _, Nat.zero_le _⟩ (fun H locs hR hS => ?_)
                    refine lv_if_eq (tgt := 152) hx hb dX8_next_136 (by decide) (fun c24 => ?_) (fun c24 => ?_)
                    · replace h := ifp h c24
                      exact J152  _ _ _ hR hS (lv_sub hl [] rfl) h
                    · replace h := ifn h c24
                      exact J139  _ _ _ hR hS (lv_sub hl [0, 1, 2] rfl) h
                refine lv_if_eq (tgt := 120) hx hb dX8_next_102 (by decide) (fun c25 => ?_) (fun c25 => ?_)
                · replace h := ifp h c25
                  exact J120  _ _ _ hR hS (lv_sub hl [0, 1, 2] rfl) h
                · replace h := ifn h c25
                  refine lv_aload_n hx hb dX8_next_105 rfl (lv_at hl 0 rfl) ?_
                  refine r_getr hx hb hts cfX8 hown hK hR (sk_109 hSk) 4 (by decide) rfl hTx (hts _ q355) (fun _ h => h) dX8_next_106 ?_
                  refine lv_aload_n hx hb dX8_next_109 rfl (lv_at hl 0 rfl) ?_
                  refine r_geti hx hb hts cfX8 hown hK hR (sk_109 hSk) 7 (by decide) rfl (hts _ q358) (fun _ h => h) dX8_next_110 ?_
                  obtain ⟨v27, e26, h⟩ := obd h
                  refine r_ldb hx hb hK hR (sk_108 hSk) e26 dX8_next_113 ?_
                  obtain ⟨r29, e28, h⟩ := obd h
                  refine rc_S0 (rest := []) (st1 := [.int r29]) hF (w_X8_isLetter hSk v27 e28) (va_cwS 1 hts (lw_S q542 q543 q108 q544) rfl rfl rfl he_X8_isLetter ⟨Nat.le_of_ble_eq_true rfl, Nat.le_of_ble_eq_true rfl⟩) hW hR hS rfl hl.1 rfl (Nat.le_of_ble_eq_true rfl) rfl dX8_next_114 ⟨rfl, rfl⟩ ⟨Nat.zero_le _, Nat.zero_le _⟩ (fun H locs hR hS => ?_)
                  refine lv_if_ne (tgt := 139) hx hb dX8_next_117 (by decide) (fun c30 => ?_) (fun c30 => ?_)
                  · replace h := ifn h c30
                    exact J139  _ _ _ hR hS (lv_sub hl [0, 1, 2] rfl) h
                  · replace h := ifp h c30
                    exact J120  _ _ _ hR hS (lv_sub hl [0, 1, 2] rfl) h
          exact J90 fuel g6 _ _ _ hR hS (lv_sub hl [2, 1, 0] rfl) h
        refine lv_icmp_ge (tgt := 67) hx hb dX8_next_55 (by decide) (fun c31 => ?_) (fun c31 => ?_)
        · replace h := ifp h c31
          refine lv_aload_n hx hb dX8_next_67 rfl (lv_at hl 0 rfl) ?_
          refine r_geti hx hb hts cfX8 hown hK hR (sk_109 hSk) 6 (by decide) rfl (hts _ q357) (fun _ h => h) dX8_next_68 ?_
          exact J71 (g3 109 6) _ _ _ hR hS (lv_sub hl [0] rfl) h
        · replace h := ifn h c31
          refine lv_aload_n hx hb dX8_next_58 rfl (lv_at hl 0 rfl) ?_
          refine r_geti hx hb hts cfX8 hown hK hR (sk_109 hSk) 6 (by decide) rfl (hts _ q357) (fun _ h => h) dX8_next_59 ?_
          refine lv_iconst (v := 1) hx hb dX8_next_62 ki_1 ?_
          refine lv_iadd hx hb dX8_next_63 ?_
          refine lv_goto (tgt := 71) hx hb dX8_next_64 (by decide) ?_
          exact J71 ((g3 109 6) + 1) _ _ _ hR hS (lv_sub hl [0] rfl) h
      refine lv_icmp_ge (tgt := 46) hx hb dX8_next_16 (by decide) (fun c32 => ?_) (fun c32 => ?_)
      · replace h := ifp h c32
        exact J46  _ _ _ hR hS (lv_sub hl [0] rfl) h
      · replace h := ifn h c32
        refine lv_aload_n hx hb dX8_next_19 rfl (lv_at hl 0 rfl) ?_
        refine r_getr hx hb hts cfX8 hown hK hR (sk_109 hSk) 4 (by decide) rfl hTx (hts _ q355) (fun _ h => h) dX8_next_20 ?_
        refine lv_aload_n hx hb dX8_next_23 rfl (lv_at hl 0 rfl) ?_
        refine r_geti hx hb hts cfX8 hown hK hR (sk_109 hSk) 6 (by decide) rfl (hts _ q357) (fun _ h => h) dX8_next_24 ?_
        obtain ⟨v34, e33, h⟩ := obd h
        refine r_ldb hx hb hK hR (sk_108 hSk) e33 dX8_next_27 ?_
        refine lv_bipush (v := 32) hx hb dX8_next_28 kb_32 ?_
        refine lv_icmp_ne (tgt := 46) hx hb dX8_next_30 (by decide) (fun c35 => ?_) (fun c35 => ?_)
        · replace h := ifn h c35
          exact J46  _ _ _ hR hS (lv_sub hl [0] rfl) h
        · replace h := ifp h c35
          refine lv_aload_n hx hb dX8_next_33 rfl (lv_at hl 0 rfl) ?_
          refine lv_dup hx hb dX8_next_34 rfl ?_
          refine r_geti hx hb hts cfX8 hown hK hR (sk_109 hSk) 6 (by decide) rfl (hts _ q357) (fun _ h => h) dX8_next_35 ?_
          refine lv_iconst (v := 1) hx hb dX8_next_38 ki_1 ?_
          refine lv_iadd hx hb dX8_next_39 ?_
          obtain ⟨g37, e36, h⟩ := obd h
          refine r_puti hx hb hts cfX8 hown hK hR hS (sk_109 hSk) 6 (by decide) rfl (hts _ q357) (fun _ h => h) (Or.inl rfl) rfl rfl e36 dX8_next_40 (fun H locs hR hS => ?_)
          refine lv_goto (tgt := 8) hx hb dX8_next_43 (by decide) ?_
          exact ih8 g37 _ _ _ hR hS (lv_sub hl [0] rfl) h
  exact J8 fuel g2 _ _ _ hR hS (lv_sub hl [0] rfl) h
def rm_X8_begins : Room := { frames := 3, cells := 0, slots := 0, locals := 54 }
theorem hd_X8_begins : yX8_begins.cls = "IntentVats$Reader" ∧ yX8_begins.cls ≠ "java/lang/invoke/MethodHandle" ∧ yX8_begins.cls ≠ "java/lang/invoke/VarHandle" ∧ (parseMethodDescriptor yX8_begins.desc).map (fun d => d.parameters.length) = some 2 := by decide +kernel
theorem he_X8_begins : yX8_begins.cls ≠ "java/lang/invoke/MethodHandle" ∧ yX8_begins.cls ≠ "java/lang/invoke/VarHandle" ∧ (parseMethodDescriptor yX8_begins.desc).map (fun d => d.parameters.length) = some 2 := hd_X8_begins.2

set_option maxHeartbeats 4000000 in
set_option maxRecDepth 100000 in
theorem w_X8_begins {l : Launch} {G : Gx} {sh : SM} {g : GM} {gl : LM} {gr : RM} {n : Nat} (hSk : Sk sh gr) (a2 : Int32)  {go : GM} {gro : RM} (h : f_X8_begins g gr a2 = some (go, gro)) : MetI l G yX8_begins (ws_ yX8_begins cX8_begins 3 (Option.none : Option Jvm.ClassFile.FieldType)) rm_X8_begins [.ref (adr G 109), .ref (adr G 108), .int a2] sh g gl gr n none sh go gl gro n := by
  refine MetI.of (by decide) (Nat.le_of_ble_eq_true rfl) ?_
  intro p e s m below meth c ls hx hb hr hml hown hts hlk hnm hW hK hR hS hl
  have hown : s.vm.findClass RX8 = some m.cls := hown
  have hF : CallFix p m c cX8_begins 3 s ([.ref (adr G 109), .ref (adr G 108), .int a2] : List Value).toArray lw_all RX8 := ⟨hx, hb, hml, hown, hts⟩
  have hl : lv_has ls 3 [(0, .ref (adr G 109)), (1, .ref (adr G 108)), (2, .int a2)] := hl
  unfold f_X8_begins at h
  refine lv_aload_n hx hb dX8_begins_0 rfl (lv_at hl 0 rfl) ?_
  refine lv_aload_n hx hb dX8_begins_1 rfl (lv_at hl 1 rfl) ?_
  obtain ⟨gr2, e1, h⟩ := obd h
  refine r_putR hx hb hts cfX8 hown hK hR hS (sk_109 hSk) 4 (by decide) rfl (hts _ q355) (fun _ h => h) (Or.inl rfl) (some 108) rfl rfl rfl e1 dX8_begins_2 (fun H locs hR hS => ?_)
  have hSk := hSk.pr (skn_109_4) e1
  have hTx := tx_put e1
  refine lv_aload_n hx hb dX8_begins_5 rfl (lv_at hl 0 rfl) ?_
  refine lv_iload_n hx hb dX8_begins_6 rfl (lv_at hl 2 rfl) ?_
  obtain ⟨g4, e3, h⟩ := obd h
  refine r_puti hx hb hts cfX8 hown hK hR hS (sk_109 hSk) 5 (by decide) rfl (hts _ q356) (fun _ h => h) (Or.inl rfl) rfl rfl e3 dX8_begins_7 (fun H locs hR hS => ?_)
  refine lv_aload_n hx hb dX8_begins_10 rfl (lv_at hl 0 rfl) ?_
  refine lv_iconst (v := 0) hx hb dX8_begins_11 ki_0 ?_
  obtain ⟨g6, e5, h⟩ := obd h
  refine r_puti hx hb hts cfX8 hown hK hR hS (sk_109 hSk) 7 (by decide) rfl (hts _ q358) (fun _ h => h) (Or.inl rfl) rfl rfl e5 dX8_begins_12 (fun H locs hR hS => ?_)
  refine lv_aload_n hx hb dX8_begins_15 rfl (lv_at hl 0 rfl) ?_
  obtain ⟨g8, e7, h⟩ := obd h
  refine rc_V0 (rest := []) (st1 := []) hF (w_X8_next hSk hTx e7) (cwV 0 hts (lw_V q534 q536 qs2 q108 q537) rfl rfl rfl hd_X8_next ⟨Nat.le_of_ble_eq_true rfl, Nat.le_of_ble_eq_true rfl⟩) cfX8 (sk_109 hSk) hK hW hR hS rfl hl.1 rfl (Nat.le_of_ble_eq_true rfl) rfl dX8_begins_16 ⟨rfl, rfl⟩ ⟨Nat.zero_le _, Nat.zero_le _⟩ (fun H locs hR hS => ?_)
  obtain ⟨rfl, rfl⟩ := s2i h
  exact r_vret0 hx hb hr hlk hR hS (Nat.zero_le _) (Nat.zero_le _) dX8_begins_19
def rm_X8_isWord : Room := { frames := 6, cells := 0, slots := 0, locals := 221 }
theorem hd_X8_isWord : yX8_isWord.cls = "IntentVats$Reader" ∧ yX8_isWord.cls ≠ "java/lang/invoke/MethodHandle" ∧ yX8_isWord.cls ≠ "java/lang/invoke/VarHandle" ∧ (parseMethodDescriptor yX8_isWord.desc).map (fun d => d.parameters.length) = some 1 := by decide +kernel
theorem he_X8_isWord : yX8_isWord.cls ≠ "java/lang/invoke/MethodHandle" ∧ yX8_isWord.cls ≠ "java/lang/invoke/VarHandle" ∧ (parseMethodDescriptor yX8_isWord.desc).map (fun d => d.parameters.length) = some 1 := hd_X8_isWord.2

set_option maxHeartbeats 4000000 in
set_option maxRecDepth 100000 in
theorem w_X8_isWord {l : Launch} {G : Gx} {sh : SM} {g : GM} {gl : LM} {gr : RM} {n : Nat} (hSk : Sk sh gr) (a1 : Nat) (hTx : gr 109 4 = some 108) {r : Int32} (h : f_X8_isWord g a1 = some r) : MetI l G yX8_isWord (ws_ yX8_isWord cX8_isWord 4 (Option.some Jvm.ClassFile.FieldType.boolean)) rm_X8_isWord [.ref (adr G 109), .ref (adr G a1)] sh g gl gr n (some (.int r)) sh g gl gr n := by
  refine MetI.of (by decide) (Nat.le_of_ble_eq_true rfl) ?_
  intro p e s m below meth c ls hx hb hr hml hown hts hlk hnm hW hK hR hS hl
  have hown : s.vm.findClass RX8 = some m.cls := hown
  have hF : CallFix p m c cX8_isWord 4 s ([.ref (adr G 109), .ref (adr G a1)] : List Value).toArray lw_all RX8 := ⟨hx, hb, hml, hown, hts⟩
  have hl : lv_has ls 4 [(0, .ref (adr G 109)), (1, .ref (adr G a1))] := hl
  unfold f_X8_isWord at h
  refine lv_aload_n hx hb dX8_isWord_0 rfl (lv_at hl 0 rfl) ?_
  refine r_geti hx hb hts cfX8 hown hK hR (sk_109 hSk) 7 (by decide) rfl (hts _ q358) (fun _ h => h) dX8_isWord_1 ?_
  refine lv_aload_n hx hb dX8_isWord_4 rfl (lv_at hl 0 rfl) ?_
  refine r_geti hx hb hts cfX8 hown hK hR (sk_109 hSk) 6 (by decide) rfl (hts _ q357) (fun _ h => h) dX8_isWord_5 ?_
  refine lv_isub hx hb dX8_isWord_8 ?_
  refine lv_aload_n hx hb dX8_isWord_9 rfl (lv_at hl 1 rfl) ?_
  obtain ⟨r2, e1, h⟩ := obd h
  refine rc_Vs0 (rest := [.int ((g 109 7) - (g 109 6))]) (st1 := [.int r2, .int ((g 109 7) - (g 109 6))]) hF (w_J3_length hSk a1 e1) (cwV 0 hts (lw_V q560 q561 q562 q119 q563) rfl rfl rfl hd_J3_length ⟨Nat.le_of_ble_eq_true rfl, Nat.le_of_ble_eq_true rfl⟩) (hW.strR hR (slt_J3_length e1)) hW hR hS rfl hl.1 rfl (Nat.le_of_ble_eq_true rfl) rfl dX8_isWord_10 ⟨rfl, rfl⟩ ⟨Nat.zero_le _, Nat.zero_le _⟩ (fun H locs hR hS => ?_)
  have J21 : ∀ (x3 : Int32) (H : Heap) (locs : List Loc) (ls : Array Slot), Rep G sh g gl gr n H → va_S (own G) s.heap H locs → lv_has ls 4 [(0, .ref (adr G 109)), (1, .ref (adr G a1))] → j_X8_isWord_21 g a1 x3 = some r → W p l e rm_X8_isWord s m ([.ref (adr G 109), .ref (adr G a1)] : List Value).toArray below meth c H locs 0 0 (MQ below (QR G (some (.int r)) sh g gl gr n) ([.ref (adr G 109), .ref (adr G a1)] : List Value).toArray s rm_X8_isWord.cells rm_X8_isWord.slots (own G)) (F0 m 21 ls [.int x3]) := by
    intro x3 H locs ls hR hS hl h
    unfold j_X8_isWord_21 at h
    refine lv_istore_n (lv' := [(2, .int x3), (0, .ref (adr G 109)), (1, .ref (adr G a1))]) hx hb dX8_isWord_21 rfl hl (by decide) rfl (fun ls hl => ?_)
    refine lv_iconst (v := 0) hx hb dX8_isWord_22 ki_0 ?_
    refine lv_istore_n (lv' := [(3, .int 0), (2, .int x3), (0, .ref (adr G 109)), (1, .ref (adr G a1))]) hx hb dX8_isWord_23 rfl hl (by decide) rfl (fun ls hl => ?_)
    have J24 : ∀ (k24 : Nat) (x4 : Int32) (x5 : Int32) (H : Heap) (locs : List Loc) (ls : Array Slot), Rep G sh g gl gr n H → va_S (own G) s.heap H locs → lv_has ls 4 [(0, .ref (adr G 109)), (1, .ref (adr G a1)), (2, .int x4), (3, .int x5)] → l_X8_isWord_24 g a1 k24 x4 x5 = some r → W p l e rm_X8_isWord s m ([.ref (adr G 109), .ref (adr G a1)] : List Value).toArray below meth c H locs 0 0 (MQ below (QR G (some (.int r)) sh g gl gr n) ([.ref (adr G 109), .ref (adr G a1)] : List Value).toArray s rm_X8_isWord.cells rm_X8_isWord.slots (own G)) (F0 m 24 ls []) := by
      intro k24
      induction k24 with
      | zero => intro _ _ _ _ _ _ _ _; exact nofun
      | succ k24 ih24 =>
        intro x4 x5 H locs ls hR hS hl h
        unfold l_X8_isWord_24 b_X8_isWord_24 at h
        refine lv_iload_n hx hb dX8_isWord_24 rfl (lv_at hl 3 rfl) ?_
        refine lv_aload_n hx hb dX8_isWord_25 rfl (lv_at hl 1 rfl) ?_
        obtain ⟨r7, e6, h⟩ := obd h
        refine rc_Vs0 (rest := [.int x5]) (st1 := [.int r7, .int x5]) hF (w_J3_length hSk a1 e6) (cwV 0 hts (lw_V q560 q561 q562 q119 q563) rfl rfl rfl hd_J3_length ⟨Nat.le_of_ble_eq_true rfl, Nat.le_of_ble_eq_true rfl⟩) (hW.strR hR (slt_J3_length e6)) hW hR hS rfl hl.1 rfl (Nat.le_of_ble_eq_true rfl) rfl dX8_isWord_26 ⟨rfl, rfl⟩ ⟨Nat.zero_le _, Nat.zero_le _⟩ (fun H locs hR hS => ?_)
        have J67 : ∀  (H : Heap) (locs : List Loc) (ls : Array Slot), Rep G sh g gl gr n H → va_S (own G) s.heap H locs → lv_has ls 4 [(2, .int x4)] → j_X8_isWord_67 x4  = some r → W p l e rm_X8_isWord s m ([.ref (adr G 109), .ref (adr G a1)] : List Value).toArray below meth c H locs 0 0 (MQ below (QR G (some (.int r)) sh g gl gr n) ([.ref (adr G 109), .ref (adr G a1)] : List Value).toArray s rm_X8_isWord.cells rm_X8_isWord.slots (own G)) (F0 m 67 ls []) := by
          intro  H locs ls hR hS hl h
          unfold j_X8_isWord_67 at h
          refine lv_iload_n hx hb dX8_isWord_67 rfl (lv_at hl 0 rfl) ?_
          obtain ⟨c8, h⟩ := ogrd h
          obtain rfl := s1i h
          exact r_zret0 hx hb hr hlk hR hS (Nat.zero_le _) (Nat.zero_le _) (nb01 c8) dX8_isWord_68
        refine lv_icmp_ge (tgt := 67) hx hb dX8_isWord_29 (by decide) (fun c9 => ?_) (fun c9 => ?_)
        · replace h := ifp h c9
          exact J67  _ _ _ hR hS (lv_sub hl [2] rfl) h
        · replace h := ifn h c9
          refine lv_iload_n hx hb dX8_isWord_32 rfl (lv_at hl 2 rfl) ?_
          refine lv_if_eq (tgt := 67) hx hb dX8_isWord_33 (by decide) (fun c10 => ?_) (fun c10 => ?_)
          · replace h := ifp h c10
            exact J67  _ _ _ hR hS (lv_sub hl [2] rfl) h
          · replace h := ifn h c10
            refine lv_aload_n hx hb dX8_isWord_36 rfl (lv_at hl 0 rfl) ?_
            refine r_getr hx hb hts cfX8 hown hK hR (sk_109 hSk) 4 (by decide) rfl hTx (hts _ q355) (fun _ h => h) dX8_isWord_37 ?_
            refine lv_aload_n hx hb dX8_isWord_40 rfl (lv_at hl 0 rfl) ?_
            refine r_geti hx hb hts cfX8 hown hK hR (sk_109 hSk) 6 (by decide) rfl (hts _ q357) (fun _ h => h) dX8_isWord_41 ?_
            refine lv_iload_n hx hb dX8_isWord_44 rfl (lv_at hl 3 rfl) ?_
            refine lv_iadd hx hb dX8_isWord_45 ?_
            obtain ⟨v12, e11, h⟩ := obd h
            refine r_ldb hx hb hK hR (sk_108 hSk) e11 dX8_isWord_46 ?_
            refine lv_aload_n hx hb dX8_isWord_47 rfl (lv_at hl 1 rfl) ?_
            refine lv_iload_n hx hb dX8_isWord_48 rfl (lv_at hl 3 rfl) ?_
            obtain ⟨r14, e13, h⟩ := obd h
            refine rc_Vs0 (rest := [.int v12]) (st1 := [.int r14, .int v12]) hF (w_J3_charAt hSk a1 x5 e13) (cwV 1 hts (lw_V q570 q571 q572 q119 q573) rfl rfl rfl hd_J3_charAt ⟨Nat.le_of_ble_eq_true rfl, Nat.le_of_ble_eq_true rfl⟩) (hW.strR hR (slt_J3_charAt e13)) hW hR hS rfl hl.1 rfl (Nat.le_of_ble_eq_true rfl) rfl dX8_isWord_49 ⟨rfl, rfl⟩ ⟨Nat.zero_le _, Nat.zero_le _⟩ (fun H locs hR hS => ?_)
            have J60 : ∀ (x15 : Int32) (H : Heap) (locs : List Loc) (ls : Array Slot), Rep G sh g gl gr n H → va_S (own G) s.heap H locs → lv_has ls 4 [(0, .ref (adr G 109)), (1, .ref (adr G a1)), (3, .int x5)] → j_X8_isWord_60 x5 (l_X8_isWord_24 g a1 k24) x15 = some r → W p l e rm_X8_isWord s m ([.ref (adr G 109), .ref (adr G a1)] : List Value).toArray below meth c H locs 0 0 (MQ below (QR G (some (.int r)) sh g gl gr n) ([.ref (adr G 109), .ref (adr G a1)] : List Value).toArray s rm_X8_isWord.cells rm_X8_isWord.slots (own G)) (F0 m 60 ls [.int x15]) := by
              intro x15 H locs ls hR hS hl h
              unfold j_X8_isWord_60 at h
              refine lv_istore_n (lv' := [(2, .int x15), (0, .ref (adr G 109)), (1, .ref (adr G a1)), (3, .int x5)]) hx hb dX8_isWord_60 rfl hl (by decide) rfl (fun ls hl => ?_)
              refine lv_iinc (v := x5 + 1) (lv' := [(3, .int (x5 + 1)), (2, .int x15), (0, .ref (adr G 109)), (1, .ref (adr G a1))]) hx hb dX8_isWord_61 hl (k := 3) rfl rfl (by decide) rfl (fun ls hl => ?_)
              refine lv_goto (tgt := 24) hx hb dX8_isWord_64 (by decide) ?_
              exact ih24 x15 (x5 + 1) _ _ _ hR hS (lv_sub hl [2, 3, 1, 0] rfl) h
            refine lv_icmp_ne (tgt := 59) hx hb dX8_isWord_52 (by decide) (fun c16 => ?_) (fun c16 => ?_)
            · replace h := ifn h c16
              refine lv_iconst (v := 0) hx hb dX8_isWord_59 ki_0 ?_
              exact J60 0 _ _ _ hR hS (lv_sub hl [0, 1, 3] rfl) h
            · replace h := ifp h c16
              refine lv_iconst (v := 1) hx hb dX8_isWord_55 ki_1 ?_
              refine lv_goto (tgt := 60) hx hb dX8_isWord_56 (by decide) ?_
              exact J60 1 _ _ _ hR hS (lv_sub hl [0, 1, 3] rfl) h
    exact J24 fuel x3 0 _ _ _ hR hS (lv_sub hl [2, 3, 1, 0] rfl) h
  refine lv_icmp_ne (tgt := 20) hx hb dX8_isWord_13 (by decide) (fun c17 => ?_) (fun c17 => ?_)
  · replace h := ifn h c17
    refine lv_iconst (v := 0) hx hb dX8_isWord_20 ki_0 ?_
    exact J21 0 _ _ _ hR hS (lv_sub hl [0, 1] rfl) h
  · replace h := ifp h c17
    refine lv_iconst (v := 1) hx hb dX8_isWord_16 ki_1 ?_
    refine lv_goto (tgt := 21) hx hb dX8_isWord_17 (by decide) ?_
    exact J21 1 _ _ _ hR hS (lv_sub hl [0, 1] rfl) h
def rm_X8_placeOf : Room := { frames := 7, cells := 0, slots := 0, locals := 244 }
theorem he_X8_placeOf : yX8_placeOf.cls ≠ "java/lang/invoke/MethodHandle" ∧ yX8_placeOf.cls ≠ "java/lang/invoke/VarHandle" ∧ (parseMethodDescriptor yX8_placeOf.desc).map (fun d => d.parameters.length) = some 2 := by decide +kernel

set_option maxHeartbeats 4000000 in
set_option maxRecDepth 100000 in
theorem w_X8_placeOf {l : Launch} {G : Gx} {sh : SM} {g : GM} {gl : LM} {gr : RM} {n : Nat} (hSk : Sk sh gr) (a0 : Nat) (La0 : Nat) (Ba0 : Nat) (hs_a0 : sh a0 = (6, La0)) (hq_a0 : ∀ j, j < La0 → gr a0 j = some (Ba0 + j)) (hTx : gr 109 4 = some 108) {r : Int32} (h : f_X8_placeOf g a0 La0 Ba0 = some r) : MetI l G yX8_placeOf (ws_ yX8_placeOf cX8_placeOf 3 (Option.some Jvm.ClassFile.FieldType.int)) rm_X8_placeOf [.ref (adr G a0), .ref (adr G 109)] sh g gl gr n (some (.int r)) sh g gl gr n := by
  refine MetI.of (by decide) (Nat.le_of_ble_eq_true rfl) ?_
  intro p e s m below meth c ls hx hb hr hml hown hts hlk hnm hW hK hR hS hl
  have hown : s.vm.findClass RX8 = some m.cls := hown
  have hF : CallFix p m c cX8_placeOf 3 s ([.ref (adr G a0), .ref (adr G 109)] : List Value).toArray lw_all RX8 := ⟨hx, hb, hml, hown, hts⟩
  have hl : lv_has ls 3 [(0, .ref (adr G a0)), (1, .ref (adr G 109))] := hl
  unfold f_X8_placeOf at h
  refine lv_iconst (v := 0) hx hb dX8_placeOf_0 ki_0 ?_
  refine lv_istore_n (lv' := [(2, .int 0), (0, .ref (adr G a0)), (1, .ref (adr G 109))]) hx hb dX8_placeOf_1 rfl hl (by decide) rfl (fun ls hl => ?_)
  have J2 : ∀ (k2 : Nat) (x1 : Int32) (H : Heap) (locs : List Loc) (ls : Array Slot), Rep G sh g gl gr n H → va_S (own G) s.heap H locs → lv_has ls 3 [(0, .ref (adr G a0)), (1, .ref (adr G 109)), (2, .int x1)] → l_X8_placeOf_2 g La0 Ba0 k2 x1 = some r → W p l e rm_X8_placeOf s m ([.ref (adr G a0), .ref (adr G 109)] : List Value).toArray below meth c H locs 0 0 (MQ below (QR G (some (.int r)) sh g gl gr n) ([.ref (adr G a0), .ref (adr G 109)] : List Value).toArray s rm_X8_placeOf.cells rm_X8_placeOf.slots (own G)) (F0 m 2 ls []) := by
    intro k2
    induction k2 with
    | zero => intro _ _ _ _ _ _ _; exact nofun
    | succ k2 ih2 =>
      intro x1 H locs ls hR hS hl h
      unfold l_X8_placeOf_2 b_X8_placeOf_2 at h
      refine lv_iload_n hx hb dX8_placeOf_2 rfl (lv_at hl 2 rfl) ?_
      refine lv_aload_n hx hb dX8_placeOf_3 rfl (lv_at hl 0 rfl) ?_
      refine r_alen hx hb hK hR hs_a0 (by decide) (by decide) 5 rfl dX8_placeOf_4 ?_
      have J24 : ∀  (H : Heap) (locs : List Loc) (ls : Array Slot), Rep G sh g gl gr n H → va_S (own G) s.heap H locs → lv_has ls 3 [(2, .int x1)] → j_X8_placeOf_24 x1  = some r → W p l e rm_X8_placeOf s m ([.ref (adr G a0), .ref (adr G 109)] : List Value).toArray below meth c H locs 0 0 (MQ below (QR G (some (.int r)) sh g gl gr n) ([.ref (adr G a0), .ref (adr G 109)] : List Value).toArray s rm_X8_placeOf.cells rm_X8_placeOf.slots (own G)) (F0 m 24 ls []) := by
        intro  H locs ls hR hS hl h
        unfold j_X8_placeOf_24 at h
        refine lv_iload_n hx hb dX8_placeOf_24 rfl (lv_at hl 0 rfl) ?_
        obtain rfl := s1i h
        exact r_iret0 hx hb hr hlk hR hS (Nat.zero_le _) (Nat.zero_le _) dX8_placeOf_25
      refine lv_icmp_ge (tgt := 24) hx hb dX8_placeOf_5 (by decide) (fun c2 => ?_) (fun c2 => ?_)
      · replace h := ifp h c2
        exact J24  _ _ _ hR hS (lv_sub hl [2] rfl) h
      · replace h := ifn h c2
        refine lv_aload_n hx hb dX8_placeOf_8 rfl (lv_at hl 1 rfl) ?_
        refine lv_aload_n hx hb dX8_placeOf_9 rfl (lv_at hl 0 rfl) ?_
        refine lv_iload_n hx hb dX8_placeOf_10 rfl (lv_at hl 2 rfl) ?_
        obtain ⟨j4, e3, h⟩ := obd h
        refine r_ldr hx hb hK hR hs_a0 (by decide) (by decide) 5 rfl e3 (hq_a0 j4 (chk_s e3).2.2) dX8_placeOf_11 ?_
        obtain ⟨r6, e5, h⟩ := obd h
        refine rc_V0 (rest := []) (st1 := [.int r6]) hF (w_X8_isWord hSk (Ba0 + j4) hTx e5) (cwV 1 hts (lw_V q556 q558 qs5 q108 q559) rfl rfl rfl hd_X8_isWord ⟨Nat.le_of_ble_eq_true rfl, Nat.le_of_ble_eq_true rfl⟩) cfX8 (sk_109 hSk) hK hW hR hS rfl hl.1 rfl (Nat.le_of_ble_eq_true rfl) rfl dX8_placeOf_12 ⟨rfl, rfl⟩ ⟨Nat.zero_le _, Nat.zero_le _⟩ (fun H locs hR hS => ?_)
        refine lv_if_ne (tgt := 24) hx hb dX8_placeOf_15 (by decide) (fun c7 => ?_) (fun c7 => ?_)
        · replace h := ifn h c7
          exact J24  _ _ _ hR hS (lv_sub hl [2] rfl) h
        · replace h := ifp h c7
          refine lv_iinc (v := x1 + 1) (lv' := [(2, .int (x1 + 1)), (0, .ref (adr G a0)), (1, .ref (adr G 109))]) hx hb dX8_placeOf_18 hl (k := 2) rfl rfl (by decide) rfl (fun ls hl => ?_)
          refine lv_goto (tgt := 2) hx hb dX8_placeOf_21 (by decide) ?_
          exact ih2 (x1 + 1) _ _ _ hR hS (lv_sub hl [1, 2, 0] rfl) h
  exact J2 fuel 0 _ _ _ hR hS (lv_sub hl [1, 2, 0] rfl) h
def rm_X9_at : Room := { frames := 1, cells := 0, slots := 0, locals := 12 }
theorem hd_X9_at : yX9_at.cls = "IntentVats$Fault" ∧ yX9_at.cls ≠ "java/lang/invoke/MethodHandle" ∧ yX9_at.cls ≠ "java/lang/invoke/VarHandle" ∧ (parseMethodDescriptor yX9_at.desc).map (fun d => d.parameters.length) = some 1 := by decide +kernel
theorem he_X9_at : yX9_at.cls ≠ "java/lang/invoke/MethodHandle" ∧ yX9_at.cls ≠ "java/lang/invoke/VarHandle" ∧ (parseMethodDescriptor yX9_at.desc).map (fun d => d.parameters.length) = some 1 := hd_X9_at.2

set_option maxHeartbeats 4000000 in
set_option maxRecDepth 100000 in
theorem w_X9_at {l : Launch} {G : Gx} {sh : SM} {g : GM} {gl : LM} {gr : RM} {n : Nat} (hSk : Sk sh gr) (a1 : Int32)  {go : GM} (h : f_X9_at g a1 = some go) : MetI l G yX9_at (ws_ yX9_at cX9_at 2 (Option.some (Jvm.ClassFile.FieldType.object "IntentVats$Fault"))) rm_X9_at [.ref (adr G 112), .int a1] sh g gl gr n (some (.ref (adr G 112))) sh go gl gr n := by
  refine MetI.of (by decide) (Nat.le_of_ble_eq_true rfl) ?_
  intro p e s m below meth c ls hx hb hr hml hown hts hlk hnm hW hK hR hS hl
  have hown : s.vm.findClass RX9 = some m.cls := hown
  have hF : CallFix p m c cX9_at 2 s ([.ref (adr G 112), .int a1] : List Value).toArray lw_all RX9 := ⟨hx, hb, hml, hown, hts⟩
  have hl : lv_has ls 2 [(0, .ref (adr G 112)), (1, .int a1)] := hl
  unfold f_X9_at at h
  refine lv_aload_n hx hb dX9_at_0 rfl (lv_at hl 0 rfl) ?_
  refine lv_iload_n hx hb dX9_at_1 rfl (lv_at hl 1 rfl) ?_
  obtain ⟨g2, e1, h⟩ := obd h
  refine r_puti hx hb hts cfX9 hown hK hR hS (sk_112 hSk) 6 (by decide) rfl (hts _ q333) (fun _ h => h) (Or.inl rfl) rfl rfl e1 dX9_at_2 (fun H locs hR hS => ?_)
  refine lv_aload_n hx hb dX9_at_5 rfl (lv_at hl 0 rfl) ?_
  obtain rfl := s1i h
  exact r_aret0 (v := some (adr G 112)) hx hb hr (Or.inl ⟨_, rfl⟩) hlk hR hS (Nat.zero_le _) (Nat.zero_le _) dX9_at_6
def rm_X8_need : Room := { frames := 3, cells := 0, slots := 0, locals := 33 }
theorem hd_X8_need : yX8_need.cls = "IntentVats$Reader" ∧ yX8_need.cls ≠ "java/lang/invoke/MethodHandle" ∧ yX8_need.cls ≠ "java/lang/invoke/VarHandle" ∧ (parseMethodDescriptor yX8_need.desc).map (fun d => d.parameters.length) = some 1 := by decide +kernel
theorem he_X8_need : yX8_need.cls ≠ "java/lang/invoke/MethodHandle" ∧ yX8_need.cls ≠ "java/lang/invoke/VarHandle" ∧ (parseMethodDescriptor yX8_need.desc).map (fun d => d.parameters.length) = some 1 := hd_X8_need.2
set_option maxHeartbeats 4000000 in
set_option maxRecDepth 100000 in
theorem w_X8_need {l : Launch} {G : Gx} {sh : SM} {g : GM} {gl : LM} {gr : RM} {n0 : Nat} (hSk : Sk sh gr) (a1 : Int32)  {oo : (GM ⊕ (Nat × GM))} {o : XO} (h : f_X8_need g a1 = some oo) (ho : o = (oo.elim (fun p => .inl (none, sh, p, gl, gr)) (fun q => .inr (q.1, sh, q.2, gl, gr)))) : MetX l G yX8_need (ws_ yX8_need cX8_need 2 (Option.none : Option Jvm.ClassFile.FieldType)) rm_X8_need [.ref (adr G 109), .int a1] sh g gl gr n0 o := by
  refine MetX.of (by decide) (Nat.le_of_ble_eq_true rfl) ?_
  intro p e s m below meth c ls hx hb hr hml hown hts hlk htb hW hK hR hS hl
  have hn : n0 ≤ n0 := Nat.le_refl _
  have hown : s.vm.findClass RX8 = some m.cls := hown
  have hF : CallFix p m c cX8_need 2 s ([.ref (adr G 109), .int a1] : List Value).toArray lw_all RX8 := ⟨hx, hb, hml, hown, hts⟩
  have hl : lv_has ls 2 [(0, .ref (adr G 109)), (1, .int a1)] := hl
  unfold f_X8_need at h
  refine lv_iload_n hx hb dX8_need_0 rfl (lv_at hl 1 rfl) ?_
  refine lv_if_ne (tgt := 16) hx hb dX8_need_1 (by decide) (fun c1 => ?_) (fun c1 => ?_)
  · replace h := ifn h c1
    obtain rfl := s1i h
    exact x_vret hx hb hr hlk hn hR hS (Nat.zero_le _) (Nat.zero_le _) ho dX8_need_16
  · replace h := ifp h c1
    refine lv_aload_n hx hb dX8_need_4 rfl (lv_at hl 0 rfl) ?_
    refine r_getr hx hb hts cfX8 hown hK hR (sk_109 hSk) 2 (by decide) rfl (sr_109_2 hSk) (hts _ q353) (fun _ h => h) dX8_need_5 ?_
    refine lv_aload_n hx hb dX8_need_8 rfl (lv_at hl 0 rfl) ?_
    refine r_geti hx hb hts cfX8 hown hK hR (sk_109 hSk) 6 (by decide) rfl (hts _ q357) (fun _ h => h) dX8_need_9 ?_
    obtain ⟨g3, e2, h⟩ := obd h
    refine rc_V0 (rest := []) (st1 := [.ref (adr G 112)]) hF (w_X9_at hSk (g 109 6) e2) (cwV 1 hts (lw_V q616 q617 q618 q112 q619) rfl rfl rfl hd_X9_at ⟨Nat.le_of_ble_eq_true rfl, Nat.le_of_ble_eq_true rfl⟩) cfX9 (sk_112 hSk) hK hW hR hS rfl hl.1 rfl (Nat.le_of_ble_eq_true rfl) rfl dX8_need_12 ⟨rfl, rfl⟩ ⟨Nat.zero_le _, Nat.zero_le _⟩ (fun H locs hR hS => ?_)
    obtain rfl := s1i h
    exact x_throw hx hb cfX9 hK (sk_112 hSk) rfl rfl htb hlk hn hR hS (Nat.zero_le _) (Nat.zero_le _) ho dX8_need_15
def rm_X8_may : Room := { frames := 7, cells := 0, slots := 0, locals := 244 }
theorem hd_X8_may : yX8_may.cls = "IntentVats$Reader" ∧ yX8_may.cls ≠ "java/lang/invoke/MethodHandle" ∧ yX8_may.cls ≠ "java/lang/invoke/VarHandle" ∧ (parseMethodDescriptor yX8_may.desc).map (fun d => d.parameters.length) = some 1 := by decide +kernel
theorem he_X8_may : yX8_may.cls ≠ "java/lang/invoke/MethodHandle" ∧ yX8_may.cls ≠ "java/lang/invoke/VarHandle" ∧ (parseMethodDescriptor yX8_may.desc).map (fun d => d.parameters.length) = some 1 := hd_X8_may.2

set_option maxHeartbeats 4000000 in
set_option maxRecDepth 100000 in
theorem w_X8_may {l : Launch} {G : Gx} {sh : SM} {g : GM} {gl : LM} {gr : RM} {n : Nat} (hSk : Sk sh gr) (a1 : Nat) (hTx : gr 109 4 = some 108) {r : Int32} {go : GM} (h : f_X8_may g a1 = some (r, go)) : MetI l G yX8_may (ws_ yX8_may cX8_may 2 (Option.some Jvm.ClassFile.FieldType.boolean)) rm_X8_may [.ref (adr G 109), .ref (adr G a1)] sh g gl gr n (some (.int r)) sh go gl gr n := by
  refine MetI.of (by decide) (Nat.le_of_ble_eq_true rfl) ?_
  intro p e s m below meth c ls hx hb hr hml hown hts hlk hnm hW hK hR hS hl
  have hown : s.vm.findClass RX8 = some m.cls := hown
  have hF : CallFix p m c cX8_may 2 s ([.ref (adr G 109), .ref (adr G a1)] : List Value).toArray lw_all RX8 := ⟨hx, hb, hml, hown, hts⟩
  have hl : lv_has ls 2 [(0, .ref (adr G 109)), (1, .ref (adr G a1))] := hl
  unfold f_X8_may at h
  refine lv_aload_n hx hb dX8_may_0 rfl (lv_at hl 0 rfl) ?_
  refine lv_aload_n hx hb dX8_may_1 rfl (lv_at hl 1 rfl) ?_
  obtain ⟨r2, e1, h⟩ := obd h
  refine rc_V0 (rest := []) (st1 := [.int r2]) hF (w_X8_isWord hSk a1 hTx e1) (cwV 1 hts (lw_V q556 q558 qs5 q108 q559) rfl rfl rfl hd_X8_isWord ⟨Nat.le_of_ble_eq_true rfl, Nat.le_of_ble_eq_true rfl⟩) cfX8 (sk_109 hSk) hK hW hR hS rfl hl.1 rfl (Nat.le_of_ble_eq_true rfl) rfl dX8_may_2 ⟨rfl, rfl⟩ ⟨Nat.zero_le _, Nat.zero_le _⟩ (fun H locs hR hS => ?_)
  refine lv_if_ne (tgt := 10) hx hb dX8_may_5 (by decide) (fun c3 => ?_) (fun c3 => ?_)
  · replace h := ifn h c3
    refine lv_aload_n hx hb dX8_may_10 rfl (lv_at hl 0 rfl) ?_
    obtain ⟨g5, e4, h⟩ := obd h
    refine rc_V0 (rest := []) (st1 := []) hF (w_X8_next hSk hTx e4) (cwV 0 hts (lw_V q534 q536 qs2 q108 q537) rfl rfl rfl hd_X8_next ⟨Nat.le_of_ble_eq_true rfl, Nat.le_of_ble_eq_true rfl⟩) cfX8 (sk_109 hSk) hK hW hR hS rfl hl.1 rfl (Nat.le_of_ble_eq_true rfl) rfl dX8_may_11 ⟨rfl, rfl⟩ ⟨Nat.zero_le _, Nat.zero_le _⟩ (fun H locs hR hS => ?_)
    refine lv_iconst (v := 1) hx hb dX8_may_14 ki_1 ?_
    obtain ⟨rfl, rfl⟩ := s2i h
    exact r_zret0 hx hb hr hlk hR hS (Nat.zero_le _) (Nat.zero_le _) (by decide) dX8_may_15
  · replace h := ifp h c3
    refine lv_iconst (v := 0) hx hb dX8_may_8 ki_0 ?_
    obtain ⟨rfl, rfl⟩ := s2i h
    exact r_zret0 hx hb hr hlk hR hS (Nat.zero_le _) (Nat.zero_le _) (by decide) dX8_may_9
def rm_X8_seen : Room := { frames := 4, cells := 0, slots := 0, locals := 54 }
theorem hd_X8_seen : yX8_seen.cls = "IntentVats$Reader" ∧ yX8_seen.cls ≠ "java/lang/invoke/MethodHandle" ∧ yX8_seen.cls ≠ "java/lang/invoke/VarHandle" ∧ (parseMethodDescriptor yX8_seen.desc).map (fun d => d.parameters.length) = some 2 := by decide +kernel
theorem he_X8_seen : yX8_seen.cls ≠ "java/lang/invoke/MethodHandle" ∧ yX8_seen.cls ≠ "java/lang/invoke/VarHandle" ∧ (parseMethodDescriptor yX8_seen.desc).map (fun d => d.parameters.length) = some 2 := hd_X8_seen.2
set_option maxHeartbeats 4000000 in
set_option maxRecDepth 100000 in
theorem w_X8_seen {l : Launch} {G : Gx} {sh : SM} {g : GM} {gl : LM} {gr : RM} {n0 : Nat} (hSk : Sk sh gr) (a1 : Int32) (a2 : Int32) (hTx : gr 109 4 = some 108) {oo : ((Int32 × GM) ⊕ (Nat × GM))} {o : XO} (h : f_X8_seen g a1 a2 = some oo) (ho : o = (oo.elim (fun p => .inl (some (.int p.1), sh, p.2, gl, gr)) (fun q => .inr (q.1, sh, q.2, gl, gr)))) : MetX l G yX8_seen (ws_ yX8_seen cX8_seen 5 (Option.some Jvm.ClassFile.FieldType.int)) rm_X8_seen [.ref (adr G 109), .int a1, .int a2] sh g gl gr n0 o := by
  refine MetX.of (by decide) (Nat.le_of_ble_eq_true rfl) ?_
  intro p e s m below meth c ls hx hb hr hml hown hts hlk htb hW hK hR hS hl
  have hn : n0 ≤ n0 := Nat.le_refl _
  have hown : s.vm.findClass RX8 = some m.cls := hown
  have hF : CallFix p m c cX8_seen 5 s ([.ref (adr G 109), .int a1, .int a2] : List Value).toArray lw_all RX8 := ⟨hx, hb, hml, hown, hts⟩
  have hl : lv_has ls 5 [(0, .ref (adr G 109)), (1, .int a1), (2, .int a2)] := hl
  unfold f_X8_seen at h
  refine lv_aload_n hx hb dX8_seen_0 rfl (lv_at hl 0 rfl) ?_
  refine lv_aload_n hx hb dX8_seen_1 rfl (lv_at hl 0 rfl) ?_
  obtain ⟨r2, e1, h⟩ := obd h
  refine rc_V0 (rest := [.ref (adr G 109)]) (st1 := [.int r2, .ref (adr G 109)]) hF (w_X8_here hSk hTx e1) (cwV 0 hts (lw_V q538 q540 qs3 q108 q541) rfl rfl rfl hd_X8_here ⟨Nat.le_of_ble_eq_true rfl, Nat.le_of_ble_eq_true rfl⟩) cfX8 (sk_109 hSk) hK hW hR hS rfl hl.1 rfl (Nat.le_of_ble_eq_true rfl) rfl dX8_seen_2 ⟨rfl, rfl⟩ ⟨Nat.zero_le _, Nat.zero_le _⟩ (fun H locs hR hS => ?_)
  obtain ⟨r4, e3, h⟩ := obd h
  refine rc_S0 (rest := [.ref (adr G 109)]) (st1 := [.int r4, .ref (adr G 109)]) hF (w_X8_isDigit hSk r2 e3) (va_cwS 1 hts (lw_S q545 q546 q108 q547) rfl rfl rfl he_X8_isDigit ⟨Nat.le_of_ble_eq_true rfl, Nat.le_of_ble_eq_true rfl⟩) hW hR hS rfl hl.1 rfl (Nat.le_of_ble_eq_true rfl) rfl dX8_seen_5 ⟨rfl, rfl⟩ ⟨Nat.zero_le _, Nat.zero_le _⟩ (fun H locs hR hS => ?_)
  have J29 : ∀ (x5 : Int32) (n : Nat) (H : Heap) (locs : List Loc) (ls : Array Slot), n0 ≤ n → Rep G sh g gl gr n H → va_S (own G) s.heap H locs → lv_has ls 5 [(0, .ref (adr G 109)), (1, .int a1), (2, .int a2)] → j_X8_seen_29 g a1 a2 x5 = some oo → W p l e rm_X8_seen s m ([.ref (adr G 109), .int a1, .int a2] : List Value).toArray below meth c H locs 0 0 (XQ G below n0 o ([.ref (adr G 109), .int a1, .int a2] : List Value).toArray s rm_X8_seen) (F0 m 29 ls [.int x5, .ref (adr G 109)]) := by
    intro x5 n H locs ls hn hR hS hl h
    unfold j_X8_seen_29 at h
    rcases obx12 h with ⟨ec7, g9, e6, h⟩ | ⟨g8, e6, h⟩
    · refine xc_x (xr_V (ox := (.inr (ec7, sh, g9, gl, gr))) (rest := []) hF (w_X8_need hSk x5 e6 rfl) (cwV 1 hts (lw_V q612 q614 qs7 q108 q615) rfl rfl rfl hd_X8_need ⟨Nat.le_of_ble_eq_true rfl, Nat.le_of_ble_eq_true rfl⟩) cfX8 (sk_109 hSk) hK hW hR rfl hl.1 rfl (Nat.le_of_ble_eq_true rfl) dX8_seen_29 ⟨Nat.le_of_ble_eq_true rfl, Nat.le_of_ble_eq_true rfl⟩) hS (fun n H locs q9 ce9 hn2 hR hS hq9 hce9 hcv9 hcl9 => ?_)
      obtain rfl := s1i h
      exact x_out htb hlk (Nat.le_trans hn hn2) hR hS (Nat.le_of_ble_eq_true rfl) (Nat.le_of_ble_eq_true rfl) ho hq9 hce9 hcv9 hcl9
    refine xc_r (xr_V (ox := (.inl (none, sh, g8, gl, gr))) (rest := []) hF (w_X8_need hSk x5 e6 rfl) (cwV 1 hts (lw_V q612 q614 qs7 q108 q615) rfl rfl rfl hd_X8_need ⟨Nat.le_of_ble_eq_true rfl, Nat.le_of_ble_eq_true rfl⟩) cfX8 (sk_109 hSk) hK hW hR rfl hl.1 rfl (Nat.le_of_ble_eq_true rfl) dX8_seen_29 ⟨Nat.le_of_ble_eq_true rfl, Nat.le_of_ble_eq_true rfl⟩) hS (fun n H locs hn2 hR hS => ?_)
    replace hn := Nat.le_trans hn hn2
    refine W.widen (k := 0) (n := 0) (Nat.le_of_ble_eq_true rfl) (Nat.le_of_ble_eq_true rfl) ?_
    refine lv_iconst (v := 0) hx hb dX8_seen_32 ki_0 ?_
    refine lv_istore_n (lv' := [(3, .int 0), (0, .ref (adr G 109)), (1, .int a1), (2, .int a2)]) hx hb dX8_seen_33 rfl hl (by decide) rfl (fun ls hl => ?_)
    refine lv_aload_n hx hb dX8_seen_34 rfl (lv_at hl 1 rfl) ?_
    refine r_geti hx hb hts cfX8 hown hK hR (sk_109 hSk) 6 (by decide) rfl (hts _ q357) (fun _ h => h) dX8_seen_35 ?_
    refine lv_istore (lv' := [(4, .int (g8 109 6)), (3, .int 0), (0, .ref (adr G 109)), (1, .int a1), (2, .int a2)]) hx hb dX8_seen_38 hl (by decide) rfl (fun ls hl => ?_)
    have J40 : ∀ (k40 : Nat) (x10 : Int32) (x11 : Int32) (n : Nat) (H : Heap) (locs : List Loc) (ls : Array Slot), n0 ≤ n → Rep G sh g8 gl gr n H → va_S (own G) s.heap H locs → lv_has ls 5 [(0, .ref (adr G 109)), (1, .int a1), (2, .int a2), (3, .int x10), (4, .int x11)] → l_X8_seen_40 a1 a2 g8 k40 x10 x11 = some oo → W p l e rm_X8_seen s m ([.ref (adr G 109), .int a1, .int a2] : List Value).toArray below meth c H locs 0 0 (XQ G below n0 o ([.ref (adr G 109), .int a1, .int a2] : List Value).toArray s rm_X8_seen) (F0 m 40 ls []) := by
      intro k40
      induction k40 with
      | zero => intro _ _ _ _ _ _ _ _ _ _; exact nofun
      | succ k40 ih40 =>
        intro x10 x11 n H locs ls hn hR hS hl h
        unfold l_X8_seen_40 b_X8_seen_40 at h
        refine lv_iload hx hb dX8_seen_40 (lv_at hl 4 rfl) ?_
        refine lv_aload_n hx hb dX8_seen_42 rfl (lv_at hl 0 rfl) ?_
        refine r_geti hx hb hts cfX8 hown hK hR (sk_109 hSk) 7 (by decide) rfl (hts _ q358) (fun _ h => h) dX8_seen_43 ?_
        refine lv_icmp_ge (tgt := 71) hx hb dX8_seen_46 (by decide) (fun c12 => ?_) (fun c12 => ?_)
        · replace h := ifp h c12
          refine lv_aload_n hx hb dX8_seen_71 rfl (lv_at hl 0 rfl) ?_
          refine lv_iload_n hx hb dX8_seen_72 rfl (lv_at hl 3 rfl) ?_
          refine lv_iload_n hx hb dX8_seen_73 rfl (lv_at hl 1 rfl) ?_
          refine lv_iload_n hx hb dX8_seen_74 rfl (lv_at hl 2 rfl) ?_
          obtain ⟨r14, e13, h⟩ := obd h
          refine rc_SN0 (rest := [.ref (adr G 109)]) (st1 := [.int r14, .ref (adr G 109)]) hF (w_X0_in hSk x10 a1 a2 e13) ⟨va_cnB 3 hts (lw_meth q510) rfl rfl rfl (hW.nestM q641) (hts _ q100) he_X0_in ⟨Nat.le_of_ble_eq_true rfl, Nat.le_of_ble_eq_true rfl⟩, hts _ q509, trivial⟩ hW hR hS rfl hl.1 rfl (Nat.le_of_ble_eq_true rfl) rfl dX8_seen_75 ⟨rfl, rfl⟩ ⟨Nat.zero_le _, Nat.zero_le _⟩ (fun H locs hR hS => ?_)
          rcases obx12 h with ⟨ec16, g18, e15, h⟩ | ⟨g17, e15, h⟩
          · refine xc_x (xr_V (ox := (.inr (ec16, sh, g18, gl, gr))) (rest := []) hF (w_X8_need hSk r14 e15 rfl) (cwV 1 hts (lw_V q612 q614 qs7 q108 q615) rfl rfl rfl hd_X8_need ⟨Nat.le_of_ble_eq_true rfl, Nat.le_of_ble_eq_true rfl⟩) cfX8 (sk_109 hSk) hK hW hR rfl hl.1 rfl (Nat.le_of_ble_eq_true rfl) dX8_seen_78 ⟨Nat.le_of_ble_eq_true rfl, Nat.le_of_ble_eq_true rfl⟩) hS (fun n H locs q9 ce9 hn2 hR hS hq9 hce9 hcv9 hcl9 => ?_)
            obtain rfl := s1i h
            exact x_out htb hlk (Nat.le_trans hn hn2) hR hS (Nat.le_of_ble_eq_true rfl) (Nat.le_of_ble_eq_true rfl) ho hq9 hce9 hcv9 hcl9
          refine xc_r (xr_V (ox := (.inl (none, sh, g17, gl, gr))) (rest := []) hF (w_X8_need hSk r14 e15 rfl) (cwV 1 hts (lw_V q612 q614 qs7 q108 q615) rfl rfl rfl hd_X8_need ⟨Nat.le_of_ble_eq_true rfl, Nat.le_of_ble_eq_true rfl⟩) cfX8 (sk_109 hSk) hK hW hR rfl hl.1 rfl (Nat.le_of_ble_eq_true rfl) dX8_seen_78 ⟨Nat.le_of_ble_eq_true rfl, Nat.le_of_ble_eq_true rfl⟩) hS (fun n H locs hn2 hR hS => ?_)
          replace hn := Nat.le_trans hn hn2
          refine W.widen (k := 0) (n := 0) (Nat.le_of_ble_eq_true rfl) (Nat.le_of_ble_eq_true rfl) ?_
          refine lv_iload_n hx hb dX8_seen_81 rfl (lv_at hl 3 rfl) ?_
          obtain rfl := s1i h
          exact x_iret hx hb hr hlk hn hR hS (Nat.zero_le _) (Nat.zero_le _) ho dX8_seen_82
        · replace h := ifn h c12
          refine lv_bipush (v := 10) hx hb dX8_seen_49 kb_10 ?_
          refine lv_iload_n hx hb dX8_seen_51 rfl (lv_at hl 3 rfl) ?_
          refine lv_imul hx hb dX8_seen_52 ?_
          refine lv_aload_n hx hb dX8_seen_53 rfl (lv_at hl 0 rfl) ?_
          refine r_getr hx hb hts cfX8 hown hK hR (sk_109 hSk) 4 (by decide) rfl hTx (hts _ q355) (fun _ h => h) dX8_seen_54 ?_
          refine lv_iload hx hb dX8_seen_57 (lv_at hl 4 rfl) ?_
          obtain ⟨v20, e19, h⟩ := obd h
          refine r_ldb hx hb hK hR (sk_108 hSk) e19 dX8_seen_59 ?_
          refine lv_iadd hx hb dX8_seen_60 ?_
          refine lv_bipush (v := 48) hx hb dX8_seen_61 kb_48 ?_
          refine lv_isub hx hb dX8_seen_63 ?_
          refine lv_istore_n (lv' := [(3, .int (((10 * x10) + v20) - 48)), (0, .ref (adr G 109)), (1, .int a1), (2, .int a2), (4, .int x11)]) hx hb dX8_seen_64 rfl hl (by decide) rfl (fun ls hl => ?_)
          refine lv_iinc (v := x11 + 1) (lv' := [(4, .int (x11 + 1)), (3, .int (((10 * x10) + v20) - 48)), (0, .ref (adr G 109)), (1, .int a1), (2, .int a2)]) hx hb dX8_seen_65 hl (k := 4) rfl rfl (by decide) rfl (fun ls hl => ?_)
          refine lv_goto (tgt := 40) hx hb dX8_seen_68 (by decide) ?_
          exact ih40 (((10 * x10) + v20) - 48) (x11 + 1) _ _ _ _ hn hR hS (lv_sub hl [2, 3, 4, 1, 0] rfl) h
    exact J40 fuel 0 (g8 109 6) _ _ _ _ hn hR hS (lv_sub hl [2, 3, 4, 1, 0] rfl) h
  have J28 : ∀  (n : Nat) (H : Heap) (locs : List Loc) (ls : Array Slot), n0 ≤ n → Rep G sh g gl gr n H → va_S (own G) s.heap H locs → lv_has ls 5 [(0, .ref (adr G 109)), (1, .int a1), (2, .int a2)] → j_X8_seen_28 g a1 a2  = some oo → W p l e rm_X8_seen s m ([.ref (adr G 109), .int a1, .int a2] : List Value).toArray below meth c H locs 0 0 (XQ G below n0 o ([.ref (adr G 109), .int a1, .int a2] : List Value).toArray s rm_X8_seen) (F0 m 28 ls [.ref (adr G 109)]) := by
    intro  n H locs ls hn hR hS hl h
    unfold j_X8_seen_28 at h
    refine lv_iconst (v := 0) hx hb dX8_seen_28 ki_0 ?_
    exact J29 0 _ _ _ _ hn hR hS (lv_sub hl [0, 1, 2] rfl) h
  refine lv_if_eq (tgt := 28) hx hb dX8_seen_8 (by decide) (fun c21 => ?_) (fun c21 => ?_)
  · replace h := ifp h c21
    exact J28  _ _ _ _ hn hR hS (lv_sub hl [0, 1, 2] rfl) h
  · replace h := ifn h c21
    refine lv_aload_n hx hb dX8_seen_11 rfl (lv_at hl 0 rfl) ?_
    refine r_geti hx hb hts cfX8 hown hK hR (sk_109 hSk) 7 (by decide) rfl (hts _ q358) (fun _ h => h) dX8_seen_12 ?_
    refine lv_aload_n hx hb dX8_seen_15 rfl (lv_at hl 0 rfl) ?_
    refine r_geti hx hb hts cfX8 hown hK hR (sk_109 hSk) 6 (by decide) rfl (hts _ q357) (fun _ h => h) dX8_seen_16 ?_
    refine lv_isub hx hb dX8_seen_19 ?_
    refine lv_iconst (v := 3) hx hb dX8_seen_20 ki_3 ?_
    refine lv_icmp_gt (tgt := 28) hx hb dX8_seen_21 (by decide) (fun c22 => ?_) (fun c22 => ?_)
    · replace h := ifp h c22
      exact J28  _ _ _ _ hn hR hS (lv_sub hl [0, 1, 2] rfl) h
    · replace h := ifn h c22
      refine lv_iconst (v := 1) hx hb dX8_seen_24 ki_1 ?_
      refine lv_goto (tgt := 29) hx hb dX8_seen_25 (by decide) ?_
      exact J29 1 _ _ _ _ hn hR hS (lv_sub hl [0, 1, 2] rfl) h
def rm_X8_number : Room := { frames := 5, cells := 0, slots := 0, locals := 78 }
theorem hd_X8_number : yX8_number.cls = "IntentVats$Reader" ∧ yX8_number.cls ≠ "java/lang/invoke/MethodHandle" ∧ yX8_number.cls ≠ "java/lang/invoke/VarHandle" ∧ (parseMethodDescriptor yX8_number.desc).map (fun d => d.parameters.length) = some 2 := by decide +kernel
theorem he_X8_number : yX8_number.cls ≠ "java/lang/invoke/MethodHandle" ∧ yX8_number.cls ≠ "java/lang/invoke/VarHandle" ∧ (parseMethodDescriptor yX8_number.desc).map (fun d => d.parameters.length) = some 2 := hd_X8_number.2
set_option maxHeartbeats 4000000 in
set_option maxRecDepth 100000 in
theorem w_X8_number {l : Launch} {G : Gx} {sh : SM} {g : GM} {gl : LM} {gr : RM} {n0 : Nat} (hSk : Sk sh gr) (a1 : Int32) (a2 : Int32) (hTx : gr 109 4 = some 108) {oo : ((Int32 × GM) ⊕ (Nat × GM))} {o : XO} (h : f_X8_number g a1 a2 = some oo) (ho : o = (oo.elim (fun p => .inl (some (.int p.1), sh, p.2, gl, gr)) (fun q => .inr (q.1, sh, q.2, gl, gr)))) : MetX l G yX8_number (ws_ yX8_number cX8_number 4 (Option.some Jvm.ClassFile.FieldType.int)) rm_X8_number [.ref (adr G 109), .int a1, .int a2] sh g gl gr n0 o := by
  refine MetX.of (by decide) (Nat.le_of_ble_eq_true rfl) ?_
  intro p e s m below meth c ls hx hb hr hml hown hts hlk htb hW hK hR hS hl
  have hn : n0 ≤ n0 := Nat.le_refl _
  have hown : s.vm.findClass RX8 = some m.cls := hown
  have hF : CallFix p m c cX8_number 4 s ([.ref (adr G 109), .int a1, .int a2] : List Value).toArray lw_all RX8 := ⟨hx, hb, hml, hown, hts⟩
  have hl : lv_has ls 4 [(0, .ref (adr G 109)), (1, .int a1), (2, .int a2)] := hl
  unfold f_X8_number at h
  refine lv_aload_n hx hb dX8_number_0 rfl (lv_at hl 0 rfl) ?_
  refine lv_iload_n hx hb dX8_number_1 rfl (lv_at hl 1 rfl) ?_
  refine lv_iload_n hx hb dX8_number_2 rfl (lv_at hl 2 rfl) ?_
  rcases obx22 h with ⟨ec3, g5, e1, h⟩ | ⟨r2, g4, e1, h⟩
  · refine xc_x (xr_V (ox := (.inr (ec3, sh, g5, gl, gr))) (rest := []) hF (w_X8_seen hSk a1 a2 hTx e1 rfl) (cwV 2 hts (lw_V q637 q639 qs10 q108 q640) rfl rfl rfl hd_X8_seen ⟨Nat.le_of_ble_eq_true rfl, Nat.le_of_ble_eq_true rfl⟩) cfX8 (sk_109 hSk) hK hW hR rfl hl.1 rfl (Nat.le_of_ble_eq_true rfl) dX8_number_3 ⟨Nat.le_of_ble_eq_true rfl, Nat.le_of_ble_eq_true rfl⟩) hS (fun n H locs q9 ce9 hn2 hR hS hq9 hce9 hcv9 hcl9 => ?_)
    obtain rfl := s1i h
    exact x_out htb hlk (Nat.le_trans hn hn2) hR hS (Nat.le_of_ble_eq_true rfl) (Nat.le_of_ble_eq_true rfl) ho hq9 hce9 hcv9 hcl9
  refine xc_r (xr_V (ox := (.inl (some (.int r2), sh, g4, gl, gr))) (rest := []) hF (w_X8_seen hSk a1 a2 hTx e1 rfl) (cwV 2 hts (lw_V q637 q639 qs10 q108 q640) rfl rfl rfl hd_X8_seen ⟨Nat.le_of_ble_eq_true rfl, Nat.le_of_ble_eq_true rfl⟩) cfX8 (sk_109 hSk) hK hW hR rfl hl.1 rfl (Nat.le_of_ble_eq_true rfl) dX8_number_3 ⟨Nat.le_of_ble_eq_true rfl, Nat.le_of_ble_eq_true rfl⟩) hS (fun n H locs hn2 hR hS => ?_)
  replace hn := Nat.le_trans hn hn2
  refine W.widen (k := 0) (n := 0) (Nat.le_of_ble_eq_true rfl) (Nat.le_of_ble_eq_true rfl) ?_
  refine lv_istore_n (lv' := [(3, .int r2), (0, .ref (adr G 109)), (1, .int a1), (2, .int a2)]) hx hb dX8_number_6 rfl hl (by decide) rfl (fun ls hl => ?_)
  refine lv_aload_n hx hb dX8_number_7 rfl (lv_at hl 1 rfl) ?_
  obtain ⟨g7, e6, h⟩ := obd h
  refine rc_V0 (rest := []) (st1 := []) hF (w_X8_next hSk hTx e6) (cwV 0 hts (lw_V q534 q536 qs2 q108 q537) rfl rfl rfl hd_X8_next ⟨Nat.le_of_ble_eq_true rfl, Nat.le_of_ble_eq_true rfl⟩) cfX8 (sk_109 hSk) hK hW hR hS rfl hl.1 rfl (Nat.le_of_ble_eq_true rfl) rfl dX8_number_8 ⟨rfl, rfl⟩ ⟨Nat.zero_le _, Nat.zero_le _⟩ (fun H locs hR hS => ?_)
  refine lv_iload_n hx hb dX8_number_11 rfl (lv_at hl 0 rfl) ?_
  obtain rfl := s1i h
  exact x_iret hx hb hr hlk hn hR hS (Nat.zero_le _) (Nat.zero_le _) ho dX8_number_12
def rm_X8_cloth : Room := { frames := 8, cells := 0, slots := 0, locals := 265 }
theorem hd_X8_cloth : yX8_cloth.cls = "IntentVats$Reader" ∧ yX8_cloth.cls ≠ "java/lang/invoke/MethodHandle" ∧ yX8_cloth.cls ≠ "java/lang/invoke/VarHandle" ∧ (parseMethodDescriptor yX8_cloth.desc).map (fun d => d.parameters.length) = some 1 := by decide +kernel
theorem he_X8_cloth : yX8_cloth.cls ≠ "java/lang/invoke/MethodHandle" ∧ yX8_cloth.cls ≠ "java/lang/invoke/VarHandle" ∧ (parseMethodDescriptor yX8_cloth.desc).map (fun d => d.parameters.length) = some 1 := hd_X8_cloth.2
set_option maxHeartbeats 4000000 in
set_option maxRecDepth 100000 in
theorem w_X8_cloth {l : Launch} {G : Gx} {sh : SM} {g : GM} {gl : LM} {gr : RM} {n0 : Nat} (hSk : Sk sh gr) (a1 : Int32) (hTx : gr 109 4 = some 108) {oo : (GM ⊕ (Nat × GM))} {o : XO} (h : f_X8_cloth g a1 = some oo) (ho : o = (oo.elim (fun p => .inl (none, sh, p, gl, gr)) (fun q => .inr (q.1, sh, q.2, gl, gr)))) : MetX l G yX8_cloth (ws_ yX8_cloth cX8_cloth 3 (Option.none : Option Jvm.ClassFile.FieldType)) rm_X8_cloth [.ref (adr G 109), .int a1] sh g gl gr n0 o := by
  refine MetX.of (by decide) (Nat.le_of_ble_eq_true rfl) ?_
  intro p e s m below meth c ls hx hb hr hml hown hts hlk htb hW hK hR hS hl
  have hn : n0 ≤ n0 := Nat.le_refl _
  have hown : s.vm.findClass RX8 = some m.cls := hown
  have hF : CallFix p m c cX8_cloth 3 s ([.ref (adr G 109), .int a1] : List Value).toArray lw_all RX8 := ⟨hx, hb, hml, hown, hts⟩
  have hl : lv_has ls 3 [(0, .ref (adr G 109)), (1, .int a1)] := hl
  unfold f_X8_cloth at h
  refine lv_aload_n hx hb dX8_cloth_0 rfl (lv_at hl 0 rfl) ?_
  refine lv_aload_n hx hb dX8_cloth_1 rfl (lv_at hl 0 rfl) ?_
  refine r_getr hx hb hts cfX8 hown hK hR (sk_109 hSk) 3 (by decide) rfl (sr_109_3 hSk) (hts _ q354) (fun _ h => h) dX8_cloth_2 ?_
  refine r_getiN hx hb hts cfX1 hown hK hR (sk_83 hSk) 0 (by decide) rfl (hW.nestF q154) (fun _ h => h) dX8_cloth_5 ?_
  refine lv_bipush (v := 8) hx hb dX8_cloth_8 kb_8 ?_
  have J18 : ∀ (x1 : Int32) (n : Nat) (H : Heap) (locs : List Loc) (ls : Array Slot), n0 ≤ n → Rep G sh g gl gr n H → va_S (own G) s.heap H locs → lv_has ls 3 [(0, .ref (adr G 109)), (1, .int a1)] → j_X8_cloth_18 g a1 x1 = some oo → W p l e rm_X8_cloth s m ([.ref (adr G 109), .int a1] : List Value).toArray below meth c H locs 0 0 (XQ G below n0 o ([.ref (adr G 109), .int a1] : List Value).toArray s rm_X8_cloth) (F0 m 18 ls [.int x1, .ref (adr G 109)]) := by
    intro x1 n H locs ls hn hR hS hl h
    unfold j_X8_cloth_18 at h
    rcases obx12 h with ⟨ec3, g5, e2, h⟩ | ⟨g4, e2, h⟩
    · refine xc_x (xr_V (ox := (.inr (ec3, sh, g5, gl, gr))) (rest := []) hF (w_X8_need hSk x1 e2 rfl) (cwV 1 hts (lw_V q612 q614 qs7 q108 q615) rfl rfl rfl hd_X8_need ⟨Nat.le_of_ble_eq_true rfl, Nat.le_of_ble_eq_true rfl⟩) cfX8 (sk_109 hSk) hK hW hR rfl hl.1 rfl (Nat.le_of_ble_eq_true rfl) dX8_cloth_18 ⟨Nat.le_of_ble_eq_true rfl, Nat.le_of_ble_eq_true rfl⟩) hS (fun n H locs q9 ce9 hn2 hR hS hq9 hce9 hcv9 hcl9 => ?_)
      obtain rfl := s1i h
      exact x_out htb hlk (Nat.le_trans hn hn2) hR hS (Nat.le_of_ble_eq_true rfl) (Nat.le_of_ble_eq_true rfl) ho hq9 hce9 hcv9 hcl9
    refine xc_r (xr_V (ox := (.inl (none, sh, g4, gl, gr))) (rest := []) hF (w_X8_need hSk x1 e2 rfl) (cwV 1 hts (lw_V q612 q614 qs7 q108 q615) rfl rfl rfl hd_X8_need ⟨Nat.le_of_ble_eq_true rfl, Nat.le_of_ble_eq_true rfl⟩) cfX8 (sk_109 hSk) hK hW hR rfl hl.1 rfl (Nat.le_of_ble_eq_true rfl) dX8_cloth_18 ⟨Nat.le_of_ble_eq_true rfl, Nat.le_of_ble_eq_true rfl⟩) hS (fun n H locs hn2 hR hS => ?_)
    replace hn := Nat.le_trans hn hn2
    refine W.widen (k := 0) (n := 0) (Nat.le_of_ble_eq_true rfl) (Nat.le_of_ble_eq_true rfl) ?_
    refine lv_aload_n hx hb dX8_cloth_21 rfl (lv_at hl 0 rfl) ?_
    obtain ⟨g7, e6, h⟩ := obd h
    refine rc_V0 (rest := []) (st1 := []) hF (w_X8_next hSk hTx e6) (cwV 0 hts (lw_V q534 q536 qs2 q108 q537) rfl rfl rfl hd_X8_next ⟨Nat.le_of_ble_eq_true rfl, Nat.le_of_ble_eq_true rfl⟩) cfX8 (sk_109 hSk) hK hW hR hS rfl hl.1 rfl (Nat.le_of_ble_eq_true rfl) rfl dX8_cloth_22 ⟨rfl, rfl⟩ ⟨Nat.zero_le _, Nat.zero_le _⟩ (fun H locs hR hS => ?_)
    refine lv_aload_n hx hb dX8_cloth_25 rfl (lv_at hl 0 rfl) ?_
    refine r_getr hx hb hts cfX8 hown hK hR (sk_109 hSk) 3 (by decide) rfl (sr_109_3 hSk) (hts _ q354) (fun _ h => h) dX8_cloth_26 ?_
    refine lv_iload_n hx hb dX8_cloth_29 rfl (lv_at hl 1 rfl) ?_
    obtain ⟨r9, g10, e8, h⟩ := obd2 h
    refine rc_V0 (rest := []) (st1 := [.int r9]) hF (w_X1_add hSk 83 a1 (isMl_83) e8) (cwV 1 hts (lw_V q620 q621 q622 q101 q623) rfl rfl rfl hd_X1_add ⟨Nat.le_of_ble_eq_true rfl, Nat.le_of_ble_eq_true rfl⟩) cfX1 (sk_83 hSk) hK hW hR hS rfl hl.1 rfl (Nat.le_of_ble_eq_true rfl) rfl dX8_cloth_30 ⟨rfl, rfl⟩ ⟨Nat.zero_le _, Nat.zero_le _⟩ (fun H locs hR hS => ?_)
    refine lv_istore_n (lv' := [(2, .int r9), (0, .ref (adr G 109)), (1, .int a1)]) hx hb dX8_cloth_33 rfl hl (by decide) rfl (fun ls hl => ?_)
    refine lv_aload_n hx hb dX8_cloth_34 rfl (lv_at hl 1 rfl) ?_
    refine va_ldcS hx hb hown (str_10 hW) dX8_cloth_35 ?_
    obtain ⟨r12, g13, e11, h⟩ := obd2 h
    refine rc_V0 (rest := []) (st1 := [.int r12]) hF (w_X8_may hSk 10 hTx e11) (cwV 1 hts (lw_V q629 q631 qs8 q108 q632) rfl rfl rfl hd_X8_may ⟨Nat.le_of_ble_eq_true rfl, Nat.le_of_ble_eq_true rfl⟩) cfX8 (sk_109 hSk) hK hW hR hS rfl hl.1 rfl (Nat.le_of_ble_eq_true rfl) rfl dX8_cloth_37 ⟨rfl, rfl⟩ ⟨Nat.zero_le _, Nat.zero_le _⟩ (fun H locs hR hS => ?_)
    have J89 : ∀ (g14 : GM) (n : Nat) (H : Heap) (locs : List Loc) (ls : Array Slot), n0 ≤ n → Rep G sh g14 gl gr n H → va_S (own G) s.heap H locs → lv_has ls 3 [(0, .ref (adr G 109)), (2, .int r9)] → j_X8_cloth_89 r9 g14 = some oo → W p l e rm_X8_cloth s m ([.ref (adr G 109), .int a1] : List Value).toArray below meth c H locs 0 0 (XQ G below n0 o ([.ref (adr G 109), .int a1] : List Value).toArray s rm_X8_cloth) (F0 m 89 ls []) := by
      intro g14 n H locs ls hn hR hS hl h
      unfold j_X8_cloth_89 at h
      refine lv_aload_n hx hb dX8_cloth_89 rfl (lv_at hl 0 rfl) ?_
      refine r_getr hx hb hts cfX8 hown hK hR (sk_109 hSk) 3 (by decide) rfl (sr_109_3 hSk) (hts _ q354) (fun _ h => h) dX8_cloth_90 ?_
      refine lv_iload_n hx hb dX8_cloth_93 rfl (lv_at hl 1 rfl) ?_
      refine lv_aload_n hx hb dX8_cloth_94 rfl (lv_at hl 0 rfl) ?_
      refine va_ldcS hx hb hown (str_12 hW) dX8_cloth_95 ?_
      obtain ⟨r16, g17, e15, h⟩ := obd2 h
      refine rc_V0 (rest := [.int r9, .ref (adr G 83)]) (st1 := [.int r16, .int r9, .ref (adr G 83)]) hF (w_X8_may hSk 12 hTx e15) (cwV 1 hts (lw_V q629 q631 qs8 q108 q632) rfl rfl rfl hd_X8_may ⟨Nat.le_of_ble_eq_true rfl, Nat.le_of_ble_eq_true rfl⟩) cfX8 (sk_109 hSk) hK hW hR hS rfl hl.1 rfl (Nat.le_of_ble_eq_true rfl) rfl dX8_cloth_97 ⟨rfl, rfl⟩ ⟨Nat.zero_le _, Nat.zero_le _⟩ (fun H locs hR hS => ?_)
      obtain ⟨g19, e18, h⟩ := obd h
      refine rc_V0 (rest := []) (st1 := []) hF (w_X1_hangs hSk 83 r9 r16 (isMl_83) e18) (cwV 2 hts (lw_V q644 q625 q626 q101 q627) rfl rfl rfl hd_X1_hangs ⟨Nat.le_of_ble_eq_true rfl, Nat.le_of_ble_eq_true rfl⟩) cfX1 (sk_83 hSk) hK hW hR hS rfl hl.1 rfl (Nat.le_of_ble_eq_true rfl) rfl dX8_cloth_100 ⟨rfl, rfl⟩ ⟨Nat.zero_le _, Nat.zero_le _⟩ (fun H locs hR hS => ?_)
      obtain rfl := s1i h
      exact x_vret hx hb hr hlk hn hR hS (Nat.zero_le _) (Nat.zero_le _) ho dX8_cloth_103
    refine lv_if_eq (tgt := 89) hx hb dX8_cloth_40 (by decide) (fun c20 => ?_) (fun c20 => ?_)
    · replace h := ifp h c20
      exact J89 g13 _ _ _ _ hn hR hS (lv_sub hl [1, 0] rfl) h
    · replace h := ifn h c20
      refine lv_aload_n hx hb dX8_cloth_43 rfl (lv_at hl 1 rfl) ?_
      refine r_getr hx hb hts cfX8 hown hK hR (sk_109 hSk) 3 (by decide) rfl (sr_109_3 hSk) (hts _ q354) (fun _ h => h) dX8_cloth_44 ?_
      refine r_getrN hx hb hts cfX1 hown hK hR (sk_83 hSk) 9 (by decide) rfl (sr_83_9 hSk) (hW.nestF q184) (fun _ h => h) dX8_cloth_47 ?_
      refine lv_iload_n hx hb dX8_cloth_50 rfl (lv_at hl 0 rfl) ?_
      refine lv_aload_n hx hb dX8_cloth_51 rfl (lv_at hl 1 rfl) ?_
      refine lv_iconst (v := 0) hx hb dX8_cloth_52 ki_0 ?_
      refine lv_bipush (v := 9) hx hb dX8_cloth_53 kb_9 ?_
      rcases obx22 h with ⟨ec23, g25, e21, h⟩ | ⟨r22, g24, e21, h⟩
      · refine xc_x (xr_V (ox := (.inr (ec23, sh, g25, gl, gr))) (rest := [.int r9, .ref (adr G 89)]) hF (w_X8_number hSk 0 9 hTx e21 rfl) (cwV 2 hts (lw_V q633 q635 qs9 q108 q636) rfl rfl rfl hd_X8_number ⟨Nat.le_of_ble_eq_true rfl, Nat.le_of_ble_eq_true rfl⟩) cfX8 (sk_109 hSk) hK hW hR rfl hl.1 rfl (Nat.le_of_ble_eq_true rfl) dX8_cloth_55 ⟨Nat.le_of_ble_eq_true rfl, Nat.le_of_ble_eq_true rfl⟩) hS (fun n H locs q9 ce9 hn2 hR hS hq9 hce9 hcv9 hcl9 => ?_)
        obtain rfl := s1i h
        exact x_out htb hlk (Nat.le_trans hn hn2) hR hS (Nat.le_of_ble_eq_true rfl) (Nat.le_of_ble_eq_true rfl) ho hq9 hce9 hcv9 hcl9
      refine xc_r (xr_V (ox := (.inl (some (.int r22), sh, g24, gl, gr))) (rest := [.int r9, .ref (adr G 89)]) hF (w_X8_number hSk 0 9 hTx e21 rfl) (cwV 2 hts (lw_V q633 q635 qs9 q108 q636) rfl rfl rfl hd_X8_number ⟨Nat.le_of_ble_eq_true rfl, Nat.le_of_ble_eq_true rfl⟩) cfX8 (sk_109 hSk) hK hW hR rfl hl.1 rfl (Nat.le_of_ble_eq_true rfl) dX8_cloth_55 ⟨Nat.le_of_ble_eq_true rfl, Nat.le_of_ble_eq_true rfl⟩) hS (fun n H locs hn2 hR hS => ?_)
      replace hn := Nat.le_trans hn hn2
      refine W.widen (k := 0) (n := 0) (Nat.le_of_ble_eq_true rfl) (Nat.le_of_ble_eq_true rfl) ?_
      obtain ⟨g27, e26, h⟩ := obd h
      refine r_sti hx hb hK hR hS (sk_89 hSk) e26 dX8_cloth_58 (fun H locs hR hS => ?_)
      refine lv_aload_n hx hb dX8_cloth_59 rfl (lv_at hl 1 rfl) ?_
      refine r_getr hx hb hts cfX8 hown hK hR (sk_109 hSk) 3 (by decide) rfl (sr_109_3 hSk) (hts _ q354) (fun _ h => h) dX8_cloth_60 ?_
      refine r_getrN hx hb hts cfX1 hown hK hR (sk_83 hSk) 10 (by decide) rfl (sr_83_10 hSk) (hW.nestF q187) (fun _ h => h) dX8_cloth_63 ?_
      refine lv_iload_n hx hb dX8_cloth_66 rfl (lv_at hl 0 rfl) ?_
      refine lv_aload_n hx hb dX8_cloth_67 rfl (lv_at hl 1 rfl) ?_
      refine va_ldcS hx hb hown (str_11 hW) dX8_cloth_68 ?_
      obtain ⟨r29, g30, e28, h⟩ := obd2 h
      refine rc_V0 (rest := [.int r9, .ref (adr G 90)]) (st1 := [.int r29, .int r9, .ref (adr G 90)]) hF (w_X8_may hSk 11 hTx e28) (cwV 1 hts (lw_V q629 q631 qs8 q108 q632) rfl rfl rfl hd_X8_may ⟨Nat.le_of_ble_eq_true rfl, Nat.le_of_ble_eq_true rfl⟩) cfX8 (sk_109 hSk) hK hW hR hS rfl hl.1 rfl (Nat.le_of_ble_eq_true rfl) rfl dX8_cloth_70 ⟨rfl, rfl⟩ ⟨Nat.zero_le _, Nat.zero_le _⟩ (fun H locs hR hS => ?_)
      have J88 : ∀ (x31 : Int32) (g32 : GM) (n : Nat) (H : Heap) (locs : List Loc) (ls : Array Slot), n0 ≤ n → Rep G sh g32 gl gr n H → va_S (own G) s.heap H locs → lv_has ls 3 [(0, .ref (adr G 109)), (2, .int r9)] → j_X8_cloth_88 r9 x31 g32 = some oo → W p l e rm_X8_cloth s m ([.ref (adr G 109), .int a1] : List Value).toArray below meth c H locs 0 0 (XQ G below n0 o ([.ref (adr G 109), .int a1] : List Value).toArray s rm_X8_cloth) (F0 m 88 ls [.int x31, .int r9, .ref (adr G 90)]) := by
        intro x31 g32 n H locs ls hn hR hS hl h
        unfold j_X8_cloth_88 at h
        obtain ⟨g34, e33, h⟩ := obd h
        refine r_sti hx hb hK hR hS (sk_90 hSk) e33 dX8_cloth_88 (fun H locs hR hS => ?_)
        exact J89 g34 _ _ _ _ hn hR hS (lv_sub hl [0, 1] rfl) h
      refine lv_if_eq (tgt := 86) hx hb dX8_cloth_73 (by decide) (fun c35 => ?_) (fun c35 => ?_)
      · replace h := ifp h c35
        refine lv_bipush (v := 20) hx hb dX8_cloth_86 kb_20 ?_
        exact J88 20 g30 _ _ _ _ hn hR hS (lv_sub hl [1, 0] rfl) h
      · replace h := ifn h c35
        refine lv_aload_n hx hb dX8_cloth_76 rfl (lv_at hl 1 rfl) ?_
        refine lv_iconst (v := 1) hx hb dX8_cloth_77 ki_1 ?_
        refine lv_bipush (v := 99) hx hb dX8_cloth_78 kb_99 ?_
        rcases obx22 h with ⟨ec38, g40, e36, h⟩ | ⟨r37, g39, e36, h⟩
        · refine xc_x (xr_V (ox := (.inr (ec38, sh, g40, gl, gr))) (rest := [.int r9, .ref (adr G 90)]) hF (w_X8_number hSk 1 99 hTx e36 rfl) (cwV 2 hts (lw_V q633 q635 qs9 q108 q636) rfl rfl rfl hd_X8_number ⟨Nat.le_of_ble_eq_true rfl, Nat.le_of_ble_eq_true rfl⟩) cfX8 (sk_109 hSk) hK hW hR rfl hl.1 rfl (Nat.le_of_ble_eq_true rfl) dX8_cloth_80 ⟨Nat.le_of_ble_eq_true rfl, Nat.le_of_ble_eq_true rfl⟩) hS (fun n H locs q9 ce9 hn2 hR hS hq9 hce9 hcv9 hcl9 => ?_)
          obtain rfl := s1i h
          exact x_out htb hlk (Nat.le_trans hn hn2) hR hS (Nat.le_of_ble_eq_true rfl) (Nat.le_of_ble_eq_true rfl) ho hq9 hce9 hcv9 hcl9
        refine xc_r (xr_V (ox := (.inl (some (.int r37), sh, g39, gl, gr))) (rest := [.int r9, .ref (adr G 90)]) hF (w_X8_number hSk 1 99 hTx e36 rfl) (cwV 2 hts (lw_V q633 q635 qs9 q108 q636) rfl rfl rfl hd_X8_number ⟨Nat.le_of_ble_eq_true rfl, Nat.le_of_ble_eq_true rfl⟩) cfX8 (sk_109 hSk) hK hW hR rfl hl.1 rfl (Nat.le_of_ble_eq_true rfl) dX8_cloth_80 ⟨Nat.le_of_ble_eq_true rfl, Nat.le_of_ble_eq_true rfl⟩) hS (fun n H locs hn2 hR hS => ?_)
        replace hn := Nat.le_trans hn hn2
        refine W.widen (k := 0) (n := 0) (Nat.le_of_ble_eq_true rfl) (Nat.le_of_ble_eq_true rfl) ?_
        refine lv_goto (tgt := 88) hx hb dX8_cloth_83 (by decide) ?_
        exact J88 r37 g39 _ _ _ _ hn hR hS (lv_sub hl [1, 0] rfl) h
  refine lv_icmp_ge (tgt := 17) hx hb dX8_cloth_10 (by decide) (fun c41 => ?_) (fun c41 => ?_)
  · replace h := ifp h c41
    refine lv_iconst (v := 0) hx hb dX8_cloth_17 ki_0 ?_
    exact J18 0 _ _ _ _ hn hR hS (lv_sub hl [0, 1] rfl) h
  · replace h := ifn h c41
    refine lv_iconst (v := 1) hx hb dX8_cloth_13 ki_1 ?_
    refine lv_goto (tgt := 18) hx hb dX8_cloth_14 (by decide) ?_
    exact J18 1 _ _ _ _ hn hR hS (lv_sub hl [0, 1] rfl) h
def rm_X8_must : Room := { frames := 7, cells := 0, slots := 0, locals := 244 }
theorem hd_X8_must : yX8_must.cls = "IntentVats$Reader" ∧ yX8_must.cls ≠ "java/lang/invoke/MethodHandle" ∧ yX8_must.cls ≠ "java/lang/invoke/VarHandle" ∧ (parseMethodDescriptor yX8_must.desc).map (fun d => d.parameters.length) = some 1 := by decide +kernel
theorem he_X8_must : yX8_must.cls ≠ "java/lang/invoke/MethodHandle" ∧ yX8_must.cls ≠ "java/lang/invoke/VarHandle" ∧ (parseMethodDescriptor yX8_must.desc).map (fun d => d.parameters.length) = some 1 := hd_X8_must.2
set_option maxHeartbeats 4000000 in
set_option maxRecDepth 100000 in
theorem w_X8_must {l : Launch} {G : Gx} {sh : SM} {g : GM} {gl : LM} {gr : RM} {n0 : Nat} (hSk : Sk sh gr) (a1 : Nat) (hTx : gr 109 4 = some 108) {oo : (GM ⊕ (Nat × GM))} {o : XO} (h : f_X8_must g a1 = some oo) (ho : o = (oo.elim (fun p => .inl (none, sh, p, gl, gr)) (fun q => .inr (q.1, sh, q.2, gl, gr)))) : MetX l G yX8_must (ws_ yX8_must cX8_must 2 (Option.none : Option Jvm.ClassFile.FieldType)) rm_X8_must [.ref (adr G 109), .ref (adr G a1)] sh g gl gr n0 o := by
  refine MetX.of (by decide) (Nat.le_of_ble_eq_true rfl) ?_
  intro p e s m below meth c ls hx hb hr hml hown hts hlk htb hW hK hR hS hl
  have hn : n0 ≤ n0 := Nat.le_refl _
  have hown : s.vm.findClass RX8 = some m.cls := hown
  have hF : CallFix p m c cX8_must 2 s ([.ref (adr G 109), .ref (adr G a1)] : List Value).toArray lw_all RX8 := ⟨hx, hb, hml, hown, hts⟩
  have hl : lv_has ls 2 [(0, .ref (adr G 109)), (1, .ref (adr G a1))] := hl
  unfold f_X8_must at h
  refine lv_aload_n hx hb dX8_must_0 rfl (lv_at hl 0 rfl) ?_
  refine lv_aload_n hx hb dX8_must_1 rfl (lv_at hl 0 rfl) ?_
  refine lv_aload_n hx hb dX8_must_2 rfl (lv_at hl 1 rfl) ?_
  obtain ⟨r2, e1, h⟩ := obd h
  refine rc_V0 (rest := [.ref (adr G 109)]) (st1 := [.int r2, .ref (adr G 109)]) hF (w_X8_isWord hSk a1 hTx e1) (cwV 1 hts (lw_V q556 q558 qs5 q108 q559) rfl rfl rfl hd_X8_isWord ⟨Nat.le_of_ble_eq_true rfl, Nat.le_of_ble_eq_true rfl⟩) cfX8 (sk_109 hSk) hK hW hR hS rfl hl.1 rfl (Nat.le_of_ble_eq_true rfl) rfl dX8_must_3 ⟨rfl, rfl⟩ ⟨Nat.zero_le _, Nat.zero_le _⟩ (fun H locs hR hS => ?_)
  rcases obx12 h with ⟨ec4, g6, e3, h⟩ | ⟨g5, e3, h⟩
  · refine xc_x (xr_V (ox := (.inr (ec4, sh, g6, gl, gr))) (rest := []) hF (w_X8_need hSk r2 e3 rfl) (cwV 1 hts (lw_V q612 q614 qs7 q108 q615) rfl rfl rfl hd_X8_need ⟨Nat.le_of_ble_eq_true rfl, Nat.le_of_ble_eq_true rfl⟩) cfX8 (sk_109 hSk) hK hW hR rfl hl.1 rfl (Nat.le_of_ble_eq_true rfl) dX8_must_6 ⟨Nat.le_of_ble_eq_true rfl, Nat.le_of_ble_eq_true rfl⟩) hS (fun n H locs q9 ce9 hn2 hR hS hq9 hce9 hcv9 hcl9 => ?_)
    obtain rfl := s1i h
    exact x_out htb hlk (Nat.le_trans hn hn2) hR hS (Nat.le_of_ble_eq_true rfl) (Nat.le_of_ble_eq_true rfl) ho hq9 hce9 hcv9 hcl9
  refine xc_r (xr_V (ox := (.inl (none, sh, g5, gl, gr))) (rest := []) hF (w_X8_need hSk r2 e3 rfl) (cwV 1 hts (lw_V q612 q614 qs7 q108 q615) rfl rfl rfl hd_X8_need ⟨Nat.le_of_ble_eq_true rfl, Nat.le_of_ble_eq_true rfl⟩) cfX8 (sk_109 hSk) hK hW hR rfl hl.1 rfl (Nat.le_of_ble_eq_true rfl) dX8_must_6 ⟨Nat.le_of_ble_eq_true rfl, Nat.le_of_ble_eq_true rfl⟩) hS (fun n H locs hn2 hR hS => ?_)
  replace hn := Nat.le_trans hn hn2
  refine W.widen (k := 0) (n := 0) (Nat.le_of_ble_eq_true rfl) (Nat.le_of_ble_eq_true rfl) ?_
  refine lv_aload_n hx hb dX8_must_9 rfl (lv_at hl 0 rfl) ?_
  obtain ⟨g8, e7, h⟩ := obd h
  refine rc_V0 (rest := []) (st1 := []) hF (w_X8_next hSk hTx e7) (cwV 0 hts (lw_V q534 q536 qs2 q108 q537) rfl rfl rfl hd_X8_next ⟨Nat.le_of_ble_eq_true rfl, Nat.le_of_ble_eq_true rfl⟩) cfX8 (sk_109 hSk) hK hW hR hS rfl hl.1 rfl (Nat.le_of_ble_eq_true rfl) rfl dX8_must_10 ⟨rfl, rfl⟩ ⟨Nat.zero_le _, Nat.zero_le _⟩ (fun H locs hR hS => ?_)
  obtain rfl := s1i h
  exact x_vret hx hb hr hlk hn hR hS (Nat.zero_le _) (Nat.zero_le _) ho dX8_must_13
def rm_X8_vat : Room := { frames := 8, cells := 0, slots := 0, locals := 265 }
theorem hd_X8_vat : yX8_vat.cls = "IntentVats$Reader" ∧ yX8_vat.cls ≠ "java/lang/invoke/MethodHandle" ∧ yX8_vat.cls ≠ "java/lang/invoke/VarHandle" ∧ (parseMethodDescriptor yX8_vat.desc).map (fun d => d.parameters.length) = some 0 := by decide +kernel
theorem he_X8_vat : yX8_vat.cls ≠ "java/lang/invoke/MethodHandle" ∧ yX8_vat.cls ≠ "java/lang/invoke/VarHandle" ∧ (parseMethodDescriptor yX8_vat.desc).map (fun d => d.parameters.length) = some 0 := hd_X8_vat.2
set_option maxHeartbeats 4000000 in
set_option maxRecDepth 100000 in
theorem w_X8_vat {l : Launch} {G : Gx} {sh : SM} {g : GM} {gl : LM} {gr : RM} {n0 : Nat} (hSk : Sk sh gr)  (hTx : gr 109 4 = some 108) {oo : (GM ⊕ (Nat × GM))} {o : XO} (h : f_X8_vat g  = some oo) (ho : o = (oo.elim (fun p => .inl (none, sh, p, gl, gr)) (fun q => .inr (q.1, sh, q.2, gl, gr)))) : MetX l G yX8_vat (ws_ yX8_vat cX8_vat 2 (Option.none : Option Jvm.ClassFile.FieldType)) rm_X8_vat [.ref (adr G 109)] sh g gl gr n0 o := by
  refine MetX.of (by decide) (Nat.le_of_ble_eq_true rfl) ?_
  intro p e s m below meth c ls hx hb hr hml hown hts hlk htb hW hK hR hS hl
  have hn : n0 ≤ n0 := Nat.le_refl _
  have hown : s.vm.findClass RX8 = some m.cls := hown
  have hF : CallFix p m c cX8_vat 2 s ([.ref (adr G 109)] : List Value).toArray lw_all RX8 := ⟨hx, hb, hml, hown, hts⟩
  have hl : lv_has ls 2 [(0, .ref (adr G 109))] := hl
  unfold f_X8_vat at h
  refine lv_aload_n hx hb dX8_vat_0 rfl (lv_at hl 0 rfl) ?_
  refine lv_iconst (v := 0) hx hb dX8_vat_1 ki_0 ?_
  refine lv_bipush (v := 7) hx hb dX8_vat_2 kb_7 ?_
  rcases obx22 h with ⟨ec3, g5, e1, h⟩ | ⟨r2, g4, e1, h⟩
  · refine xc_x (xr_V (ox := (.inr (ec3, sh, g5, gl, gr))) (rest := []) hF (w_X8_number hSk 0 7 hTx e1 rfl) (cwV 2 hts (lw_V q633 q635 qs9 q108 q636) rfl rfl rfl hd_X8_number ⟨Nat.le_of_ble_eq_true rfl, Nat.le_of_ble_eq_true rfl⟩) cfX8 (sk_109 hSk) hK hW hR rfl hl.1 rfl (Nat.le_of_ble_eq_true rfl) dX8_vat_4 ⟨Nat.le_of_ble_eq_true rfl, Nat.le_of_ble_eq_true rfl⟩) hS (fun n H locs q9 ce9 hn2 hR hS hq9 hce9 hcv9 hcl9 => ?_)
    obtain rfl := s1i h
    exact x_out htb hlk (Nat.le_trans hn hn2) hR hS (Nat.le_of_ble_eq_true rfl) (Nat.le_of_ble_eq_true rfl) ho hq9 hce9 hcv9 hcl9
  refine xc_r (xr_V (ox := (.inl (some (.int r2), sh, g4, gl, gr))) (rest := []) hF (w_X8_number hSk 0 7 hTx e1 rfl) (cwV 2 hts (lw_V q633 q635 qs9 q108 q636) rfl rfl rfl hd_X8_number ⟨Nat.le_of_ble_eq_true rfl, Nat.le_of_ble_eq_true rfl⟩) cfX8 (sk_109 hSk) hK hW hR rfl hl.1 rfl (Nat.le_of_ble_eq_true rfl) dX8_vat_4 ⟨Nat.le_of_ble_eq_true rfl, Nat.le_of_ble_eq_true rfl⟩) hS (fun n H locs hn2 hR hS => ?_)
  replace hn := Nat.le_trans hn hn2
  refine W.widen (k := 0) (n := 0) (Nat.le_of_ble_eq_true rfl) (Nat.le_of_ble_eq_true rfl) ?_
  refine lv_istore_n (lv' := [(1, .int r2), (0, .ref (adr G 109))]) hx hb dX8_vat_7 rfl hl (by decide) rfl (fun ls hl => ?_)
  refine lv_aload_n hx hb dX8_vat_8 rfl (lv_at hl 1 rfl) ?_
  refine va_ldcS hx hb hown (str_13 hW) dX8_vat_9 ?_
  rcases obx12 h with ⟨ec7, g9, e6, h⟩ | ⟨g8, e6, h⟩
  · refine xc_x (xr_V (ox := (.inr (ec7, sh, g9, gl, gr))) (rest := []) hF (w_X8_must hSk 13 hTx e6 rfl) (cwV 1 hts (lw_V q651 q653 qs12 q108 q654) rfl rfl rfl hd_X8_must ⟨Nat.le_of_ble_eq_true rfl, Nat.le_of_ble_eq_true rfl⟩) cfX8 (sk_109 hSk) hK hW hR rfl hl.1 rfl (Nat.le_of_ble_eq_true rfl) dX8_vat_11 ⟨Nat.le_of_ble_eq_true rfl, Nat.le_of_ble_eq_true rfl⟩) hS (fun n H locs q9 ce9 hn2 hR hS hq9 hce9 hcv9 hcl9 => ?_)
    obtain rfl := s1i h
    exact x_out htb hlk (Nat.le_trans hn hn2) hR hS (Nat.le_of_ble_eq_true rfl) (Nat.le_of_ble_eq_true rfl) ho hq9 hce9 hcv9 hcl9
  refine xc_r (xr_V (ox := (.inl (none, sh, g8, gl, gr))) (rest := []) hF (w_X8_must hSk 13 hTx e6 rfl) (cwV 1 hts (lw_V q651 q653 qs12 q108 q654) rfl rfl rfl hd_X8_must ⟨Nat.le_of_ble_eq_true rfl, Nat.le_of_ble_eq_true rfl⟩) cfX8 (sk_109 hSk) hK hW hR rfl hl.1 rfl (Nat.le_of_ble_eq_true rfl) dX8_vat_11 ⟨Nat.le_of_ble_eq_true rfl, Nat.le_of_ble_eq_true rfl⟩) hS (fun n H locs hn2 hR hS => ?_)
  replace hn := Nat.le_trans hn hn2
  refine W.widen (k := 0) (n := 0) (Nat.le_of_ble_eq_true rfl) (Nat.le_of_ble_eq_true rfl) ?_
  refine lv_aload_n hx hb dX8_vat_14 rfl (lv_at hl 1 rfl) ?_
  refine r_getr hx hb hts cfX8 hown hK hR (sk_109 hSk) 3 (by decide) rfl (sr_109_3 hSk) (hts _ q354) (fun _ h => h) dX8_vat_15 ?_
  refine r_getrN hx hb hts cfX1 hown hK hR (sk_83 hSk) 5 (by decide) rfl (sr_83_5 hSk) (hW.nestF q172) (fun _ h => h) dX8_vat_18 ?_
  refine lv_iload_n hx hb dX8_vat_21 rfl (lv_at hl 0 rfl) ?_
  refine lv_aload_n hx hb dX8_vat_22 rfl (lv_at hl 1 rfl) ?_
  refine lv_iconst (v := 0) hx hb dX8_vat_23 ki_0 ?_
  refine lv_bipush (v := 9) hx hb dX8_vat_24 kb_9 ?_
  rcases obx22 h with ⟨ec12, g14, e10, h⟩ | ⟨r11, g13, e10, h⟩
  · refine xc_x (xr_V (ox := (.inr (ec12, sh, g14, gl, gr))) (rest := [.int r2, .ref (adr G 85)]) hF (w_X8_number hSk 0 9 hTx e10 rfl) (cwV 2 hts (lw_V q633 q635 qs9 q108 q636) rfl rfl rfl hd_X8_number ⟨Nat.le_of_ble_eq_true rfl, Nat.le_of_ble_eq_true rfl⟩) cfX8 (sk_109 hSk) hK hW hR rfl hl.1 rfl (Nat.le_of_ble_eq_true rfl) dX8_vat_26 ⟨Nat.le_of_ble_eq_true rfl, Nat.le_of_ble_eq_true rfl⟩) hS (fun n H locs q9 ce9 hn2 hR hS hq9 hce9 hcv9 hcl9 => ?_)
    obtain rfl := s1i h
    exact x_out htb hlk (Nat.le_trans hn hn2) hR hS (Nat.le_of_ble_eq_true rfl) (Nat.le_of_ble_eq_true rfl) ho hq9 hce9 hcv9 hcl9
  refine xc_r (xr_V (ox := (.inl (some (.int r11), sh, g13, gl, gr))) (rest := [.int r2, .ref (adr G 85)]) hF (w_X8_number hSk 0 9 hTx e10 rfl) (cwV 2 hts (lw_V q633 q635 qs9 q108 q636) rfl rfl rfl hd_X8_number ⟨Nat.le_of_ble_eq_true rfl, Nat.le_of_ble_eq_true rfl⟩) cfX8 (sk_109 hSk) hK hW hR rfl hl.1 rfl (Nat.le_of_ble_eq_true rfl) dX8_vat_26 ⟨Nat.le_of_ble_eq_true rfl, Nat.le_of_ble_eq_true rfl⟩) hS (fun n H locs hn2 hR hS => ?_)
  replace hn := Nat.le_trans hn hn2
  refine W.widen (k := 0) (n := 0) (Nat.le_of_ble_eq_true rfl) (Nat.le_of_ble_eq_true rfl) ?_
  obtain ⟨g16, e15, h⟩ := obd h
  refine r_sti hx hb hK hR hS (sk_85 hSk) e15 dX8_vat_29 (fun H locs hR hS => ?_)
  obtain rfl := s1i h
  exact x_vret hx hb hr hlk hn hR hS (Nat.zero_le _) (Nat.zero_le _) ho dX8_vat_30
def rm_X8_strong : Room := { frames := 6, cells := 0, slots := 0, locals := 101 }
theorem hd_X8_strong : yX8_strong.cls = "IntentVats$Reader" ∧ yX8_strong.cls ≠ "java/lang/invoke/MethodHandle" ∧ yX8_strong.cls ≠ "java/lang/invoke/VarHandle" ∧ (parseMethodDescriptor yX8_strong.desc).map (fun d => d.parameters.length) = some 0 := by decide +kernel
theorem he_X8_strong : yX8_strong.cls ≠ "java/lang/invoke/MethodHandle" ∧ yX8_strong.cls ≠ "java/lang/invoke/VarHandle" ∧ (parseMethodDescriptor yX8_strong.desc).map (fun d => d.parameters.length) = some 0 := hd_X8_strong.2
set_option maxHeartbeats 4000000 in
set_option maxRecDepth 100000 in
theorem w_X8_strong {l : Launch} {G : Gx} {sh : SM} {g : GM} {gl : LM} {gr : RM} {n0 : Nat} (hSk : Sk sh gr)  (hTx : gr 109 4 = some 108) {oo : (GM ⊕ (Nat × GM))} {o : XO} (h : f_X8_strong g  = some oo) (ho : o = (oo.elim (fun p => .inl (none, sh, p, gl, gr)) (fun q => .inr (q.1, sh, q.2, gl, gr)))) : MetX l G yX8_strong (ws_ yX8_strong cX8_strong 2 (Option.none : Option Jvm.ClassFile.FieldType)) rm_X8_strong [.ref (adr G 109)] sh g gl gr n0 o := by
  refine MetX.of (by decide) (Nat.le_of_ble_eq_true rfl) ?_
  intro p e s m below meth c ls hx hb hr hml hown hts hlk htb hW hK hR hS hl
  have hn : n0 ≤ n0 := Nat.le_refl _
  have hown : s.vm.findClass RX8 = some m.cls := hown
  have hF : CallFix p m c cX8_strong 2 s ([.ref (adr G 109)] : List Value).toArray lw_all RX8 := ⟨hx, hb, hml, hown, hts⟩
  have hl : lv_has ls 2 [(0, .ref (adr G 109))] := hl
  unfold f_X8_strong at h
  refine lv_aload_n hx hb dX8_strong_0 rfl (lv_at hl 0 rfl) ?_
  refine lv_iconst (v := 0) hx hb dX8_strong_1 ki_0 ?_
  refine lv_bipush (v := 7) hx hb dX8_strong_2 kb_7 ?_
  rcases obx22 h with ⟨ec3, g5, e1, h⟩ | ⟨r2, g4, e1, h⟩
  · refine xc_x (xr_V (ox := (.inr (ec3, sh, g5, gl, gr))) (rest := []) hF (w_X8_number hSk 0 7 hTx e1 rfl) (cwV 2 hts (lw_V q633 q635 qs9 q108 q636) rfl rfl rfl hd_X8_number ⟨Nat.le_of_ble_eq_true rfl, Nat.le_of_ble_eq_true rfl⟩) cfX8 (sk_109 hSk) hK hW hR rfl hl.1 rfl (Nat.le_of_ble_eq_true rfl) dX8_strong_4 ⟨Nat.le_of_ble_eq_true rfl, Nat.le_of_ble_eq_true rfl⟩) hS (fun n H locs q9 ce9 hn2 hR hS hq9 hce9 hcv9 hcl9 => ?_)
    obtain rfl := s1i h
    exact x_out htb hlk (Nat.le_trans hn hn2) hR hS (Nat.le_of_ble_eq_true rfl) (Nat.le_of_ble_eq_true rfl) ho hq9 hce9 hcv9 hcl9
  refine xc_r (xr_V (ox := (.inl (some (.int r2), sh, g4, gl, gr))) (rest := []) hF (w_X8_number hSk 0 7 hTx e1 rfl) (cwV 2 hts (lw_V q633 q635 qs9 q108 q636) rfl rfl rfl hd_X8_number ⟨Nat.le_of_ble_eq_true rfl, Nat.le_of_ble_eq_true rfl⟩) cfX8 (sk_109 hSk) hK hW hR rfl hl.1 rfl (Nat.le_of_ble_eq_true rfl) dX8_strong_4 ⟨Nat.le_of_ble_eq_true rfl, Nat.le_of_ble_eq_true rfl⟩) hS (fun n H locs hn2 hR hS => ?_)
  replace hn := Nat.le_trans hn hn2
  refine W.widen (k := 0) (n := 0) (Nat.le_of_ble_eq_true rfl) (Nat.le_of_ble_eq_true rfl) ?_
  refine lv_istore_n (lv' := [(1, .int r2), (0, .ref (adr G 109))]) hx hb dX8_strong_7 rfl hl (by decide) rfl (fun ls hl => ?_)
  refine lv_aload_n hx hb dX8_strong_8 rfl (lv_at hl 1 rfl) ?_
  refine r_getr hx hb hts cfX8 hown hK hR (sk_109 hSk) 3 (by decide) rfl (sr_109_3 hSk) (hts _ q354) (fun _ h => h) dX8_strong_9 ?_
  refine r_getrN hx hb hts cfX1 hown hK hR (sk_83 hSk) 6 (by decide) rfl (sr_83_6 hSk) (hW.nestF q176) (fun _ h => h) dX8_strong_12 ?_
  refine lv_iload_n hx hb dX8_strong_15 rfl (lv_at hl 0 rfl) ?_
  refine lv_aload_n hx hb dX8_strong_16 rfl (lv_at hl 1 rfl) ?_
  refine lv_iconst (v := 0) hx hb dX8_strong_17 ki_0 ?_
  refine lv_bipush (v := 9) hx hb dX8_strong_18 kb_9 ?_
  rcases obx22 h with ⟨ec8, g10, e6, h⟩ | ⟨r7, g9, e6, h⟩
  · refine xc_x (xr_V (ox := (.inr (ec8, sh, g10, gl, gr))) (rest := [.int r2, .ref (adr G 86)]) hF (w_X8_number hSk 0 9 hTx e6 rfl) (cwV 2 hts (lw_V q633 q635 qs9 q108 q636) rfl rfl rfl hd_X8_number ⟨Nat.le_of_ble_eq_true rfl, Nat.le_of_ble_eq_true rfl⟩) cfX8 (sk_109 hSk) hK hW hR rfl hl.1 rfl (Nat.le_of_ble_eq_true rfl) dX8_strong_20 ⟨Nat.le_of_ble_eq_true rfl, Nat.le_of_ble_eq_true rfl⟩) hS (fun n H locs q9 ce9 hn2 hR hS hq9 hce9 hcv9 hcl9 => ?_)
    obtain rfl := s1i h
    exact x_out htb hlk (Nat.le_trans hn hn2) hR hS (Nat.le_of_ble_eq_true rfl) (Nat.le_of_ble_eq_true rfl) ho hq9 hce9 hcv9 hcl9
  refine xc_r (xr_V (ox := (.inl (some (.int r7), sh, g9, gl, gr))) (rest := [.int r2, .ref (adr G 86)]) hF (w_X8_number hSk 0 9 hTx e6 rfl) (cwV 2 hts (lw_V q633 q635 qs9 q108 q636) rfl rfl rfl hd_X8_number ⟨Nat.le_of_ble_eq_true rfl, Nat.le_of_ble_eq_true rfl⟩) cfX8 (sk_109 hSk) hK hW hR rfl hl.1 rfl (Nat.le_of_ble_eq_true rfl) dX8_strong_20 ⟨Nat.le_of_ble_eq_true rfl, Nat.le_of_ble_eq_true rfl⟩) hS (fun n H locs hn2 hR hS => ?_)
  replace hn := Nat.le_trans hn hn2
  refine W.widen (k := 0) (n := 0) (Nat.le_of_ble_eq_true rfl) (Nat.le_of_ble_eq_true rfl) ?_
  obtain ⟨g12, e11, h⟩ := obd h
  refine r_sti hx hb hK hR hS (sk_86 hSk) e11 dX8_strong_23 (fun H locs hR hS => ?_)
  obtain rfl := s1i h
  exact x_vret hx hb hr hlk hn hR hS (Nat.zero_le _) (Nat.zero_le _) ho dX8_strong_24
