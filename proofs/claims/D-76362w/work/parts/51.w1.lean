/-! walks: X5_takes, X5_fights, X5_fades, X6_takes, X6_fights, X6_fades, X7_takes, X7_fights, X7_fades, X0_in, X0_mostOf -/
def rm_X5_takes : Room := { frames := 3, cells := 0, slots := 0, locals := 56 }
theorem hd_X5_takes : yX5_takes.cls = "IntentVats$Felt" ∧ yX5_takes.cls ≠ "java/lang/invoke/MethodHandle" ∧ yX5_takes.cls ≠ "java/lang/invoke/VarHandle" ∧ (parseMethodDescriptor yX5_takes.desc).map (fun d => d.parameters.length) = some 2 := by decide +kernel
theorem he_X5_takes : yX5_takes.cls ≠ "java/lang/invoke/MethodHandle" ∧ yX5_takes.cls ≠ "java/lang/invoke/VarHandle" ∧ (parseMethodDescriptor yX5_takes.desc).map (fun d => d.parameters.length) = some 2 := hd_X5_takes.2

set_option maxHeartbeats 4000000 in
set_option maxRecDepth 100000 in
theorem w_X5_takes {l : Launch} {G : Gx} {sh : SM} {g : GM} {gl : LM} {gr : RM} {n : Nat} (hSk : Sk sh gr) (w0 : Nat) (b1 : Nat) (a2 : Int32) (hw_w0 : isWay w0) (hm_b1 : isMl b1) {r : Int32} (h : f_X5_takes g w0 b1 a2 = some r) : MetI l G yX5_takes (ws_ yX5_takes cX5_takes 3 (Option.some Jvm.ClassFile.FieldType.int)) rm_X5_takes [.ref (adr G w0), .ref (adr G b1), .int a2] sh g gl gr n (some (.int r)) sh g gl gr n := by
  refine MetI.of (by decide) (Nat.le_of_ble_eq_true rfl) ?_
  intro p e s m below meth c ls hx hb hr hml hown hts hlk hnm hW hK hR hS hl
  have hown : s.vm.findClass RX5 = some m.cls := hown
  have hF : CallFix p m c cX5_takes 3 s ([.ref (adr G w0), .ref (adr G b1), .int a2] : List Value).toArray lw_all RX5 := ⟨hx, hb, hml, hown, hts⟩
  have hl : lv_has ls 3 [(0, .ref (adr G w0)), (1, .ref (adr G b1)), (2, .int a2)] := hl
  unfold f_X5_takes at h
  refine lv_iconst (v := 2) hx hb dX5_takes_0 ki_2 ?_
  refine lv_aload_n hx hb dX5_takes_1 rfl (lv_at hl 0 rfl) ?_
  refine lv_aload_n hx hb dX5_takes_2 rfl (lv_at hl 1 rfl) ?_
  refine lv_iload_n hx hb dX5_takes_3 rfl (lv_at hl 2 rfl) ?_
  obtain ⟨r2, e1, h⟩ := obd h
  obtain ⟨ci_e1, q_e1, hc_e1, hs_e1⟩ := way_sh hSk hw_w0
  refine rc_SU0 hc_e1 (rest := [.int 2]) (st1 := [.int r2, .int 2]) hF (w_X3_takes hSk w0 b1 a2 hw_w0 hm_b1 e1) (va_cwSU 2 hts (lw_SU q741 q2093 q244 q742 q103 q743) rfl rfl rfl hs_X3_takes ⟨Nat.le_of_ble_eq_true rfl, Nat.le_of_ble_eq_true rfl⟩) hs_e1 hK hW hR hS rfl hl.1 rfl (Nat.le_of_ble_eq_true rfl) rfl dX5_takes_4 ⟨rfl, rfl⟩ ⟨Nat.zero_le _, Nat.zero_le _⟩ (fun H locs hR hS => ?_)
  refine lv_imul hx hb dX5_takes_7 ?_
  obtain rfl := s1i h
  exact r_iret0 hx hb hr hlk hR hS (Nat.zero_le _) (Nat.zero_le _) dX5_takes_8
def rm_X5_fights : Room := { frames := 3, cells := 0, slots := 0, locals := 56 }
theorem hd_X5_fights : yX5_fights.cls = "IntentVats$Felt" ∧ yX5_fights.cls ≠ "java/lang/invoke/MethodHandle" ∧ yX5_fights.cls ≠ "java/lang/invoke/VarHandle" ∧ (parseMethodDescriptor yX5_fights.desc).map (fun d => d.parameters.length) = some 2 := by decide +kernel
theorem he_X5_fights : yX5_fights.cls ≠ "java/lang/invoke/MethodHandle" ∧ yX5_fights.cls ≠ "java/lang/invoke/VarHandle" ∧ (parseMethodDescriptor yX5_fights.desc).map (fun d => d.parameters.length) = some 2 := hd_X5_fights.2

set_option maxHeartbeats 4000000 in
set_option maxRecDepth 100000 in
theorem w_X5_fights {l : Launch} {G : Gx} {sh : SM} {g : GM} {gl : LM} {gr : RM} {n : Nat} (hSk : Sk sh gr) (w0 : Nat) (b1 : Nat) (a2 : Int32) (hw_w0 : isWay w0) (hm_b1 : isMl b1) {r : Int32} (h : f_X5_fights g w0 b1 a2 = some r) : MetI l G yX5_fights (ws_ yX5_fights cX5_fights 3 (Option.some Jvm.ClassFile.FieldType.int)) rm_X5_fights [.ref (adr G w0), .ref (adr G b1), .int a2] sh g gl gr n (some (.int r)) sh g gl gr n := by
  refine MetI.of (by decide) (Nat.le_of_ble_eq_true rfl) ?_
  intro p e s m below meth c ls hx hb hr hml hown hts hlk hnm hW hK hR hS hl
  have hown : s.vm.findClass RX5 = some m.cls := hown
  have hF : CallFix p m c cX5_fights 3 s ([.ref (adr G w0), .ref (adr G b1), .int a2] : List Value).toArray lw_all RX5 := ⟨hx, hb, hml, hown, hts⟩
  have hl : lv_has ls 3 [(0, .ref (adr G w0)), (1, .ref (adr G b1)), (2, .int a2)] := hl
  unfold f_X5_fights at h
  refine lv_aload_n hx hb dX5_fights_0 rfl (lv_at hl 0 rfl) ?_
  refine lv_aload_n hx hb dX5_fights_1 rfl (lv_at hl 1 rfl) ?_
  refine lv_iload_n hx hb dX5_fights_2 rfl (lv_at hl 2 rfl) ?_
  obtain ⟨r2, e1, h⟩ := obd h
  obtain ⟨ci_e1, q_e1, hc_e1, hs_e1⟩ := way_sh hSk hw_w0
  refine rc_SU0 hc_e1 (rest := []) (st1 := [.int r2]) hF (w_X3_fights hSk w0 b1 a2 hw_w0 hm_b1 e1) (va_cwSU 2 hts (lw_SU q766 q2095 q244 q767 q103 q768) rfl rfl rfl hs_X3_fights ⟨Nat.le_of_ble_eq_true rfl, Nat.le_of_ble_eq_true rfl⟩) hs_e1 hK hW hR hS rfl hl.1 rfl (Nat.le_of_ble_eq_true rfl) rfl dX5_fights_3 ⟨rfl, rfl⟩ ⟨Nat.zero_le _, Nat.zero_le _⟩ (fun H locs hR hS => ?_)
  refine lv_aload_n hx hb dX5_fights_6 rfl (lv_at hl 1 rfl) ?_
  refine r_getrN hx hb hts cfX1 hown hK hR (mls_0 hSk hm_b1) 4 (by decide) rfl (mlr_4 hSk hm_b1) (hW.nestF q167) (fun _ h => h) dX5_fights_7 ?_
  refine lv_iconst (v := 0) hx hb dX5_fights_10 ki_0 ?_
  obtain ⟨v4, e3, h⟩ := obd h
  refine r_ldi hx hb hK hR (mls_1 hSk hm_b1) e3 dX5_fights_11 ?_
  refine lv_iadd hx hb dX5_fights_12 ?_
  obtain rfl := s1i h
  exact r_iret0 hx hb hr hlk hR hS (Nat.zero_le _) (Nat.zero_le _) dX5_fights_13
def rm_X5_fades : Room := { frames := 1, cells := 0, slots := 0, locals := 12 }
theorem hd_X5_fades : yX5_fades.cls = "IntentVats$Felt" ∧ yX5_fades.cls ≠ "java/lang/invoke/MethodHandle" ∧ yX5_fades.cls ≠ "java/lang/invoke/VarHandle" ∧ (parseMethodDescriptor yX5_fades.desc).map (fun d => d.parameters.length) = some 1 := by decide +kernel
theorem he_X5_fades : yX5_fades.cls ≠ "java/lang/invoke/MethodHandle" ∧ yX5_fades.cls ≠ "java/lang/invoke/VarHandle" ∧ (parseMethodDescriptor yX5_fades.desc).map (fun d => d.parameters.length) = some 1 := hd_X5_fades.2

set_option maxHeartbeats 4000000 in
set_option maxRecDepth 100000 in
theorem w_X5_fades {l : Launch} {G : Gx} {sh : SM} {g : GM} {gl : LM} {gr : RM} {n : Nat} (hSk : Sk sh gr) (w0 : Nat) (b1 : Nat) (hw_w0 : isWay w0) (hm_b1 : isMl b1) {r : Int32} (h : f_X5_fades  w0 b1 = some r) : MetI l G yX5_fades (ws_ yX5_fades cX5_fades 2 (Option.some Jvm.ClassFile.FieldType.int)) rm_X5_fades [.ref (adr G w0), .ref (adr G b1)] sh g gl gr n (some (.int r)) sh g gl gr n := by
  refine MetI.of (by decide) (Nat.le_of_ble_eq_true rfl) ?_
  intro p e s m below meth c ls hx hb hr hml hown hts hlk hnm hW hK hR hS hl
  have hown : s.vm.findClass RX5 = some m.cls := hown
  have hF : CallFix p m c cX5_fades 2 s ([.ref (adr G w0), .ref (adr G b1)] : List Value).toArray lw_all RX5 := ⟨hx, hb, hml, hown, hts⟩
  have hl : lv_has ls 2 [(0, .ref (adr G w0)), (1, .ref (adr G b1))] := hl
  unfold f_X5_fades at h
  refine lv_iconst (v := 0) hx hb dX5_fades_0 ki_0 ?_
  obtain rfl := s1i h
  exact r_iret0 hx hb hr hlk hR hS (Nat.zero_le _) (Nat.zero_le _) dX5_fades_1
def rm_X6_takes : Room := { frames := 3, cells := 0, slots := 0, locals := 56 }
theorem hd_X6_takes : yX6_takes.cls = "IntentVats$Shroud" ∧ yX6_takes.cls ≠ "java/lang/invoke/MethodHandle" ∧ yX6_takes.cls ≠ "java/lang/invoke/VarHandle" ∧ (parseMethodDescriptor yX6_takes.desc).map (fun d => d.parameters.length) = some 2 := by decide +kernel
theorem he_X6_takes : yX6_takes.cls ≠ "java/lang/invoke/MethodHandle" ∧ yX6_takes.cls ≠ "java/lang/invoke/VarHandle" ∧ (parseMethodDescriptor yX6_takes.desc).map (fun d => d.parameters.length) = some 2 := hd_X6_takes.2

set_option maxHeartbeats 4000000 in
set_option maxRecDepth 100000 in
theorem w_X6_takes {l : Launch} {G : Gx} {sh : SM} {g : GM} {gl : LM} {gr : RM} {n : Nat} (hSk : Sk sh gr) (w0 : Nat) (b1 : Nat) (a2 : Int32) (hw_w0 : isWay w0) (hm_b1 : isMl b1) {r : Int32} (h : f_X6_takes g w0 b1 a2 = some r) : MetI l G yX6_takes (ws_ yX6_takes cX6_takes 3 (Option.some Jvm.ClassFile.FieldType.int)) rm_X6_takes [.ref (adr G w0), .ref (adr G b1), .int a2] sh g gl gr n (some (.int r)) sh g gl gr n := by
  refine MetI.of (by decide) (Nat.le_of_ble_eq_true rfl) ?_
  intro p e s m below meth c ls hx hb hr hml hown hts hlk hnm hW hK hR hS hl
  have hown : s.vm.findClass RX6 = some m.cls := hown
  have hF : CallFix p m c cX6_takes 3 s ([.ref (adr G w0), .ref (adr G b1), .int a2] : List Value).toArray lw_all RX6 := ⟨hx, hb, hml, hown, hts⟩
  have hl : lv_has ls 3 [(0, .ref (adr G w0)), (1, .ref (adr G b1)), (2, .int a2)] := hl
  unfold f_X6_takes at h
  refine lv_aload_n hx hb dX6_takes_0 rfl (lv_at hl 0 rfl) ?_
  refine lv_aload_n hx hb dX6_takes_1 rfl (lv_at hl 1 rfl) ?_
  refine lv_iload_n hx hb dX6_takes_2 rfl (lv_at hl 2 rfl) ?_
  obtain ⟨r2, e1, h⟩ := obd h
  obtain ⟨ci_e1, q_e1, hc_e1, hs_e1⟩ := way_sh hSk hw_w0
  refine rc_SU0 hc_e1 (rest := []) (st1 := [.int r2]) hF (w_X4_takes hSk w0 b1 a2 hw_w0 hm_b1 e1) (va_cwSU 2 hts (lw_SU q757 q2094 q251 q747 q104 q748) rfl rfl rfl hs_X4_takes ⟨Nat.le_of_ble_eq_true rfl, Nat.le_of_ble_eq_true rfl⟩) hs_e1 hK hW hR hS rfl hl.1 rfl (Nat.le_of_ble_eq_true rfl) rfl dX6_takes_3 ⟨rfl, rfl⟩ ⟨Nat.zero_le _, Nat.zero_le _⟩ (fun H locs hR hS => ?_)
  refine lv_aload_n hx hb dX6_takes_6 rfl (lv_at hl 1 rfl) ?_
  refine r_getrN hx hb hts cfX1 hown hK hR (mls_0 hSk hm_b1) 4 (by decide) rfl (mlr_4 hSk hm_b1) (hW.nestF q165) (fun _ h => h) dX6_takes_7 ?_
  refine lv_iconst (v := 2) hx hb dX6_takes_10 ki_2 ?_
  obtain ⟨v4, e3, h⟩ := obd h
  refine r_ldi hx hb hK hR (mls_1 hSk hm_b1) e3 dX6_takes_11 ?_
  refine lv_iadd hx hb dX6_takes_12 ?_
  obtain rfl := s1i h
  exact r_iret0 hx hb hr hlk hR hS (Nat.zero_le _) (Nat.zero_le _) dX6_takes_13
def rm_X6_fights : Room := { frames := 3, cells := 0, slots := 0, locals := 56 }
theorem hd_X6_fights : yX6_fights.cls = "IntentVats$Shroud" ∧ yX6_fights.cls ≠ "java/lang/invoke/MethodHandle" ∧ yX6_fights.cls ≠ "java/lang/invoke/VarHandle" ∧ (parseMethodDescriptor yX6_fights.desc).map (fun d => d.parameters.length) = some 2 := by decide +kernel
theorem he_X6_fights : yX6_fights.cls ≠ "java/lang/invoke/MethodHandle" ∧ yX6_fights.cls ≠ "java/lang/invoke/VarHandle" ∧ (parseMethodDescriptor yX6_fights.desc).map (fun d => d.parameters.length) = some 2 := hd_X6_fights.2

set_option maxHeartbeats 4000000 in
set_option maxRecDepth 100000 in
theorem w_X6_fights {l : Launch} {G : Gx} {sh : SM} {g : GM} {gl : LM} {gr : RM} {n : Nat} (hSk : Sk sh gr) (w0 : Nat) (b1 : Nat) (a2 : Int32) (hw_w0 : isWay w0) (hm_b1 : isMl b1) {r : Int32} (h : f_X6_fights g w0 b1 a2 = some r) : MetI l G yX6_fights (ws_ yX6_fights cX6_fights 3 (Option.some Jvm.ClassFile.FieldType.int)) rm_X6_fights [.ref (adr G w0), .ref (adr G b1), .int a2] sh g gl gr n (some (.int r)) sh g gl gr n := by
  refine MetI.of (by decide) (Nat.le_of_ble_eq_true rfl) ?_
  intro p e s m below meth c ls hx hb hr hml hown hts hlk hnm hW hK hR hS hl
  have hown : s.vm.findClass RX6 = some m.cls := hown
  have hF : CallFix p m c cX6_fights 3 s ([.ref (adr G w0), .ref (adr G b1), .int a2] : List Value).toArray lw_all RX6 := ⟨hx, hb, hml, hown, hts⟩
  have hl : lv_has ls 3 [(0, .ref (adr G w0)), (1, .ref (adr G b1)), (2, .int a2)] := hl
  unfold f_X6_fights at h
  refine lv_iconst (v := 2) hx hb dX6_fights_0 ki_2 ?_
  refine lv_aload_n hx hb dX6_fights_1 rfl (lv_at hl 0 rfl) ?_
  refine lv_aload_n hx hb dX6_fights_2 rfl (lv_at hl 1 rfl) ?_
  refine lv_iload_n hx hb dX6_fights_3 rfl (lv_at hl 2 rfl) ?_
  obtain ⟨r2, e1, h⟩ := obd h
  obtain ⟨ci_e1, q_e1, hc_e1, hs_e1⟩ := way_sh hSk hw_w0
  refine rc_SU0 hc_e1 (rest := [.int 2]) (st1 := [.int r2, .int 2]) hF (w_X4_fights hSk w0 b1 a2 hw_w0 hm_b1 e1) (va_cwSU 2 hts (lw_SU q782 q2096 q251 q772 q104 q773) rfl rfl rfl hs_X4_fights ⟨Nat.le_of_ble_eq_true rfl, Nat.le_of_ble_eq_true rfl⟩) hs_e1 hK hW hR hS rfl hl.1 rfl (Nat.le_of_ble_eq_true rfl) rfl dX6_fights_4 ⟨rfl, rfl⟩ ⟨Nat.zero_le _, Nat.zero_le _⟩ (fun H locs hR hS => ?_)
  refine lv_imul hx hb dX6_fights_7 ?_
  obtain rfl := s1i h
  exact r_iret0 hx hb hr hlk hR hS (Nat.zero_le _) (Nat.zero_le _) dX6_fights_8
def rm_X6_fades : Room := { frames := 3, cells := 0, slots := 0, locals := 54 }
theorem hd_X6_fades : yX6_fades.cls = "IntentVats$Shroud" ∧ yX6_fades.cls ≠ "java/lang/invoke/MethodHandle" ∧ yX6_fades.cls ≠ "java/lang/invoke/VarHandle" ∧ (parseMethodDescriptor yX6_fades.desc).map (fun d => d.parameters.length) = some 1 := by decide +kernel
theorem he_X6_fades : yX6_fades.cls ≠ "java/lang/invoke/MethodHandle" ∧ yX6_fades.cls ≠ "java/lang/invoke/VarHandle" ∧ (parseMethodDescriptor yX6_fades.desc).map (fun d => d.parameters.length) = some 1 := hd_X6_fades.2

set_option maxHeartbeats 4000000 in
set_option maxRecDepth 100000 in
theorem w_X6_fades {l : Launch} {G : Gx} {sh : SM} {g : GM} {gl : LM} {gr : RM} {n : Nat} (hSk : Sk sh gr) (w0 : Nat) (b1 : Nat) (hw_w0 : isWay w0) (hm_b1 : isMl b1) {r : Int32} (h : f_X6_fades g w0 b1 = some r) : MetI l G yX6_fades (ws_ yX6_fades cX6_fades 2 (Option.some Jvm.ClassFile.FieldType.int)) rm_X6_fades [.ref (adr G w0), .ref (adr G b1)] sh g gl gr n (some (.int r)) sh g gl gr n := by
  refine MetI.of (by decide) (Nat.le_of_ble_eq_true rfl) ?_
  intro p e s m below meth c ls hx hb hr hml hown hts hlk hnm hW hK hR hS hl
  have hown : s.vm.findClass RX6 = some m.cls := hown
  have hF : CallFix p m c cX6_fades 2 s ([.ref (adr G w0), .ref (adr G b1)] : List Value).toArray lw_all RX6 := ⟨hx, hb, hml, hown, hts⟩
  have hl : lv_has ls 2 [(0, .ref (adr G w0)), (1, .ref (adr G b1))] := hl
  unfold f_X6_fades at h
  refine lv_iconst (v := 2) hx hb dX6_fades_0 ki_2 ?_
  refine lv_aload_n hx hb dX6_fades_1 rfl (lv_at hl 0 rfl) ?_
  refine lv_aload_n hx hb dX6_fades_2 rfl (lv_at hl 1 rfl) ?_
  obtain ⟨r2, e1, h⟩ := obd h
  obtain ⟨ci_e1, q_e1, hc_e1, hs_e1⟩ := way_sh hSk hw_w0
  refine rc_SU0 hc_e1 (rest := [.int 2]) (st1 := [.int r2, .int 2]) hF (w_X4_fades hSk w0 b1 hw_w0 hm_b1 e1) (va_cwSU 1 hts (lw_SU q800 q2097 q251 q789 q104 q790) rfl rfl rfl hs_X4_fades ⟨Nat.le_of_ble_eq_true rfl, Nat.le_of_ble_eq_true rfl⟩) hs_e1 hK hW hR hS rfl hl.1 rfl (Nat.le_of_ble_eq_true rfl) rfl dX6_fades_3 ⟨rfl, rfl⟩ ⟨Nat.zero_le _, Nat.zero_le _⟩ (fun H locs hR hS => ?_)
  refine lv_imul hx hb dX6_fades_6 ?_
  obtain rfl := s1i h
  exact r_iret0 hx hb hr hlk hR hS (Nat.zero_le _) (Nat.zero_le _) dX6_fades_7
def rm_X7_takes : Room := { frames := 2, cells := 0, slots := 0, locals := 34 }
theorem hd_X7_takes : yX7_takes.cls = "IntentVats$Muslin" ∧ yX7_takes.cls ≠ "java/lang/invoke/MethodHandle" ∧ yX7_takes.cls ≠ "java/lang/invoke/VarHandle" ∧ (parseMethodDescriptor yX7_takes.desc).map (fun d => d.parameters.length) = some 2 := by decide +kernel
theorem he_X7_takes : yX7_takes.cls ≠ "java/lang/invoke/MethodHandle" ∧ yX7_takes.cls ≠ "java/lang/invoke/VarHandle" ∧ (parseMethodDescriptor yX7_takes.desc).map (fun d => d.parameters.length) = some 2 := hd_X7_takes.2

set_option maxHeartbeats 4000000 in
set_option maxRecDepth 100000 in
theorem w_X7_takes {l : Launch} {G : Gx} {sh : SM} {g : GM} {gl : LM} {gr : RM} {n : Nat} (hSk : Sk sh gr) (w0 : Nat) (b1 : Nat) (a2 : Int32) (hw_w0 : isWay w0) (hm_b1 : isMl b1) {r : Int32} (h : f_X7_takes g w0 b1 a2 = some r) : MetI l G yX7_takes (ws_ yX7_takes cX7_takes 3 (Option.some Jvm.ClassFile.FieldType.int)) rm_X7_takes [.ref (adr G w0), .ref (adr G b1), .int a2] sh g gl gr n (some (.int r)) sh g gl gr n := by
  refine MetI.of (by decide) (Nat.le_of_ble_eq_true rfl) ?_
  intro p e s m below meth c ls hx hb hr hml hown hts hlk hnm hW hK hR hS hl
  have hown : s.vm.findClass RX7 = some m.cls := hown
  have hF : CallFix p m c cX7_takes 3 s ([.ref (adr G w0), .ref (adr G b1), .int a2] : List Value).toArray lw_all RX7 := ⟨hx, hb, hml, hown, hts⟩
  have hl : lv_has ls 3 [(0, .ref (adr G w0)), (1, .ref (adr G b1)), (2, .int a2)] := hl
  unfold f_X7_takes at h
  refine lv_aload_n hx hb dX7_takes_0 rfl (lv_at hl 0 rfl) ?_
  refine lv_aload_n hx hb dX7_takes_1 rfl (lv_at hl 1 rfl) ?_
  refine lv_iload_n hx hb dX7_takes_2 rfl (lv_at hl 2 rfl) ?_
  obtain ⟨r2, e1, h⟩ := obd h
  obtain ⟨ci_e1, q_e1, hc_e1, hs_e1⟩ := way_sh hSk hw_w0
  refine rc_SU0 hc_e1 (rest := []) (st1 := [.int r2]) hF (w_X2_takes hSk w0 b1 a2 hw_w0 hm_b1 e1) (va_cwSU 2 hts (lw_SU q753 q737 q258 q735 q102 q745) rfl rfl rfl hs_X2_takes ⟨Nat.le_of_ble_eq_true rfl, Nat.le_of_ble_eq_true rfl⟩) hs_e1 hK hW hR hS rfl hl.1 rfl (Nat.le_of_ble_eq_true rfl) rfl dX7_takes_3 ⟨rfl, rfl⟩ ⟨Nat.zero_le _, Nat.zero_le _⟩ (fun H locs hR hS => ?_)
  refine lv_iconst (v := 2) hx hb dX7_takes_6 ki_2 ?_
  refine lv_idiv hx hb dX7_takes_7 (by decide) ?_
  obtain rfl := s1i h
  exact r_iret0 hx hb hr hlk hR hS (Nat.zero_le _) (Nat.zero_le _) dX7_takes_8
def rm_X7_fights : Room := { frames := 2, cells := 0, slots := 0, locals := 34 }
theorem hd_X7_fights : yX7_fights.cls = "IntentVats$Muslin" ∧ yX7_fights.cls ≠ "java/lang/invoke/MethodHandle" ∧ yX7_fights.cls ≠ "java/lang/invoke/VarHandle" ∧ (parseMethodDescriptor yX7_fights.desc).map (fun d => d.parameters.length) = some 2 := by decide +kernel
theorem he_X7_fights : yX7_fights.cls ≠ "java/lang/invoke/MethodHandle" ∧ yX7_fights.cls ≠ "java/lang/invoke/VarHandle" ∧ (parseMethodDescriptor yX7_fights.desc).map (fun d => d.parameters.length) = some 2 := hd_X7_fights.2

set_option maxHeartbeats 4000000 in
set_option maxRecDepth 100000 in
theorem w_X7_fights {l : Launch} {G : Gx} {sh : SM} {g : GM} {gl : LM} {gr : RM} {n : Nat} (hSk : Sk sh gr) (w0 : Nat) (b1 : Nat) (a2 : Int32) (hw_w0 : isWay w0) (hm_b1 : isMl b1) {r : Int32} (h : f_X7_fights g w0 b1 a2 = some r) : MetI l G yX7_fights (ws_ yX7_fights cX7_fights 3 (Option.some Jvm.ClassFile.FieldType.int)) rm_X7_fights [.ref (adr G w0), .ref (adr G b1), .int a2] sh g gl gr n (some (.int r)) sh g gl gr n := by
  refine MetI.of (by decide) (Nat.le_of_ble_eq_true rfl) ?_
  intro p e s m below meth c ls hx hb hr hml hown hts hlk hnm hW hK hR hS hl
  have hown : s.vm.findClass RX7 = some m.cls := hown
  have hF : CallFix p m c cX7_fights 3 s ([.ref (adr G w0), .ref (adr G b1), .int a2] : List Value).toArray lw_all RX7 := ⟨hx, hb, hml, hown, hts⟩
  have hl : lv_has ls 3 [(0, .ref (adr G w0)), (1, .ref (adr G b1)), (2, .int a2)] := hl
  unfold f_X7_fights at h
  refine lv_aload_n hx hb dX7_fights_0 rfl (lv_at hl 0 rfl) ?_
  refine lv_aload_n hx hb dX7_fights_1 rfl (lv_at hl 1 rfl) ?_
  refine lv_iload_n hx hb dX7_fights_2 rfl (lv_at hl 2 rfl) ?_
  obtain ⟨r2, e1, h⟩ := obd h
  obtain ⟨ci_e1, q_e1, hc_e1, hs_e1⟩ := way_sh hSk hw_w0
  refine rc_SU0 hc_e1 (rest := []) (st1 := [.int r2]) hF (w_X2_fights hSk w0 b1 a2 hw_w0 hm_b1 e1) (va_cwSU 2 hts (lw_SU q778 q762 q258 q760 q102 q770) rfl rfl rfl hs_X2_fights ⟨Nat.le_of_ble_eq_true rfl, Nat.le_of_ble_eq_true rfl⟩) hs_e1 hK hW hR hS rfl hl.1 rfl (Nat.le_of_ble_eq_true rfl) rfl dX7_fights_3 ⟨rfl, rfl⟩ ⟨Nat.zero_le _, Nat.zero_le _⟩ (fun H locs hR hS => ?_)
  refine lv_iconst (v := 1) hx hb dX7_fights_6 ki_1 ?_
  refine lv_iadd hx hb dX7_fights_7 ?_
  obtain rfl := s1i h
  exact r_iret0 hx hb hr hlk hR hS (Nat.zero_le _) (Nat.zero_le _) dX7_fights_8
def rm_X7_fades : Room := { frames := 2, cells := 0, slots := 0, locals := 33 }
theorem hd_X7_fades : yX7_fades.cls = "IntentVats$Muslin" ∧ yX7_fades.cls ≠ "java/lang/invoke/MethodHandle" ∧ yX7_fades.cls ≠ "java/lang/invoke/VarHandle" ∧ (parseMethodDescriptor yX7_fades.desc).map (fun d => d.parameters.length) = some 1 := by decide +kernel
theorem he_X7_fades : yX7_fades.cls ≠ "java/lang/invoke/MethodHandle" ∧ yX7_fades.cls ≠ "java/lang/invoke/VarHandle" ∧ (parseMethodDescriptor yX7_fades.desc).map (fun d => d.parameters.length) = some 1 := hd_X7_fades.2

set_option maxHeartbeats 4000000 in
set_option maxRecDepth 100000 in
theorem w_X7_fades {l : Launch} {G : Gx} {sh : SM} {g : GM} {gl : LM} {gr : RM} {n : Nat} (hSk : Sk sh gr) (w0 : Nat) (b1 : Nat) (hw_w0 : isWay w0) (hm_b1 : isMl b1) {r : Int32} (h : f_X7_fades g w0 b1 = some r) : MetI l G yX7_fades (ws_ yX7_fades cX7_fades 2 (Option.some Jvm.ClassFile.FieldType.int)) rm_X7_fades [.ref (adr G w0), .ref (adr G b1)] sh g gl gr n (some (.int r)) sh g gl gr n := by
  refine MetI.of (by decide) (Nat.le_of_ble_eq_true rfl) ?_
  intro p e s m below meth c ls hx hb hr hml hown hts hlk hnm hW hK hR hS hl
  have hown : s.vm.findClass RX7 = some m.cls := hown
  have hF : CallFix p m c cX7_fades 2 s ([.ref (adr G w0), .ref (adr G b1)] : List Value).toArray lw_all RX7 := ⟨hx, hb, hml, hown, hts⟩
  have hl : lv_has ls 2 [(0, .ref (adr G w0)), (1, .ref (adr G b1))] := hl
  unfold f_X7_fades at h
  refine lv_aload_n hx hb dX7_fades_0 rfl (lv_at hl 0 rfl) ?_
  refine lv_aload_n hx hb dX7_fades_1 rfl (lv_at hl 1 rfl) ?_
  obtain ⟨r2, e1, h⟩ := obd h
  refine r_sfades (rest := []) hF (by decide) (w_X22_fades hSk w0 b1 hw_w0 hm_b1 e1) hSk hw_w0 (Nat.le_of_ble_eq_true rfl) (Nat.le_of_ble_eq_true rfl) hK hW hR hS hl.1 (Nat.le_of_ble_eq_true rfl) dX7_fades_2 ⟨Nat.zero_le _, Nat.zero_le _⟩ (fun H locs hR hS => ?_)
  refine lv_iconst (v := 3) hx hb dX7_fades_5 ki_3 ?_
  refine lv_iadd hx hb dX7_fades_6 ?_
  obtain rfl := s1i h
  exact r_iret0 hx hb hr hlk hR hS (Nat.zero_le _) (Nat.zero_le _) dX7_fades_7
def rm_X0_in : Room := { frames := 1, cells := 0, slots := 0, locals := 12 }
theorem he_X0_in : yX0_in.cls ≠ "java/lang/invoke/MethodHandle" ∧ yX0_in.cls ≠ "java/lang/invoke/VarHandle" ∧ (parseMethodDescriptor yX0_in.desc).map (fun d => d.parameters.length) = some 3 := by decide +kernel

set_option maxHeartbeats 4000000 in
set_option maxRecDepth 100000 in
theorem w_X0_in {l : Launch} {G : Gx} {sh : SM} {g : GM} {gl : LM} {gr : RM} {n : Nat} (hSk : Sk sh gr) (a0 : Int32) (a1 : Int32) (a2 : Int32)  {r : Int32} (h : f_X0_in  a0 a1 a2 = some r) : MetI l G yX0_in (ws_ yX0_in cX0_in 3 (Option.some Jvm.ClassFile.FieldType.boolean)) rm_X0_in [.int a0, .int a1, .int a2] sh g gl gr n (some (.int r)) sh g gl gr n := by
  refine MetI.of (by decide) (Nat.le_of_ble_eq_true rfl) ?_
  intro p e s m below meth c ls hx hb hr hml hown hts hlk hnm hW hK hR hS hl
  have hown : s.vm.findClass RX0 = some m.cls := hown
  have hF : CallFix p m c cX0_in 3 s ([.int a0, .int a1, .int a2] : List Value).toArray lw_all RX0 := ⟨hx, hb, hml, hown, hts⟩
  have hl : lv_has ls 3 [(0, .int a0), (1, .int a1), (2, .int a2)] := hl
  unfold f_X0_in at h
  refine lv_iload_n hx hb dX0_in_0 rfl (lv_at hl 0 rfl) ?_
  refine lv_iload_n hx hb dX0_in_1 rfl (lv_at hl 1 rfl) ?_
  have J15 : ∀ (x1 : Int32) (H : Heap) (locs : List Loc) (ls : Array Slot), Rep G sh g gl gr n H → va_S (own G) s.heap H locs → lv_has ls 3 [] → j_X0_in_15  x1 = some r → W p l e rm_X0_in s m ([.int a0, .int a1, .int a2] : List Value).toArray below meth c H locs 0 0 (MQ below (QR G (some (.int r)) sh g gl gr n) ([.int a0, .int a1, .int a2] : List Value).toArray s rm_X0_in.cells rm_X0_in.slots (own G)) (F0 m 15 ls [.int x1]) := by
    intro x1 H locs ls hR hS hl h
    unfold j_X0_in_15 at h
    obtain ⟨c2, h⟩ := ogrd h
    obtain rfl := s1i h
    exact r_zret0 hx hb hr hlk hR hS (Nat.zero_le _) (Nat.zero_le _) (nb01 c2) dX0_in_15
  have J14 : ∀  (H : Heap) (locs : List Loc) (ls : Array Slot), Rep G sh g gl gr n H → va_S (own G) s.heap H locs → lv_has ls 3 [] → j_X0_in_14   = some r → W p l e rm_X0_in s m ([.int a0, .int a1, .int a2] : List Value).toArray below meth c H locs 0 0 (MQ below (QR G (some (.int r)) sh g gl gr n) ([.int a0, .int a1, .int a2] : List Value).toArray s rm_X0_in.cells rm_X0_in.slots (own G)) (F0 m 14 ls []) := by
    intro  H locs ls hR hS hl h
    unfold j_X0_in_14 at h
    refine lv_iconst (v := 0) hx hb dX0_in_14 ki_0 ?_
    exact J15 0 _ _ _ hR hS (lv_sub hl [] rfl) h
  refine lv_icmp_lt (tgt := 14) hx hb dX0_in_2 (by decide) (fun c3 => ?_) (fun c3 => ?_)
  · replace h := ifp h c3
    exact J14  _ _ _ hR hS (lv_sub hl [] rfl) h
  · replace h := ifn h c3
    refine lv_iload_n hx hb dX0_in_5 rfl (lv_at hl 0 rfl) ?_
    refine lv_iload_n hx hb dX0_in_6 rfl (lv_at hl 2 rfl) ?_
    refine lv_icmp_gt (tgt := 14) hx hb dX0_in_7 (by decide) (fun c4 => ?_) (fun c4 => ?_)
    · replace h := ifp h c4
      exact J14  _ _ _ hR hS (lv_sub hl [] rfl) h
    · replace h := ifn h c4
      refine lv_iconst (v := 1) hx hb dX0_in_10 ki_1 ?_
      refine lv_goto (tgt := 15) hx hb dX0_in_11 (by decide) ?_
      exact J15 1 _ _ _ hR hS (lv_sub hl [] rfl) h
def rm_X0_mostOf : Room := { frames := 1, cells := 0, slots := 0, locals := 12 }
theorem he_X0_mostOf : yX0_mostOf.cls ≠ "java/lang/invoke/MethodHandle" ∧ yX0_mostOf.cls ≠ "java/lang/invoke/VarHandle" ∧ (parseMethodDescriptor yX0_mostOf.desc).map (fun d => d.parameters.length) = some 1 := by decide +kernel

set_option maxHeartbeats 4000000 in
set_option maxRecDepth 100000 in
theorem w_X0_mostOf {l : Launch} {G : Gx} {sh : SM} {g : GM} {gl : LM} {gr : RM} {n : Nat} (hSk : Sk sh gr) (a0 : Int32)  {r : Int32} (h : f_X0_mostOf  a0 = some r) : MetI l G yX0_mostOf (ws_ yX0_mostOf cX0_mostOf 1 (Option.some Jvm.ClassFile.FieldType.int)) rm_X0_mostOf [.int a0] sh g gl gr n (some (.int r)) sh g gl gr n := by
  refine MetI.of (by decide) (Nat.le_of_ble_eq_true rfl) ?_
  intro p e s m below meth c ls hx hb hr hml hown hts hlk hnm hW hK hR hS hl
  have hown : s.vm.findClass RX0 = some m.cls := hown
  have hF : CallFix p m c cX0_mostOf 1 s ([.int a0] : List Value).toArray lw_all RX0 := ⟨hx, hb, hml, hown, hts⟩
  have hl : lv_has ls 1 [(0, .int a0)] := hl
  unfold f_X0_mostOf at h
  refine lv_iload_n hx hb dX0_mostOf_0 rfl (lv_at hl 0 rfl) ?_
  refine lv_iconst (v := 3) hx hb dX0_mostOf_1 ki_3 ?_
  have J12 : ∀ (x1 : Int32) (H : Heap) (locs : List Loc) (ls : Array Slot), Rep G sh g gl gr n H → va_S (own G) s.heap H locs → lv_has ls 1 [] → j_X0_mostOf_12  x1 = some r → W p l e rm_X0_mostOf s m ([.int a0] : List Value).toArray below meth c H locs 0 0 (MQ below (QR G (some (.int r)) sh g gl gr n) ([.int a0] : List Value).toArray s rm_X0_mostOf.cells rm_X0_mostOf.slots (own G)) (F0 m 12 ls [.int x1]) := by
    intro x1 H locs ls hR hS hl h
    unfold j_X0_mostOf_12 at h
    obtain rfl := s1i h
    exact r_iret0 hx hb hr hlk hR hS (Nat.zero_le _) (Nat.zero_le _) dX0_mostOf_12
  refine lv_icmp_ne (tgt := 10) hx hb dX0_mostOf_2 (by decide) (fun c2 => ?_) (fun c2 => ?_)
  · replace h := ifn h c2
    refine lv_bipush (v := 9) hx hb dX0_mostOf_10 kb_9 ?_
    exact J12 9 _ _ _ hR hS (lv_sub hl [] rfl) h
  · replace h := ifp h c2
    refine lv_bipush (v := 99) hx hb dX0_mostOf_5 kb_99 ?_
    refine lv_goto (tgt := 12) hx hb dX0_mostOf_7 (by decide) ?_
    exact J12 99 _ _ _ hR hS (lv_sub hl [] rfl) h
