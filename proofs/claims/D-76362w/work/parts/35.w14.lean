/-! walks: X14_must, X14_takes, X14_figures, X14_number, X14_clothTold, X14_twoTold, X14_lawTold, X14_item, X14_mill, X14_prove, X14_isCell, X14_row, X14_alterRow -/
def rm_X14_must : Room := { frames := 4, cells := 0, slots := 0, locals := 82 }
theorem hd_X14_must : yX14_must.cls = "IntentVatsModel" ∧ yX14_must.cls ≠ "java/lang/invoke/MethodHandle" ∧ yX14_must.cls ≠ "java/lang/invoke/VarHandle" ∧ (parseMethodDescriptor yX14_must.desc).map (fun d => d.parameters.length) = some 1 := by decide +kernel
theorem he_X14_must : yX14_must.cls ≠ "java/lang/invoke/MethodHandle" ∧ yX14_must.cls ≠ "java/lang/invoke/VarHandle" ∧ (parseMethodDescriptor yX14_must.desc).map (fun d => d.parameters.length) = some 1 := hd_X14_must.2

set_option maxHeartbeats 4000000 in
set_option maxRecDepth 100000 in
theorem w_X14_must {l : Launch} {G : Gx} {sh : SM} {g : GM} {gl : LM} {gr : RM} {n : Nat} (hSk : Sk sh gr) (a1 : Int32)  {go : GM} (h : f_X14_must g a1 = some go) : MetI l G yX14_must (ws_ yX14_must cX14_must 2 (Option.none : Option Jvm.ClassFile.FieldType)) rm_X14_must [.ref (adr G 128), .int a1] sh g gl gr n none sh go gl gr n := by
  refine MetI.of (by decide) (Nat.le_of_ble_eq_true rfl) ?_
  intro p e s m below meth c ls hx hb hr hml hown hts hlk hnm hW hK hR hS hl
  have hown : s.vm.findClass RX14 = some m.cls := hown
  have hF : CallFix p m c cX14_must 2 s ([.ref (adr G 128), .int a1] : List Value).toArray lw_all RX14 := ⟨hx, hb, hml, hown, hts⟩
  have hl : lv_has ls 2 [(0, .ref (adr G 128)), (1, .int a1)] := hl
  unfold f_X14_must at h
  refine lv_aload_n hx hb dX14_must_0 rfl (lv_at hl 0 rfl) ?_
  refine lv_aload_n hx hb dX14_must_1 rfl (lv_at hl 0 rfl) ?_
  refine r_geti hx hb hts cfX14 hown hK hR (sk_128 hSk) 10 (by decide) rfl (hts _ q1531) (fun _ h => h) dX14_must_2 ?_
  have J17 : ∀ (x1 : Int32) (H : Heap) (locs : List Loc) (ls : Array Slot), Rep G sh g gl gr n H → va_S (own G) s.heap H locs → lv_has ls 2 [(0, .ref (adr G 128))] → j_X14_must_17 g x1 = some go → W p l e rm_X14_must s m ([.ref (adr G 128), .int a1] : List Value).toArray below meth c H locs 0 0 (MQ below (QR G none sh go gl gr n) ([.ref (adr G 128), .int a1] : List Value).toArray s rm_X14_must.cells rm_X14_must.slots (own G)) (F0 m 17 ls [.int x1, .ref (adr G 128)]) := by
    intro x1 H locs ls hR hS hl h
    unfold j_X14_must_17 at h
    obtain ⟨c2, h⟩ := ogrd h
    obtain ⟨g4, e3, h⟩ := obd h
    refine r_puti hx hb hts cfX14 hown hK hR hS (sk_128 hSk) 10 (by decide) rfl (hts _ q1531) (fun _ h => h) (Or.inl rfl) (nb01 c2) (fb01 c2) e3 dX14_must_17 (fun H locs hR hS => ?_)
    refine lv_aload_n hx hb dX14_must_20 rfl (lv_at hl 0 rfl) ?_
    refine r_geti hx hb hts cfX14 hown hK hR (sk_128 hSk) 10 (by decide) rfl (hts _ q1531) (fun _ h => h) dX14_must_21 ?_
    have J31 : ∀ (g5 : GM) (H : Heap) (locs : List Loc) (ls : Array Slot), Rep G sh g5 gl gr n H → va_S (own G) s.heap H locs → lv_has ls 2 [] → j_X14_must_31  g5 = some go → W p l e rm_X14_must s m ([.ref (adr G 128), .int a1] : List Value).toArray below meth c H locs 0 0 (MQ below (QR G none sh go gl gr n) ([.ref (adr G 128), .int a1] : List Value).toArray s rm_X14_must.cells rm_X14_must.slots (own G)) (F0 m 31 ls []) := by
      intro g5 H locs ls hR hS hl h
      unfold j_X14_must_31 at h
      obtain rfl := s1i h
      exact r_vret0 hx hb hr hlk hR hS (Nat.zero_le _) (Nat.zero_le _) dX14_must_31
    refine lv_if_ne (tgt := 31) hx hb dX14_must_24 (by decide) (fun c6 => ?_) (fun c6 => ?_)
    · replace h := ifn h c6
      exact J31 g4 _ _ _ hR hS (lv_sub hl [] rfl) h
    · replace h := ifp h c6
      refine lv_aload_n hx hb dX14_must_27 rfl (lv_at hl 0 rfl) ?_
      obtain ⟨g8, e7, h⟩ := obd h
      refine rc_V0 (rest := []) (st1 := []) hF (w_X14_next hSk e7) (cwV 0 hts (lw_V q1894 q1896 qs72 q117 q1897) rfl rfl rfl hd_X14_next ⟨Nat.le_of_ble_eq_true rfl, Nat.le_of_ble_eq_true rfl⟩) cfX14 (sk_128 hSk) hK hW hR hS rfl hl.1 rfl (Nat.le_of_ble_eq_true rfl) rfl dX14_must_28 ⟨rfl, rfl⟩ ⟨Nat.zero_le _, Nat.zero_le _⟩ (fun H locs hR hS => ?_)
      exact J31 g8 _ _ _ hR hS (lv_sub hl [] rfl) h
  have J12 : ∀  (H : Heap) (locs : List Loc) (ls : Array Slot), Rep G sh g gl gr n H → va_S (own G) s.heap H locs → lv_has ls 2 [(0, .ref (adr G 128))] → j_X14_must_12 g  = some go → W p l e rm_X14_must s m ([.ref (adr G 128), .int a1] : List Value).toArray below meth c H locs 0 0 (MQ below (QR G none sh go gl gr n) ([.ref (adr G 128), .int a1] : List Value).toArray s rm_X14_must.cells rm_X14_must.slots (own G)) (F0 m 12 ls [.ref (adr G 128)]) := by
    intro  H locs ls hR hS hl h
    unfold j_X14_must_12 at h
    refine lv_iconst (v := 1) hx hb dX14_must_12 ki_1 ?_
    refine lv_goto (tgt := 17) hx hb dX14_must_13 (by decide) ?_
    exact J17 1 _ _ _ hR hS (lv_sub hl [0] rfl) h
  refine lv_if_ne (tgt := 12) hx hb dX14_must_5 (by decide) (fun c9 => ?_) (fun c9 => ?_)
  · replace h := ifn h c9
    exact J12  _ _ _ hR hS (lv_sub hl [0] rfl) h
  · replace h := ifp h c9
    refine lv_iload_n hx hb dX14_must_8 rfl (lv_at hl 1 rfl) ?_
    refine lv_if_ne (tgt := 16) hx hb dX14_must_9 (by decide) (fun c10 => ?_) (fun c10 => ?_)
    · replace h := ifn h c10
      refine lv_iconst (v := 0) hx hb dX14_must_16 ki_0 ?_
      exact J17 0 _ _ _ hR hS (lv_sub hl [0] rfl) h
    · replace h := ifp h c10
      exact J12  _ _ _ hR hS (lv_sub hl [0] rfl) h
def rm_X14_takes : Room := { frames := 7, cells := 0, slots := 0, locals := 244 }
theorem hd_X14_takes : yX14_takes.cls = "IntentVatsModel" ∧ yX14_takes.cls ≠ "java/lang/invoke/MethodHandle" ∧ yX14_takes.cls ≠ "java/lang/invoke/VarHandle" ∧ (parseMethodDescriptor yX14_takes.desc).map (fun d => d.parameters.length) = some 1 := by decide +kernel
theorem he_X14_takes : yX14_takes.cls ≠ "java/lang/invoke/MethodHandle" ∧ yX14_takes.cls ≠ "java/lang/invoke/VarHandle" ∧ (parseMethodDescriptor yX14_takes.desc).map (fun d => d.parameters.length) = some 1 := hd_X14_takes.2

set_option maxHeartbeats 4000000 in
set_option maxRecDepth 100000 in
theorem w_X14_takes {l : Launch} {G : Gx} {sh : SM} {g : GM} {gl : LM} {gr : RM} {n : Nat} (hSk : Sk sh gr) (a1 : Nat)  {r : Int32} {go : GM} (h : f_X14_takes g a1 = some (r, go)) : MetI l G yX14_takes (ws_ yX14_takes cX14_takes 3 (Option.some Jvm.ClassFile.FieldType.boolean)) rm_X14_takes [.ref (adr G 128), .ref (adr G a1)] sh g gl gr n (some (.int r)) sh go gl gr n := by
  refine MetI.of (by decide) (Nat.le_of_ble_eq_true rfl) ?_
  intro p e s m below meth c ls hx hb hr hml hown hts hlk hnm hW hK hR hS hl
  have hown : s.vm.findClass RX14 = some m.cls := hown
  have hF : CallFix p m c cX14_takes 3 s ([.ref (adr G 128), .ref (adr G a1)] : List Value).toArray lw_all RX14 := ⟨hx, hb, hml, hown, hts⟩
  have hl : lv_has ls 3 [(0, .ref (adr G 128)), (1, .ref (adr G a1))] := hl
  unfold f_X14_takes at h
  refine lv_aload_n hx hb dX14_takes_0 rfl (lv_at hl 0 rfl) ?_
  refine lv_aload_n hx hb dX14_takes_1 rfl (lv_at hl 1 rfl) ?_
  obtain ⟨r2, e1, h⟩ := obd h
  refine rc_V0 (rest := []) (st1 := [.int r2]) hF (w_X14_isWord hSk a1 e1) (cwV 1 hts (lw_V q1911 q1913 qs76 q117 q1914) rfl rfl rfl hd_X14_isWord ⟨Nat.le_of_ble_eq_true rfl, Nat.le_of_ble_eq_true rfl⟩) cfX14 (sk_128 hSk) hK hW hR hS rfl hl.1 rfl (Nat.le_of_ble_eq_true rfl) rfl dX14_takes_2 ⟨rfl, rfl⟩ ⟨Nat.zero_le _, Nat.zero_le _⟩ (fun H locs hR hS => ?_)
  refine lv_istore_n (lv' := [(2, .int r2), (0, .ref (adr G 128)), (1, .ref (adr G a1))]) hx hb dX14_takes_5 rfl hl (by decide) rfl (fun ls hl => ?_)
  refine lv_iload_n hx hb dX14_takes_6 rfl (lv_at hl 0 rfl) ?_
  have J15 : ∀ (g3 : GM) (H : Heap) (locs : List Loc) (ls : Array Slot), Rep G sh g3 gl gr n H → va_S (own G) s.heap H locs → lv_has ls 3 [(2, .int r2)] → j_X14_takes_15 r2 g3 = some (r, go) → W p l e rm_X14_takes s m ([.ref (adr G 128), .ref (adr G a1)] : List Value).toArray below meth c H locs 0 0 (MQ below (QR G (some (.int r)) sh go gl gr n) ([.ref (adr G 128), .ref (adr G a1)] : List Value).toArray s rm_X14_takes.cells rm_X14_takes.slots (own G)) (F0 m 15 ls []) := by
    intro g3 H locs ls hR hS hl h
    unfold j_X14_takes_15 at h
    refine lv_iload_n hx hb dX14_takes_15 rfl (lv_at hl 0 rfl) ?_
    obtain ⟨c4, h⟩ := ogrd h
    obtain ⟨rfl, rfl⟩ := s2i h
    exact r_zret0 hx hb hr hlk hR hS (Nat.zero_le _) (Nat.zero_le _) (nb01 c4) dX14_takes_16
  refine lv_if_eq (tgt := 15) hx hb dX14_takes_7 (by decide) (fun c5 => ?_) (fun c5 => ?_)
  · replace h := ifp h c5
    exact J15 g _ _ _ hR hS (lv_sub hl [0] rfl) h
  · replace h := ifn h c5
    refine lv_aload_n hx hb dX14_takes_10 rfl (lv_at hl 1 rfl) ?_
    refine lv_iconst (v := 1) hx hb dX14_takes_11 ki_1 ?_
    obtain ⟨g7, e6, h⟩ := obd h
    refine rc_V0 (rest := []) (st1 := []) hF (w_X14_must hSk 1 e6) (cwV 1 hts (lw_V q1934 q1936 qs79 q117 q1937) rfl rfl rfl hd_X14_must ⟨Nat.le_of_ble_eq_true rfl, Nat.le_of_ble_eq_true rfl⟩) cfX14 (sk_128 hSk) hK hW hR hS rfl hl.1 rfl (Nat.le_of_ble_eq_true rfl) rfl dX14_takes_12 ⟨rfl, rfl⟩ ⟨Nat.zero_le _, Nat.zero_le _⟩ (fun H locs hR hS => ?_)
    exact J15 g7 _ _ _ hR hS (lv_sub hl [0] rfl) h
def rm_X14_figures : Room := { frames := 3, cells := 0, slots := 0, locals := 60 }
theorem hd_X14_figures : yX14_figures.cls = "IntentVatsModel" ∧ yX14_figures.cls ≠ "java/lang/invoke/MethodHandle" ∧ yX14_figures.cls ≠ "java/lang/invoke/VarHandle" ∧ (parseMethodDescriptor yX14_figures.desc).map (fun d => d.parameters.length) = some 0 := by decide +kernel
theorem he_X14_figures : yX14_figures.cls ≠ "java/lang/invoke/MethodHandle" ∧ yX14_figures.cls ≠ "java/lang/invoke/VarHandle" ∧ (parseMethodDescriptor yX14_figures.desc).map (fun d => d.parameters.length) = some 0 := hd_X14_figures.2

set_option maxHeartbeats 4000000 in
set_option maxRecDepth 100000 in
theorem w_X14_figures {l : Launch} {G : Gx} {sh : SM} {g : GM} {gl : LM} {gr : RM} {n : Nat} (hSk : Sk sh gr)   {r : Int32} (h : f_X14_figures g  = some r) : MetI l G yX14_figures (ws_ yX14_figures cX14_figures 3 (Option.some Jvm.ClassFile.FieldType.int)) rm_X14_figures [.ref (adr G 128)] sh g gl gr n (some (.int r)) sh g gl gr n := by
  refine MetI.of (by decide) (Nat.le_of_ble_eq_true rfl) ?_
  intro p e s m below meth c ls hx hb hr hml hown hts hlk hnm hW hK hR hS hl
  have hown : s.vm.findClass RX14 = some m.cls := hown
  have hF : CallFix p m c cX14_figures 3 s ([.ref (adr G 128)] : List Value).toArray lw_all RX14 := ⟨hx, hb, hml, hown, hts⟩
  have hl : lv_has ls 3 [(0, .ref (adr G 128))] := hl
  unfold f_X14_figures at h
  refine lv_aload_n hx hb dX14_figures_0 rfl (lv_at hl 0 rfl) ?_
  refine lv_aload_n hx hb dX14_figures_1 rfl (lv_at hl 0 rfl) ?_
  refine r_geti hx hb hts cfX14 hown hK hR (sk_128 hSk) 8 (by decide) rfl (hts _ q1529) (fun _ h => h) dX14_figures_2 ?_
  refine lv_bipush (v := 48) hx hb dX14_figures_5 kb_48 ?_
  refine lv_bipush (v := 57) hx hb dX14_figures_7 kb_57 ?_
  obtain ⟨r2, e1, h⟩ := obd h
  refine rc_V0 (rest := []) (st1 := [.int r2]) hF (w_X14_isByte hSk (g 128 8) 48 57 e1) (cwV 3 hts (lw_V q1898 q1900 qs73 q117 q1901) rfl rfl rfl hd_X14_isByte ⟨Nat.le_of_ble_eq_true rfl, Nat.le_of_ble_eq_true rfl⟩) cfX14 (sk_128 hSk) hK hW hR hS rfl hl.1 rfl (Nat.le_of_ble_eq_true rfl) rfl dX14_figures_9 ⟨rfl, rfl⟩ ⟨Nat.zero_le _, Nat.zero_le _⟩ (fun H locs hR hS => ?_)
  have J33 : ∀ (x3 : Int32) (H : Heap) (locs : List Loc) (ls : Array Slot), Rep G sh g gl gr n H → va_S (own G) s.heap H locs → lv_has ls 3 [(0, .ref (adr G 128))] → j_X14_figures_33 g x3 = some r → W p l e rm_X14_figures s m ([.ref (adr G 128)] : List Value).toArray below meth c H locs 0 0 (MQ below (QR G (some (.int r)) sh g gl gr n) ([.ref (adr G 128)] : List Value).toArray s rm_X14_figures.cells rm_X14_figures.slots (own G)) (F0 m 33 ls [.int x3]) := by
    intro x3 H locs ls hR hS hl h
    unfold j_X14_figures_33 at h
    refine lv_istore_n (lv' := [(1, .int x3), (0, .ref (adr G 128))]) hx hb dX14_figures_33 rfl hl (by decide) rfl (fun ls hl => ?_)
    refine lv_aload_n hx hb dX14_figures_34 rfl (lv_at hl 1 rfl) ?_
    refine r_geti hx hb hts cfX14 hown hK hR (sk_128 hSk) 8 (by decide) rfl (hts _ q1529) (fun _ h => h) dX14_figures_35 ?_
    refine lv_istore_n (lv' := [(2, .int (g 128 8)), (1, .int x3), (0, .ref (adr G 128))]) hx hb dX14_figures_38 rfl hl (by decide) rfl (fun ls hl => ?_)
    have J39 : ∀ (k39 : Nat) (x4 : Int32) (x5 : Int32) (H : Heap) (locs : List Loc) (ls : Array Slot), Rep G sh g gl gr n H → va_S (own G) s.heap H locs → lv_has ls 3 [(0, .ref (adr G 128)), (1, .int x4), (2, .int x5)] → l_X14_figures_39 g k39 x4 x5 = some r → W p l e rm_X14_figures s m ([.ref (adr G 128)] : List Value).toArray below meth c H locs 0 0 (MQ below (QR G (some (.int r)) sh g gl gr n) ([.ref (adr G 128)] : List Value).toArray s rm_X14_figures.cells rm_X14_figures.slots (own G)) (F0 m 39 ls []) := by
      intro k39
      induction k39 with
      | zero => intro _ _ _ _ _ _ _ _; exact nofun
      | succ k39 ih39 =>
        intro x4 x5 H locs ls hR hS hl h
        unfold l_X14_figures_39 b_X14_figures_39 at h
        refine lv_iload_n hx hb dX14_figures_39 rfl (lv_at hl 2 rfl) ?_
        refine lv_aload_n hx hb dX14_figures_40 rfl (lv_at hl 0 rfl) ?_
        refine r_geti hx hb hts cfX14 hown hK hR (sk_128 hSk) 9 (by decide) rfl (hts _ q1530) (fun _ h => h) dX14_figures_41 ?_
        have J72 : ∀  (H : Heap) (locs : List Loc) (ls : Array Slot), Rep G sh g gl gr n H → va_S (own G) s.heap H locs → lv_has ls 3 [(1, .int x4)] → j_X14_figures_72 x4  = some r → W p l e rm_X14_figures s m ([.ref (adr G 128)] : List Value).toArray below meth c H locs 0 0 (MQ below (QR G (some (.int r)) sh g gl gr n) ([.ref (adr G 128)] : List Value).toArray s rm_X14_figures.cells rm_X14_figures.slots (own G)) (F0 m 72 ls []) := by
          intro  H locs ls hR hS hl h
          unfold j_X14_figures_72 at h
          refine lv_iload_n hx hb dX14_figures_72 rfl (lv_at hl 0 rfl) ?_
          obtain rfl := s1i h
          exact r_iret0 hx hb hr hlk hR hS (Nat.zero_le _) (Nat.zero_le _) dX14_figures_73
        refine lv_icmp_ge (tgt := 72) hx hb dX14_figures_44 (by decide) (fun c6 => ?_) (fun c6 => ?_)
        · replace h := ifp h c6
          exact J72  _ _ _ hR hS (lv_sub hl [1] rfl) h
        · replace h := ifn h c6
          refine lv_iload_n hx hb dX14_figures_47 rfl (lv_at hl 1 rfl) ?_
          refine lv_if_lt (tgt := 72) hx hb dX14_figures_48 (by decide) (fun c7 => ?_) (fun c7 => ?_)
          · replace h := ifp h c7
            exact J72  _ _ _ hR hS (lv_sub hl [1] rfl) h
          · replace h := ifn h c7
            refine lv_bipush (v := 10) hx hb dX14_figures_51 kb_10 ?_
            refine lv_iload_n hx hb dX14_figures_53 rfl (lv_at hl 1 rfl) ?_
            refine lv_imul hx hb dX14_figures_54 ?_
            refine lv_aload_n hx hb dX14_figures_55 rfl (lv_at hl 0 rfl) ?_
            refine r_getr hx hb hts cfX14 hown hK hR (sk_128 hSk) 6 (by decide) rfl (sr_128_6 hSk) (hts _ q1527) (fun _ h => h) dX14_figures_56 ?_
            refine lv_iload_n hx hb dX14_figures_59 rfl (lv_at hl 2 rfl) ?_
            obtain ⟨v9, e8, h⟩ := obd h
            refine r_ldi hx hb hK hR (sk_134 hSk) e8 dX14_figures_60 ?_
            refine lv_iadd hx hb dX14_figures_61 ?_
            refine lv_bipush (v := 48) hx hb dX14_figures_62 kb_48 ?_
            refine lv_isub hx hb dX14_figures_64 ?_
            refine lv_istore_n (lv' := [(1, .int (((10 * x4) + v9) - 48)), (0, .ref (adr G 128)), (2, .int x5)]) hx hb dX14_figures_65 rfl hl (by decide) rfl (fun ls hl => ?_)
            refine lv_iinc (v := x5 + 1) (lv' := [(2, .int (x5 + 1)), (1, .int (((10 * x4) + v9) - 48)), (0, .ref (adr G 128))]) hx hb dX14_figures_66 hl (k := 2) rfl rfl (by decide) rfl (fun ls hl => ?_)
            refine lv_goto (tgt := 39) hx hb dX14_figures_69 (by decide) ?_
            exact ih39 (((10 * x4) + v9) - 48) (x5 + 1) _ _ _ hR hS (lv_sub hl [2, 1, 0] rfl) h
    exact J39 fuel x3 (g 128 8) _ _ _ hR hS (lv_sub hl [2, 1, 0] rfl) h
  have J32 : ∀  (H : Heap) (locs : List Loc) (ls : Array Slot), Rep G sh g gl gr n H → va_S (own G) s.heap H locs → lv_has ls 3 [(0, .ref (adr G 128))] → j_X14_figures_32 g  = some r → W p l e rm_X14_figures s m ([.ref (adr G 128)] : List Value).toArray below meth c H locs 0 0 (MQ below (QR G (some (.int r)) sh g gl gr n) ([.ref (adr G 128)] : List Value).toArray s rm_X14_figures.cells rm_X14_figures.slots (own G)) (F0 m 32 ls []) := by
    intro  H locs ls hR hS hl h
    unfold j_X14_figures_32 at h
    refine lv_iconst (v := (-1)) hx hb dX14_figures_32 ki_m1 ?_
    exact J33 (-1) _ _ _ hR hS (lv_sub hl [0] rfl) h
  refine lv_if_eq (tgt := 32) hx hb dX14_figures_12 (by decide) (fun c10 => ?_) (fun c10 => ?_)
  · replace h := ifp h c10
    exact J32  _ _ _ hR hS (lv_sub hl [0] rfl) h
  · replace h := ifn h c10
    refine lv_aload_n hx hb dX14_figures_15 rfl (lv_at hl 0 rfl) ?_
    refine r_geti hx hb hts cfX14 hown hK hR (sk_128 hSk) 9 (by decide) rfl (hts _ q1530) (fun _ h => h) dX14_figures_16 ?_
    refine lv_aload_n hx hb dX14_figures_19 rfl (lv_at hl 0 rfl) ?_
    refine r_geti hx hb hts cfX14 hown hK hR (sk_128 hSk) 8 (by decide) rfl (hts _ q1529) (fun _ h => h) dX14_figures_20 ?_
    refine lv_isub hx hb dX14_figures_23 ?_
    refine lv_iconst (v := 3) hx hb dX14_figures_24 ki_3 ?_
    refine lv_icmp_gt (tgt := 32) hx hb dX14_figures_25 (by decide) (fun c11 => ?_) (fun c11 => ?_)
    · replace h := ifp h c11
      exact J32  _ _ _ hR hS (lv_sub hl [0] rfl) h
    · replace h := ifn h c11
      refine lv_iconst (v := 0) hx hb dX14_figures_28 ki_0 ?_
      refine lv_goto (tgt := 33) hx hb dX14_figures_29 (by decide) ?_
      exact J33 0 _ _ _ hR hS (lv_sub hl [0] rfl) h
def rm_X14_number : Room := { frames := 5, cells := 0, slots := 0, locals := 103 }
theorem hd_X14_number : yX14_number.cls = "IntentVatsModel" ∧ yX14_number.cls ≠ "java/lang/invoke/MethodHandle" ∧ yX14_number.cls ≠ "java/lang/invoke/VarHandle" ∧ (parseMethodDescriptor yX14_number.desc).map (fun d => d.parameters.length) = some 2 := by decide +kernel
theorem he_X14_number : yX14_number.cls ≠ "java/lang/invoke/MethodHandle" ∧ yX14_number.cls ≠ "java/lang/invoke/VarHandle" ∧ (parseMethodDescriptor yX14_number.desc).map (fun d => d.parameters.length) = some 2 := hd_X14_number.2

set_option maxHeartbeats 4000000 in
set_option maxRecDepth 100000 in
theorem w_X14_number {l : Launch} {G : Gx} {sh : SM} {g : GM} {gl : LM} {gr : RM} {n : Nat} (hSk : Sk sh gr) (a1 : Int32) (a2 : Int32)  {r : Int32} {go : GM} (h : f_X14_number g a1 a2 = some (r, go)) : MetI l G yX14_number (ws_ yX14_number cX14_number 4 (Option.some Jvm.ClassFile.FieldType.int)) rm_X14_number [.ref (adr G 128), .int a1, .int a2] sh g gl gr n (some (.int r)) sh go gl gr n := by
  refine MetI.of (by decide) (Nat.le_of_ble_eq_true rfl) ?_
  intro p e s m below meth c ls hx hb hr hml hown hts hlk hnm hW hK hR hS hl
  have hown : s.vm.findClass RX14 = some m.cls := hown
  have hF : CallFix p m c cX14_number 4 s ([.ref (adr G 128), .int a1, .int a2] : List Value).toArray lw_all RX14 := ⟨hx, hb, hml, hown, hts⟩
  have hl : lv_has ls 4 [(0, .ref (adr G 128)), (1, .int a1), (2, .int a2)] := hl
  unfold f_X14_number at h
  refine lv_aload_n hx hb dX14_number_0 rfl (lv_at hl 0 rfl) ?_
  obtain ⟨r2, e1, h⟩ := obd h
  refine rc_V0 (rest := []) (st1 := [.int r2]) hF (w_X14_figures hSk e1) (cwV 0 hts (lw_V q1947 q1949 qs82 q117 q1950) rfl rfl rfl hd_X14_figures ⟨Nat.le_of_ble_eq_true rfl, Nat.le_of_ble_eq_true rfl⟩) cfX14 (sk_128 hSk) hK hW hR hS rfl hl.1 rfl (Nat.le_of_ble_eq_true rfl) rfl dX14_number_1 ⟨rfl, rfl⟩ ⟨Nat.zero_le _, Nat.zero_le _⟩ (fun H locs hR hS => ?_)
  refine lv_istore_n (lv' := [(3, .int r2), (0, .ref (adr G 128)), (1, .int a1), (2, .int a2)]) hx hb dX14_number_4 rfl hl (by decide) rfl (fun ls hl => ?_)
  refine lv_aload_n hx hb dX14_number_5 rfl (lv_at hl 1 rfl) ?_
  refine lv_iload_n hx hb dX14_number_6 rfl (lv_at hl 0 rfl) ?_
  refine lv_i2l hx hb dX14_number_7 rfl ?_
  refine lv_iload_n hx hb dX14_number_8 rfl (lv_at hl 2 rfl) ?_
  refine lv_i2l hx hb dX14_number_9 rfl ?_
  refine lv_iload_n hx hb dX14_number_10 rfl (lv_at hl 3 rfl) ?_
  refine lv_i2l hx hb dX14_number_11 rfl ?_
  obtain ⟨r4, e3, h⟩ := obd h
  refine rc_S0 (rest := [.ref (adr G 128)]) (st1 := [.int r4, .ref (adr G 128)]) hF (w_X14_in hSk r2.toInt64 a1.toInt64 a2.toInt64 e3) (va_cwS 3 hts (lw_S q1602 q1603 q117 q1604) rfl rfl rfl he_X14_in ⟨Nat.le_of_ble_eq_true rfl, Nat.le_of_ble_eq_true rfl⟩) hW hR hS rfl hl.1 rfl (Nat.le_of_ble_eq_true rfl) rfl dX14_number_12 ⟨rfl, rfl⟩ ⟨Nat.zero_le _, Nat.zero_le _⟩ (fun H locs hR hS => ?_)
  obtain ⟨g6, e5, h⟩ := obd h
  refine rc_V0 (rest := []) (st1 := []) hF (w_X14_must hSk r4 e5) (cwV 1 hts (lw_V q1934 q1936 qs79 q117 q1937) rfl rfl rfl hd_X14_must ⟨Nat.le_of_ble_eq_true rfl, Nat.le_of_ble_eq_true rfl⟩) cfX14 (sk_128 hSk) hK hW hR hS rfl hl.1 rfl (Nat.le_of_ble_eq_true rfl) rfl dX14_number_15 ⟨rfl, rfl⟩ ⟨Nat.zero_le _, Nat.zero_le _⟩ (fun H locs hR hS => ?_)
  refine lv_iload_n hx hb dX14_number_18 rfl (lv_at hl 0 rfl) ?_
  obtain ⟨rfl, rfl⟩ := s2i h
  exact r_iret0 hx hb hr hlk hR hS (Nat.zero_le _) (Nat.zero_le _) dX14_number_19
def rm_X14_clothTold : Room := { frames := 8, cells := 0, slots := 0, locals := 266 }
theorem hd_X14_clothTold : yX14_clothTold.cls = "IntentVatsModel" ∧ yX14_clothTold.cls ≠ "java/lang/invoke/MethodHandle" ∧ yX14_clothTold.cls ≠ "java/lang/invoke/VarHandle" ∧ (parseMethodDescriptor yX14_clothTold.desc).map (fun d => d.parameters.length) = some 1 := by decide +kernel
theorem he_X14_clothTold : yX14_clothTold.cls ≠ "java/lang/invoke/MethodHandle" ∧ yX14_clothTold.cls ≠ "java/lang/invoke/VarHandle" ∧ (parseMethodDescriptor yX14_clothTold.desc).map (fun d => d.parameters.length) = some 1 := hd_X14_clothTold.2

set_option maxHeartbeats 4000000 in
set_option maxRecDepth 100000 in
theorem w_X14_clothTold {l : Launch} {G : Gx} {sh : SM} {g : GM} {gl : LM} {gr : RM} {n : Nat} (hSk : Sk sh gr) (a1 : Int32)  {go : GM} (h : f_X14_clothTold g a1 = some go) : MetI l G yX14_clothTold (ws_ yX14_clothTold cX14_clothTold 5 (Option.none : Option Jvm.ClassFile.FieldType)) rm_X14_clothTold [.ref (adr G 128), .int a1] sh g gl gr n none sh go gl gr n := by
  refine MetI.of (by decide) (Nat.le_of_ble_eq_true rfl) ?_
  intro p e s m below meth c ls hx hb hr hml hown hts hlk hnm hW hK hR hS hl
  have hown : s.vm.findClass RX14 = some m.cls := hown
  have hF : CallFix p m c cX14_clothTold 5 s ([.ref (adr G 128), .int a1] : List Value).toArray lw_all RX14 := ⟨hx, hb, hml, hown, hts⟩
  have hl : lv_has ls 5 [(0, .ref (adr G 128)), (1, .int a1)] := hl
  unfold f_X14_clothTold at h
  refine lv_aload_n hx hb dX14_clothTold_0 rfl (lv_at hl 0 rfl) ?_
  refine lv_aload_n hx hb dX14_clothTold_1 rfl (lv_at hl 0 rfl) ?_
  refine r_getr hx hb hts cfX14 hown hK hR (sk_128 hSk) 2 (by decide) rfl (sr_128_2 hSk) (hts _ q1523) (fun _ h => h) dX14_clothTold_2 ?_
  refine lv_bipush (v := 6) hx hb dX14_clothTold_5 kb_6 ?_
  obtain ⟨v2, e1, h⟩ := obd h
  refine r_ldi hx hb hK hR (sk_131 hSk) e1 dX14_clothTold_7 ?_
  refine lv_bipush (v := 8) hx hb dX14_clothTold_8 kb_8 ?_
  have J18 : ∀ (x3 : Int32) (H : Heap) (locs : List Loc) (ls : Array Slot), Rep G sh g gl gr n H → va_S (own G) s.heap H locs → lv_has ls 5 [(0, .ref (adr G 128)), (1, .int a1)] → j_X14_clothTold_18 g a1 x3 = some go → W p l e rm_X14_clothTold s m ([.ref (adr G 128), .int a1] : List Value).toArray below meth c H locs 0 0 (MQ below (QR G none sh go gl gr n) ([.ref (adr G 128), .int a1] : List Value).toArray s rm_X14_clothTold.cells rm_X14_clothTold.slots (own G)) (F0 m 18 ls [.int x3, .ref (adr G 128)]) := by
    intro x3 H locs ls hR hS hl h
    unfold j_X14_clothTold_18 at h
    obtain ⟨g5, e4, h⟩ := obd h
    refine rc_V0 (rest := []) (st1 := []) hF (w_X14_must hSk x3 e4) (cwV 1 hts (lw_V q1934 q1936 qs79 q117 q1937) rfl rfl rfl hd_X14_must ⟨Nat.le_of_ble_eq_true rfl, Nat.le_of_ble_eq_true rfl⟩) cfX14 (sk_128 hSk) hK hW hR hS rfl hl.1 rfl (Nat.le_of_ble_eq_true rfl) rfl dX14_clothTold_18 ⟨rfl, rfl⟩ ⟨Nat.zero_le _, Nat.zero_le _⟩ (fun H locs hR hS => ?_)
    refine lv_iconst (v := (-1)) hx hb dX14_clothTold_21 ki_m1 ?_
    refine lv_istore_n (lv' := [(2, .int (-1)), (0, .ref (adr G 128)), (1, .int a1)]) hx hb dX14_clothTold_22 rfl hl (by decide) rfl (fun ls hl => ?_)
    refine lv_iconst (v := 0) hx hb dX14_clothTold_23 ki_0 ?_
    refine lv_istore_n (lv' := [(3, .int 0), (2, .int (-1)), (0, .ref (adr G 128)), (1, .int a1)]) hx hb dX14_clothTold_24 rfl hl (by decide) rfl (fun ls hl => ?_)
    refine lv_aload_n hx hb dX14_clothTold_25 rfl (lv_at hl 2 rfl) ?_
    refine va_ldcSW hx hb hown (str_24 hW) dX14_clothTold_26 ?_
    obtain ⟨r7, g8, e6, h⟩ := obd2 h
    refine rc_V0 (rest := []) (st1 := [.int r7]) hF (w_X14_takes hSk 24 e6) (cwV 1 hts (lw_V q1939 q1941 qs80 q117 q1942) rfl rfl rfl hd_X14_takes ⟨Nat.le_of_ble_eq_true rfl, Nat.le_of_ble_eq_true rfl⟩) cfX14 (sk_128 hSk) hK hW hR hS rfl hl.1 rfl (Nat.le_of_ble_eq_true rfl) rfl dX14_clothTold_29 ⟨rfl, rfl⟩ ⟨Nat.zero_le _, Nat.zero_le _⟩ (fun H locs hR hS => ?_)
    have J66 : ∀ (x9 : Int32) (x10 : Int32) (g11 : GM) (H : Heap) (locs : List Loc) (ls : Array Slot), Rep G sh g11 gl gr n H → va_S (own G) s.heap H locs → lv_has ls 5 [(0, .ref (adr G 128)), (1, .int a1), (2, .int x9), (3, .int x10)] → j_X14_clothTold_66 a1 x9 x10 g11 = some go → W p l e rm_X14_clothTold s m ([.ref (adr G 128), .int a1] : List Value).toArray below meth c H locs 0 0 (MQ below (QR G none sh go gl gr n) ([.ref (adr G 128), .int a1] : List Value).toArray s rm_X14_clothTold.cells rm_X14_clothTold.slots (own G)) (F0 m 66 ls []) := by
      intro x9 x10 g11 H locs ls hR hS hl h
      unfold j_X14_clothTold_66 at h
      refine lv_aload_n hx hb dX14_clothTold_66 rfl (lv_at hl 0 rfl) ?_
      refine va_ldcSW hx hb hown (str_26 hW) dX14_clothTold_67 ?_
      obtain ⟨r13, g14, e12, h⟩ := obd2 h
      refine rc_V0 (rest := []) (st1 := [.int r13]) hF (w_X14_takes hSk 26 e12) (cwV 1 hts (lw_V q1939 q1941 qs80 q117 q1942) rfl rfl rfl hd_X14_takes ⟨Nat.le_of_ble_eq_true rfl, Nat.le_of_ble_eq_true rfl⟩) cfX14 (sk_128 hSk) hK hW hR hS rfl hl.1 rfl (Nat.le_of_ble_eq_true rfl) rfl dX14_clothTold_70 ⟨rfl, rfl⟩ ⟨Nat.zero_le _, Nat.zero_le _⟩ (fun H locs hR hS => ?_)
      have J81 : ∀ (x15 : Int32) (H : Heap) (locs : List Loc) (ls : Array Slot), Rep G sh g14 gl gr n H → va_S (own G) s.heap H locs → lv_has ls 5 [(0, .ref (adr G 128)), (1, .int a1), (2, .int x9), (3, .int x10)] → j_X14_clothTold_81 a1 x9 x10 g14 x15 = some go → W p l e rm_X14_clothTold s m ([.ref (adr G 128), .int a1] : List Value).toArray below meth c H locs 0 0 (MQ below (QR G none sh go gl gr n) ([.ref (adr G 128), .int a1] : List Value).toArray s rm_X14_clothTold.cells rm_X14_clothTold.slots (own G)) (F0 m 81 ls [.int x15]) := by
        intro x15 H locs ls hR hS hl h
        unfold j_X14_clothTold_81 at h
        refine lv_istore (lv' := [(4, .int x15), (0, .ref (adr G 128)), (1, .int a1), (2, .int x9), (3, .int x10)]) hx hb dX14_clothTold_81 hl (by decide) rfl (fun ls hl => ?_)
        refine lv_aload_n hx hb dX14_clothTold_83 rfl (lv_at hl 1 rfl) ?_
        refine r_geti hx hb hts cfX14 hown hK hR (sk_128 hSk) 10 (by decide) rfl (hts _ q1531) (fun _ h => h) dX14_clothTold_84 ?_
        have J141 : ∀ (g16 : GM) (H : Heap) (locs : List Loc) (ls : Array Slot), Rep G sh g16 gl gr n H → va_S (own G) s.heap H locs → lv_has ls 5 [] → j_X14_clothTold_141  g16 = some go → W p l e rm_X14_clothTold s m ([.ref (adr G 128), .int a1] : List Value).toArray below meth c H locs 0 0 (MQ below (QR G none sh go gl gr n) ([.ref (adr G 128), .int a1] : List Value).toArray s rm_X14_clothTold.cells rm_X14_clothTold.slots (own G)) (F0 m 141 ls []) := by
          intro g16 H locs ls hR hS hl h
          unfold j_X14_clothTold_141 at h
          obtain rfl := s1i h
          exact r_vret0 hx hb hr hlk hR hS (Nat.zero_le _) (Nat.zero_le _) dX14_clothTold_141
        refine lv_if_ne (tgt := 141) hx hb dX14_clothTold_87 (by decide) (fun c17 => ?_) (fun c17 => ?_)
        · replace h := ifn h c17
          exact J141 g14 _ _ _ hR hS (lv_sub hl [] rfl) h
        · replace h := ifp h c17
          refine lv_aload_n hx hb dX14_clothTold_90 rfl (lv_at hl 1 rfl) ?_
          refine lv_iload_n hx hb dX14_clothTold_91 rfl (lv_at hl 2 rfl) ?_
          obtain ⟨g19, e18, h⟩ := obd h
          refine rc_V0 (rest := []) (st1 := []) hF (w_X14_adds hSk a1 e18) (cwV 1 hts (lw_V q1645 q1647 qs45 q117 q1648) rfl rfl rfl hd_X14_adds ⟨Nat.le_of_ble_eq_true rfl, Nat.le_of_ble_eq_true rfl⟩) cfX14 (sk_128 hSk) hK hW hR hS rfl hl.1 rfl (Nat.le_of_ble_eq_true rfl) rfl dX14_clothTold_92 ⟨rfl, rfl⟩ ⟨Nat.zero_le _, Nat.zero_le _⟩ (fun H locs hR hS => ?_)
          refine lv_aload_n hx hb dX14_clothTold_95 rfl (lv_at hl 1 rfl) ?_
          refine lv_aload_n hx hb dX14_clothTold_96 rfl (lv_at hl 1 rfl) ?_
          refine r_getr hx hb hts cfX14 hown hK hR (sk_128 hSk) 2 (by decide) rfl (sr_128_2 hSk) (hts _ q1523) (fun _ h => h) dX14_clothTold_97 ?_
          refine lv_bipush (v := 6) hx hb dX14_clothTold_100 kb_6 ?_
          obtain ⟨v21, e20, h⟩ := obd h
          refine r_ldi hx hb hK hR (sk_131 hSk) e20 dX14_clothTold_102 ?_
          refine lv_iconst (v := 1) hx hb dX14_clothTold_103 ki_1 ?_
          refine lv_isub hx hb dX14_clothTold_104 ?_
          refine lv_iconst (v := 1) hx hb dX14_clothTold_105 ki_1 ?_
          refine lv_iload_n hx hb dX14_clothTold_106 rfl (lv_at hl 3 rfl) ?_
          obtain ⟨g23, e22, h⟩ := obd h
          refine rc_V0 (rest := []) (st1 := []) hF (w_X14_sets hSk (v21 - 1) 1 x9 e22) (cwV 3 hts (lw_V q1649 q1651 qs46 q117 q1652) rfl rfl rfl hd_X14_sets ⟨Nat.le_of_ble_eq_true rfl, Nat.le_of_ble_eq_true rfl⟩) cfX14 (sk_128 hSk) hK hW hR hS rfl hl.1 rfl (Nat.le_of_ble_eq_true rfl) rfl dX14_clothTold_107 ⟨rfl, rfl⟩ ⟨Nat.zero_le _, Nat.zero_le _⟩ (fun H locs hR hS => ?_)
          refine lv_aload_n hx hb dX14_clothTold_110 rfl (lv_at hl 1 rfl) ?_
          refine lv_aload_n hx hb dX14_clothTold_111 rfl (lv_at hl 1 rfl) ?_
          refine r_getr hx hb hts cfX14 hown hK hR (sk_128 hSk) 2 (by decide) rfl (sr_128_2 hSk) (hts _ q1523) (fun _ h => h) dX14_clothTold_112 ?_
          refine lv_bipush (v := 6) hx hb dX14_clothTold_115 kb_6 ?_
          obtain ⟨v25, e24, h⟩ := obd h
          refine r_ldi hx hb hK hR (sk_131 hSk) e24 dX14_clothTold_117 ?_
          refine lv_iconst (v := 1) hx hb dX14_clothTold_118 ki_1 ?_
          refine lv_isub hx hb dX14_clothTold_119 ?_
          refine lv_iconst (v := 2) hx hb dX14_clothTold_120 ki_2 ?_
          refine lv_iload_n hx hb dX14_clothTold_121 rfl (lv_at hl 4 rfl) ?_
          obtain ⟨g27, e26, h⟩ := obd h
          refine rc_V0 (rest := []) (st1 := []) hF (w_X14_sets hSk (v25 - 1) 2 x10 e26) (cwV 3 hts (lw_V q1649 q1651 qs46 q117 q1652) rfl rfl rfl hd_X14_sets ⟨Nat.le_of_ble_eq_true rfl, Nat.le_of_ble_eq_true rfl⟩) cfX14 (sk_128 hSk) hK hW hR hS rfl hl.1 rfl (Nat.le_of_ble_eq_true rfl) rfl dX14_clothTold_122 ⟨rfl, rfl⟩ ⟨Nat.zero_le _, Nat.zero_le _⟩ (fun H locs hR hS => ?_)
          refine lv_aload_n hx hb dX14_clothTold_125 rfl (lv_at hl 1 rfl) ?_
          refine lv_aload_n hx hb dX14_clothTold_126 rfl (lv_at hl 1 rfl) ?_
          refine r_getr hx hb hts cfX14 hown hK hR (sk_128 hSk) 2 (by decide) rfl (sr_128_2 hSk) (hts _ q1523) (fun _ h => h) dX14_clothTold_127 ?_
          refine lv_bipush (v := 6) hx hb dX14_clothTold_130 kb_6 ?_
          obtain ⟨v29, e28, h⟩ := obd h
          refine r_ldi hx hb hK hR (sk_131 hSk) e28 dX14_clothTold_132 ?_
          refine lv_iconst (v := 1) hx hb dX14_clothTold_133 ki_1 ?_
          refine lv_isub hx hb dX14_clothTold_134 ?_
          refine lv_iconst (v := 3) hx hb dX14_clothTold_135 ki_3 ?_
          refine lv_iload hx hb dX14_clothTold_136 (lv_at hl 0 rfl) ?_
          obtain ⟨g31, e30, h⟩ := obd h
          refine rc_V0 (rest := []) (st1 := []) hF (w_X14_sets hSk (v29 - 1) 3 x15 e30) (cwV 3 hts (lw_V q1649 q1651 qs46 q117 q1652) rfl rfl rfl hd_X14_sets ⟨Nat.le_of_ble_eq_true rfl, Nat.le_of_ble_eq_true rfl⟩) cfX14 (sk_128 hSk) hK hW hR hS rfl hl.1 rfl (Nat.le_of_ble_eq_true rfl) rfl dX14_clothTold_138 ⟨rfl, rfl⟩ ⟨Nat.zero_le _, Nat.zero_le _⟩ (fun H locs hR hS => ?_)
          exact J141 g31 _ _ _ hR hS (lv_sub hl [] rfl) h
      refine lv_if_eq (tgt := 80) hx hb dX14_clothTold_73 (by decide) (fun c32 => ?_) (fun c32 => ?_)
      · replace h := ifp h c32
        refine lv_iconst (v := 0) hx hb dX14_clothTold_80 ki_0 ?_
        exact J81 0 _ _ _ hR hS (lv_sub hl [0, 1, 2, 3] rfl) h
      · replace h := ifn h c32
        refine lv_iconst (v := 1) hx hb dX14_clothTold_76 ki_1 ?_
        refine lv_goto (tgt := 81) hx hb dX14_clothTold_77 (by decide) ?_
        exact J81 1 _ _ _ hR hS (lv_sub hl [0, 1, 2, 3] rfl) h
    refine lv_if_eq (tgt := 66) hx hb dX14_clothTold_32 (by decide) (fun c33 => ?_) (fun c33 => ?_)
    · replace h := ifp h c33
      exact J66 (-1) 0 g8 _ _ _ hR hS (lv_sub hl [2, 3, 1, 0] rfl) h
    · replace h := ifn h c33
      refine lv_aload_n hx hb dX14_clothTold_35 rfl (lv_at hl 2 rfl) ?_
      refine lv_iconst (v := 0) hx hb dX14_clothTold_36 ki_0 ?_
      refine lv_bipush (v := 9) hx hb dX14_clothTold_37 kb_9 ?_
      obtain ⟨r35, g36, e34, h⟩ := obd2 h
      refine rc_V0 (rest := []) (st1 := [.int r35]) hF (w_X14_number hSk 0 9 e34) (cwV 2 hts (lw_V q1943 q1945 qs81 q117 q1946) rfl rfl rfl hd_X14_number ⟨Nat.le_of_ble_eq_true rfl, Nat.le_of_ble_eq_true rfl⟩) cfX14 (sk_128 hSk) hK hW hR hS rfl hl.1 rfl (Nat.le_of_ble_eq_true rfl) rfl dX14_clothTold_39 ⟨rfl, rfl⟩ ⟨Nat.zero_le _, Nat.zero_le _⟩ (fun H locs hR hS => ?_)
      refine lv_istore_n (lv' := [(2, .int r35), (3, .int 0), (0, .ref (adr G 128)), (1, .int a1)]) hx hb dX14_clothTold_42 rfl hl (by decide) rfl (fun ls hl => ?_)
      refine lv_aload_n hx hb dX14_clothTold_43 rfl (lv_at hl 2 rfl) ?_
      refine va_ldcSW hx hb hown (str_25 hW) dX14_clothTold_44 ?_
      obtain ⟨r38, g39, e37, h⟩ := obd2 h
      refine rc_V0 (rest := []) (st1 := [.int r38]) hF (w_X14_takes hSk 25 e37) (cwV 1 hts (lw_V q1939 q1941 qs80 q117 q1942) rfl rfl rfl hd_X14_takes ⟨Nat.le_of_ble_eq_true rfl, Nat.le_of_ble_eq_true rfl⟩) cfX14 (sk_128 hSk) hK hW hR hS rfl hl.1 rfl (Nat.le_of_ble_eq_true rfl) rfl dX14_clothTold_47 ⟨rfl, rfl⟩ ⟨Nat.zero_le _, Nat.zero_le _⟩ (fun H locs hR hS => ?_)
      have J65 : ∀ (x40 : Int32) (g41 : GM) (H : Heap) (locs : List Loc) (ls : Array Slot), Rep G sh g41 gl gr n H → va_S (own G) s.heap H locs → lv_has ls 5 [(0, .ref (adr G 128)), (1, .int a1), (2, .int r35)] → j_X14_clothTold_65 a1 r35 x40 g41 = some go → W p l e rm_X14_clothTold s m ([.ref (adr G 128), .int a1] : List Value).toArray below meth c H locs 0 0 (MQ below (QR G none sh go gl gr n) ([.ref (adr G 128), .int a1] : List Value).toArray s rm_X14_clothTold.cells rm_X14_clothTold.slots (own G)) (F0 m 65 ls [.int x40]) := by
        intro x40 g41 H locs ls hR hS hl h
        unfold j_X14_clothTold_65 at h
        refine lv_istore_n (lv' := [(3, .int x40), (0, .ref (adr G 128)), (1, .int a1), (2, .int r35)]) hx hb dX14_clothTold_65 rfl hl (by decide) rfl (fun ls hl => ?_)
        exact J66 r35 x40 g41 _ _ _ hR hS (lv_sub hl [1, 2, 3, 0] rfl) h
      refine lv_if_eq (tgt := 63) hx hb dX14_clothTold_50 (by decide) (fun c42 => ?_) (fun c42 => ?_)
      · replace h := ifp h c42
        refine lv_bipush (v := 20) hx hb dX14_clothTold_63 kb_20 ?_
        exact J65 20 g39 _ _ _ hR hS (lv_sub hl [2, 3, 0] rfl) h
      · replace h := ifn h c42
        refine lv_aload_n hx hb dX14_clothTold_53 rfl (lv_at hl 2 rfl) ?_
        refine lv_iconst (v := 1) hx hb dX14_clothTold_54 ki_1 ?_
        refine lv_bipush (v := 99) hx hb dX14_clothTold_55 kb_99 ?_
        obtain ⟨r44, g45, e43, h⟩ := obd2 h
        refine rc_V0 (rest := []) (st1 := [.int r44]) hF (w_X14_number hSk 1 99 e43) (cwV 2 hts (lw_V q1943 q1945 qs81 q117 q1946) rfl rfl rfl hd_X14_number ⟨Nat.le_of_ble_eq_true rfl, Nat.le_of_ble_eq_true rfl⟩) cfX14 (sk_128 hSk) hK hW hR hS rfl hl.1 rfl (Nat.le_of_ble_eq_true rfl) rfl dX14_clothTold_57 ⟨rfl, rfl⟩ ⟨Nat.zero_le _, Nat.zero_le _⟩ (fun H locs hR hS => ?_)
        refine lv_goto (tgt := 65) hx hb dX14_clothTold_60 (by decide) ?_
        exact J65 r44 g45 _ _ _ hR hS (lv_sub hl [2, 3, 0] rfl) h
  refine lv_icmp_ge (tgt := 17) hx hb dX14_clothTold_10 (by decide) (fun c46 => ?_) (fun c46 => ?_)
  · replace h := ifp h c46
    refine lv_iconst (v := 0) hx hb dX14_clothTold_17 ki_0 ?_
    exact J18 0 _ _ _ hR hS (lv_sub hl [0, 1] rfl) h
  · replace h := ifn h c46
    refine lv_iconst (v := 1) hx hb dX14_clothTold_13 ki_1 ?_
    refine lv_goto (tgt := 18) hx hb dX14_clothTold_14 (by decide) ?_
    exact J18 1 _ _ _ hR hS (lv_sub hl [0, 1] rfl) h
def rm_X14_twoTold : Room := { frames := 7, cells := 0, slots := 0, locals := 244 }
theorem hd_X14_twoTold : yX14_twoTold.cls = "IntentVatsModel" ∧ yX14_twoTold.cls ≠ "java/lang/invoke/MethodHandle" ∧ yX14_twoTold.cls ≠ "java/lang/invoke/VarHandle" ∧ (parseMethodDescriptor yX14_twoTold.desc).map (fun d => d.parameters.length) = some 4 := by decide +kernel
theorem he_X14_twoTold : yX14_twoTold.cls ≠ "java/lang/invoke/MethodHandle" ∧ yX14_twoTold.cls ≠ "java/lang/invoke/VarHandle" ∧ (parseMethodDescriptor yX14_twoTold.desc).map (fun d => d.parameters.length) = some 4 := hd_X14_twoTold.2

set_option maxHeartbeats 4000000 in
set_option maxRecDepth 100000 in
theorem w_X14_twoTold {l : Launch} {G : Gx} {sh : SM} {g : GM} {gl : LM} {gr : RM} {n : Nat} (hSk : Sk sh gr) (a1 : Int32) (a2 : Int32) (a3 : Nat) (a4 : Int32)  {go : GM} (h : f_X14_twoTold g a1 a2 a3 a4 = some go) : MetI l G yX14_twoTold (ws_ yX14_twoTold cX14_twoTold 7 (Option.none : Option Jvm.ClassFile.FieldType)) rm_X14_twoTold [.ref (adr G 128), .int a1, .int a2, .ref (adr G a3), .int a4] sh g gl gr n none sh go gl gr n := by
  refine MetI.of (by decide) (Nat.le_of_ble_eq_true rfl) ?_
  intro p e s m below meth c ls hx hb hr hml hown hts hlk hnm hW hK hR hS hl
  have hown : s.vm.findClass RX14 = some m.cls := hown
  have hF : CallFix p m c cX14_twoTold 7 s ([.ref (adr G 128), .int a1, .int a2, .ref (adr G a3), .int a4] : List Value).toArray lw_all RX14 := ⟨hx, hb, hml, hown, hts⟩
  have hl : lv_has ls 7 [(0, .ref (adr G 128)), (1, .int a1), (2, .int a2), (3, .ref (adr G a3)), (4, .int a4)] := hl
  unfold f_X14_twoTold at h
  refine lv_aload_n hx hb dX14_twoTold_0 rfl (lv_at hl 0 rfl) ?_
  refine lv_iconst (v := 1) hx hb dX14_twoTold_1 ki_1 ?_
  obtain ⟨g2, e1, h⟩ := obd h
  refine rc_V0 (rest := []) (st1 := []) hF (w_X14_must hSk 1 e1) (cwV 1 hts (lw_V q1934 q1936 qs79 q117 q1937) rfl rfl rfl hd_X14_must ⟨Nat.le_of_ble_eq_true rfl, Nat.le_of_ble_eq_true rfl⟩) cfX14 (sk_128 hSk) hK hW hR hS rfl hl.1 rfl (Nat.le_of_ble_eq_true rfl) rfl dX14_twoTold_2 ⟨rfl, rfl⟩ ⟨Nat.zero_le _, Nat.zero_le _⟩ (fun H locs hR hS => ?_)
  refine lv_aload_n hx hb dX14_twoTold_5 rfl (lv_at hl 0 rfl) ?_
  refine lv_iconst (v := 0) hx hb dX14_twoTold_6 ki_0 ?_
  refine lv_iload_n hx hb dX14_twoTold_7 rfl (lv_at hl 2 rfl) ?_
  obtain ⟨r4, g5, e3, h⟩ := obd2 h
  refine rc_V0 (rest := []) (st1 := [.int r4]) hF (w_X14_number hSk 0 a2 e3) (cwV 2 hts (lw_V q1943 q1945 qs81 q117 q1946) rfl rfl rfl hd_X14_number ⟨Nat.le_of_ble_eq_true rfl, Nat.le_of_ble_eq_true rfl⟩) cfX14 (sk_128 hSk) hK hW hR hS rfl hl.1 rfl (Nat.le_of_ble_eq_true rfl) rfl dX14_twoTold_8 ⟨rfl, rfl⟩ ⟨Nat.zero_le _, Nat.zero_le _⟩ (fun H locs hR hS => ?_)
  refine lv_istore (lv' := [(5, .int r4), (0, .ref (adr G 128)), (1, .int a1), (2, .int a2), (3, .ref (adr G a3)), (4, .int a4)]) hx hb dX14_twoTold_11 hl (by decide) rfl (fun ls hl => ?_)
  refine lv_aload_n hx hb dX14_twoTold_13 rfl (lv_at hl 4 rfl) ?_
  obtain ⟨r7, e6, h⟩ := obd h
  refine rc_Vs0 (rest := []) (st1 := [.int r7]) hF (w_J3_length hSk a3 e6) (cwV 0 hts (lw_V q1915 q561 q562 q119 q563) rfl rfl rfl hd_J3_length ⟨Nat.le_of_ble_eq_true rfl, Nat.le_of_ble_eq_true rfl⟩) (hW.strR hR (slt_J3_length e6)) hW hR hS rfl hl.1 rfl (Nat.le_of_ble_eq_true rfl) rfl dX14_twoTold_14 ⟨rfl, rfl⟩ ⟨Nat.zero_le _, Nat.zero_le _⟩ (fun H locs hR hS => ?_)
  have J29 : ∀ (g8 : GM) (H : Heap) (locs : List Loc) (ls : Array Slot), Rep G sh g8 gl gr n H → va_S (own G) s.heap H locs → lv_has ls 7 [(0, .ref (adr G 128)), (1, .int a1), (4, .int a4), (5, .int r4)] → j_X14_twoTold_29 a1 a4 r4 g8 = some go → W p l e rm_X14_twoTold s m ([.ref (adr G 128), .int a1, .int a2, .ref (adr G a3), .int a4] : List Value).toArray below meth c H locs 0 0 (MQ below (QR G none sh go gl gr n) ([.ref (adr G 128), .int a1, .int a2, .ref (adr G a3), .int a4] : List Value).toArray s rm_X14_twoTold.cells rm_X14_twoTold.slots (own G)) (F0 m 29 ls []) := by
    intro g8 H locs ls hR hS hl h
    unfold j_X14_twoTold_29 at h
    refine lv_aload_n hx hb dX14_twoTold_29 rfl (lv_at hl 0 rfl) ?_
    refine lv_iconst (v := 0) hx hb dX14_twoTold_30 ki_0 ?_
    refine lv_iload hx hb dX14_twoTold_31 (lv_at hl 2 rfl) ?_
    obtain ⟨r10, g11, e9, h⟩ := obd2 h
    refine rc_V0 (rest := []) (st1 := [.int r10]) hF (w_X14_number hSk 0 a4 e9) (cwV 2 hts (lw_V q1943 q1945 qs81 q117 q1946) rfl rfl rfl hd_X14_number ⟨Nat.le_of_ble_eq_true rfl, Nat.le_of_ble_eq_true rfl⟩) cfX14 (sk_128 hSk) hK hW hR hS rfl hl.1 rfl (Nat.le_of_ble_eq_true rfl) rfl dX14_twoTold_33 ⟨rfl, rfl⟩ ⟨Nat.zero_le _, Nat.zero_le _⟩ (fun H locs hR hS => ?_)
    refine lv_istore (lv' := [(6, .int r10), (0, .ref (adr G 128)), (1, .int a1), (4, .int a4), (5, .int r4)]) hx hb dX14_twoTold_36 hl (by decide) rfl (fun ls hl => ?_)
    refine lv_aload_n hx hb dX14_twoTold_38 rfl (lv_at hl 1 rfl) ?_
    refine r_geti hx hb hts cfX14 hown hK hR (sk_128 hSk) 10 (by decide) rfl (hts _ q1531) (fun _ h => h) dX14_twoTold_39 ?_
    have J56 : ∀ (g12 : GM) (H : Heap) (locs : List Loc) (ls : Array Slot), Rep G sh g12 gl gr n H → va_S (own G) s.heap H locs → lv_has ls 7 [] → j_X14_twoTold_56  g12 = some go → W p l e rm_X14_twoTold s m ([.ref (adr G 128), .int a1, .int a2, .ref (adr G a3), .int a4] : List Value).toArray below meth c H locs 0 0 (MQ below (QR G none sh go gl gr n) ([.ref (adr G 128), .int a1, .int a2, .ref (adr G a3), .int a4] : List Value).toArray s rm_X14_twoTold.cells rm_X14_twoTold.slots (own G)) (F0 m 56 ls []) := by
      intro g12 H locs ls hR hS hl h
      unfold j_X14_twoTold_56 at h
      obtain rfl := s1i h
      exact r_vret0 hx hb hr hlk hR hS (Nat.zero_le _) (Nat.zero_le _) dX14_twoTold_56
    refine lv_if_ne (tgt := 56) hx hb dX14_twoTold_42 (by decide) (fun c13 => ?_) (fun c13 => ?_)
    · replace h := ifn h c13
      exact J56 g11 _ _ _ hR hS (lv_sub hl [] rfl) h
    · replace h := ifp h c13
      refine lv_aload_n hx hb dX14_twoTold_45 rfl (lv_at hl 1 rfl) ?_
      refine r_getr hx hb hts cfX14 hown hK hR (sk_128 hSk) 2 (by decide) rfl (sr_128_2 hSk) (hts _ q1523) (fun _ h => h) dX14_twoTold_46 ?_
      refine lv_iload_n hx hb dX14_twoTold_49 rfl (lv_at hl 2 rfl) ?_
      refine lv_iload hx hb dX14_twoTold_50 (lv_at hl 4 rfl) ?_
      refine lv_iadd hx hb dX14_twoTold_52 ?_
      refine lv_iload hx hb dX14_twoTold_53 (lv_at hl 0 rfl) ?_
      obtain ⟨g15, e14, h⟩ := obd h
      refine r_sti hx hb hK hR hS (sk_131 hSk) e14 dX14_twoTold_55 (fun H locs hR hS => ?_)
      exact J56 g15 _ _ _ hR hS (lv_sub hl [] rfl) h
  refine lv_if_le (tgt := 29) hx hb dX14_twoTold_17 (by decide) (fun c16 => ?_) (fun c16 => ?_)
  · replace h := ifp h c16
    exact J29 g5 _ _ _ hR hS (lv_sub hl [1, 2, 5, 0] rfl) h
  · replace h := ifn h c16
    refine lv_aload_n hx hb dX14_twoTold_20 rfl (lv_at hl 1 rfl) ?_
    refine lv_aload_n hx hb dX14_twoTold_21 rfl (lv_at hl 1 rfl) ?_
    refine lv_aload_n hx hb dX14_twoTold_22 rfl (lv_at hl 4 rfl) ?_
    obtain ⟨r18, e17, h⟩ := obd h
    refine rc_V0 (rest := [.ref (adr G 128)]) (st1 := [.int r18, .ref (adr G 128)]) hF (w_X14_isWord hSk a3 e17) (cwV 1 hts (lw_V q1911 q1913 qs76 q117 q1914) rfl rfl rfl hd_X14_isWord ⟨Nat.le_of_ble_eq_true rfl, Nat.le_of_ble_eq_true rfl⟩) cfX14 (sk_128 hSk) hK hW hR hS rfl hl.1 rfl (Nat.le_of_ble_eq_true rfl) rfl dX14_twoTold_23 ⟨rfl, rfl⟩ ⟨Nat.zero_le _, Nat.zero_le _⟩ (fun H locs hR hS => ?_)
    obtain ⟨g20, e19, h⟩ := obd h
    refine rc_V0 (rest := []) (st1 := []) hF (w_X14_must hSk r18 e19) (cwV 1 hts (lw_V q1934 q1936 qs79 q117 q1937) rfl rfl rfl hd_X14_must ⟨Nat.le_of_ble_eq_true rfl, Nat.le_of_ble_eq_true rfl⟩) cfX14 (sk_128 hSk) hK hW hR hS rfl hl.1 rfl (Nat.le_of_ble_eq_true rfl) rfl dX14_twoTold_26 ⟨rfl, rfl⟩ ⟨Nat.zero_le _, Nat.zero_le _⟩ (fun H locs hR hS => ?_)
    exact J29 g20 _ _ _ hR hS (lv_sub hl [1, 2, 5, 0] rfl) h
def rm_X14_lawTold : Room := { frames := 6, cells := 0, slots := 0, locals := 126 }
theorem hd_X14_lawTold : yX14_lawTold.cls = "IntentVatsModel" ∧ yX14_lawTold.cls ≠ "java/lang/invoke/MethodHandle" ∧ yX14_lawTold.cls ≠ "java/lang/invoke/VarHandle" ∧ (parseMethodDescriptor yX14_lawTold.desc).map (fun d => d.parameters.length) = some 1 := by decide +kernel
theorem he_X14_lawTold : yX14_lawTold.cls ≠ "java/lang/invoke/MethodHandle" ∧ yX14_lawTold.cls ≠ "java/lang/invoke/VarHandle" ∧ (parseMethodDescriptor yX14_lawTold.desc).map (fun d => d.parameters.length) = some 1 := hd_X14_lawTold.2

set_option maxHeartbeats 4000000 in
set_option maxRecDepth 100000 in
theorem w_X14_lawTold {l : Launch} {G : Gx} {sh : SM} {g : GM} {gl : LM} {gr : RM} {n : Nat} (hSk : Sk sh gr) (a1 : Int32)  {go : GM} (h : f_X14_lawTold g a1 = some go) : MetI l G yX14_lawTold (ws_ yX14_lawTold cX14_lawTold 3 (Option.none : Option Jvm.ClassFile.FieldType)) rm_X14_lawTold [.ref (adr G 128), .int a1] sh g gl gr n none sh go gl gr n := by
  refine MetI.of (by decide) (Nat.le_of_ble_eq_true rfl) ?_
  intro p e s m below meth c ls hx hb hr hml hown hts hlk hnm hW hK hR hS hl
  have hown : s.vm.findClass RX14 = some m.cls := hown
  have hF : CallFix p m c cX14_lawTold 3 s ([.ref (adr G 128), .int a1] : List Value).toArray lw_all RX14 := ⟨hx, hb, hml, hown, hts⟩
  have hl : lv_has ls 3 [(0, .ref (adr G 128)), (1, .int a1)] := hl
  unfold f_X14_lawTold at h
  refine lv_aload_n hx hb dX14_lawTold_0 rfl (lv_at hl 0 rfl) ?_
  refine lv_iconst (v := 0) hx hb dX14_lawTold_1 ki_0 ?_
  refine lv_aload_n hx hb dX14_lawTold_2 rfl (lv_at hl 0 rfl) ?_
  refine r_getr hx hb hts cfX14 hown hK hR (sk_128 hSk) 0 (by decide) rfl (sr_128_0 hSk) (hts _ q1521) (fun _ h => h) dX14_lawTold_3 ?_
  refine lv_iload_n hx hb dX14_lawTold_6 rfl (lv_at hl 1 rfl) ?_
  obtain ⟨v2, e1, h⟩ := obd h
  refine r_ldi hx hb hK hR (sk_129 hSk) e1 dX14_lawTold_7 ?_
  obtain ⟨r4, g5, e3, h⟩ := obd2 h
  refine rc_V0 (rest := []) (st1 := [.int r4]) hF (w_X14_number hSk 0 v2 e3) (cwV 2 hts (lw_V q1943 q1945 qs81 q117 q1946) rfl rfl rfl hd_X14_number ⟨Nat.le_of_ble_eq_true rfl, Nat.le_of_ble_eq_true rfl⟩) cfX14 (sk_128 hSk) hK hW hR hS rfl hl.1 rfl (Nat.le_of_ble_eq_true rfl) rfl dX14_lawTold_8 ⟨rfl, rfl⟩ ⟨Nat.zero_le _, Nat.zero_le _⟩ (fun H locs hR hS => ?_)
  refine lv_istore_n (lv' := [(2, .int r4), (0, .ref (adr G 128)), (1, .int a1)]) hx hb dX14_lawTold_11 rfl hl (by decide) rfl (fun ls hl => ?_)
  refine lv_aload_n hx hb dX14_lawTold_12 rfl (lv_at hl 1 rfl) ?_
  refine r_geti hx hb hts cfX14 hown hK hR (sk_128 hSk) 10 (by decide) rfl (hts _ q1531) (fun _ h => h) dX14_lawTold_13 ?_
  have J26 : ∀ (g6 : GM) (H : Heap) (locs : List Loc) (ls : Array Slot), Rep G sh g6 gl gr n H → va_S (own G) s.heap H locs → lv_has ls 3 [] → j_X14_lawTold_26  g6 = some go → W p l e rm_X14_lawTold s m ([.ref (adr G 128), .int a1] : List Value).toArray below meth c H locs 0 0 (MQ below (QR G none sh go gl gr n) ([.ref (adr G 128), .int a1] : List Value).toArray s rm_X14_lawTold.cells rm_X14_lawTold.slots (own G)) (F0 m 26 ls []) := by
    intro g6 H locs ls hR hS hl h
    unfold j_X14_lawTold_26 at h
    obtain rfl := s1i h
    exact r_vret0 hx hb hr hlk hR hS (Nat.zero_le _) (Nat.zero_le _) dX14_lawTold_26
  refine lv_if_ne (tgt := 26) hx hb dX14_lawTold_16 (by decide) (fun c7 => ?_) (fun c7 => ?_)
  · replace h := ifn h c7
    exact J26 g5 _ _ _ hR hS (lv_sub hl [] rfl) h
  · replace h := ifp h c7
    refine lv_aload_n hx hb dX14_lawTold_19 rfl (lv_at hl 1 rfl) ?_
    refine r_getr hx hb hts cfX14 hown hK hR (sk_128 hSk) 2 (by decide) rfl (sr_128_2 hSk) (hts _ q1523) (fun _ h => h) dX14_lawTold_20 ?_
    refine lv_iload_n hx hb dX14_lawTold_23 rfl (lv_at hl 2 rfl) ?_
    refine lv_iload_n hx hb dX14_lawTold_24 rfl (lv_at hl 0 rfl) ?_
    obtain ⟨g9, e8, h⟩ := obd h
    refine r_sti hx hb hK hR hS (sk_131 hSk) e8 dX14_lawTold_25 (fun H locs hR hS => ?_)
    exact J26 g9 _ _ _ hR hS (lv_sub hl [] rfl) h
def rm_X14_item : Room := { frames := 9, cells := 0, slots := 0, locals := 290 }
theorem hd_X14_item : yX14_item.cls = "IntentVatsModel" ∧ yX14_item.cls ≠ "java/lang/invoke/MethodHandle" ∧ yX14_item.cls ≠ "java/lang/invoke/VarHandle" ∧ (parseMethodDescriptor yX14_item.desc).map (fun d => d.parameters.length) = some 0 := by decide +kernel
theorem he_X14_item : yX14_item.cls ≠ "java/lang/invoke/MethodHandle" ∧ yX14_item.cls ≠ "java/lang/invoke/VarHandle" ∧ (parseMethodDescriptor yX14_item.desc).map (fun d => d.parameters.length) = some 0 := hd_X14_item.2

set_option maxHeartbeats 4000000 in
set_option maxRecDepth 100000 in
theorem w_X14_item {l : Launch} {G : Gx} {sh : SM} {g : GM} {gl : LM} {gr : RM} {n : Nat} (hSk : Sk sh gr)   {go : GM} (h : f_X14_item g  = some go) : MetI l G yX14_item (ws_ yX14_item cX14_item 3 (Option.none : Option Jvm.ClassFile.FieldType)) rm_X14_item [.ref (adr G 128)] sh g gl gr n none sh go gl gr n := by
  refine MetI.of (by decide) (Nat.le_of_ble_eq_true rfl) ?_
  intro p e s m below meth c ls hx hb hr hml hown hts hlk hnm hW hK hR hS hl
  have hown : s.vm.findClass RX14 = some m.cls := hown
  have hF : CallFix p m c cX14_item 3 s ([.ref (adr G 128)] : List Value).toArray lw_all RX14 := ⟨hx, hb, hml, hown, hts⟩
  have hl : lv_has ls 3 [(0, .ref (adr G 128))] := hl
  unfold f_X14_item at h
  refine lv_aload_n hx hb dX14_item_0 rfl (lv_at hl 0 rfl) ?_
  obtain ⟨r2, e1, h⟩ := obd h
  refine rc_V0 (rest := []) (st1 := [.int r2]) hF (w_X14_kindHere hSk e1) (cwV 0 hts (lw_V q1906 q1908 qs75 q117 q1909) rfl rfl rfl hd_X14_kindHere ⟨Nat.le_of_ble_eq_true rfl, Nat.le_of_ble_eq_true rfl⟩) cfX14 (sk_128 hSk) hK hW hR hS rfl hl.1 rfl (Nat.le_of_ble_eq_true rfl) rfl dX14_item_1 ⟨rfl, rfl⟩ ⟨Nat.zero_le _, Nat.zero_le _⟩ (fun H locs hR hS => ?_)
  refine lv_istore_n (lv' := [(1, .int r2), (0, .ref (adr G 128))]) hx hb dX14_item_4 rfl hl (by decide) rfl (fun ls hl => ?_)
  refine lv_aload_n hx hb dX14_item_5 rfl (lv_at hl 1 rfl) ?_
  obtain ⟨r4, e3, h⟩ := obd h
  refine rc_V0 (rest := []) (st1 := [.int r4]) hF (w_X14_lawHere hSk e3) (cwV 0 hts (lw_V q1922 q1924 qs77 q117 q1925) rfl rfl rfl hd_X14_lawHere ⟨Nat.le_of_ble_eq_true rfl, Nat.le_of_ble_eq_true rfl⟩) cfX14 (sk_128 hSk) hK hW hR hS rfl hl.1 rfl (Nat.le_of_ble_eq_true rfl) rfl dX14_item_6 ⟨rfl, rfl⟩ ⟨Nat.zero_le _, Nat.zero_le _⟩ (fun H locs hR hS => ?_)
  refine lv_istore_n (lv' := [(2, .int r4), (1, .int r2), (0, .ref (adr G 128))]) hx hb dX14_item_9 rfl hl (by decide) rfl (fun ls hl => ?_)
  refine lv_iload_n hx hb dX14_item_10 rfl (lv_at hl 1 rfl) ?_
  have J121 : ∀ (g5 : GM) (H : Heap) (locs : List Loc) (ls : Array Slot), Rep G sh g5 gl gr n H → va_S (own G) s.heap H locs → lv_has ls 3 [(0, .ref (adr G 128))] → j_X14_item_121  g5 = some go → W p l e rm_X14_item s m ([.ref (adr G 128)] : List Value).toArray below meth c H locs 0 0 (MQ below (QR G none sh go gl gr n) ([.ref (adr G 128)] : List Value).toArray s rm_X14_item.cells rm_X14_item.slots (own G)) (F0 m 121 ls []) := by
    intro g5 H locs ls hR hS hl h
    unfold j_X14_item_121 at h
    refine lv_aload_n hx hb dX14_item_121 rfl (lv_at hl 0 rfl) ?_
    refine lv_aload_n hx hb dX14_item_122 rfl (lv_at hl 0 rfl) ?_
    refine va_ldcSW hx hb hown (str_36 hW) dX14_item_123 ?_
    obtain ⟨r7, e6, h⟩ := obd h
    refine rc_V0 (rest := [.ref (adr G 128)]) (st1 := [.int r7, .ref (adr G 128)]) hF (w_X14_isWord hSk 36 e6) (cwV 1 hts (lw_V q1911 q1913 qs76 q117 q1914) rfl rfl rfl hd_X14_isWord ⟨Nat.le_of_ble_eq_true rfl, Nat.le_of_ble_eq_true rfl⟩) cfX14 (sk_128 hSk) hK hW hR hS rfl hl.1 rfl (Nat.le_of_ble_eq_true rfl) rfl dX14_item_126 ⟨rfl, rfl⟩ ⟨Nat.zero_le _, Nat.zero_le _⟩ (fun H locs hR hS => ?_)
    obtain ⟨g9, e8, h⟩ := obd h
    refine rc_V0 (rest := []) (st1 := []) hF (w_X14_must hSk r7 e8) (cwV 1 hts (lw_V q1934 q1936 qs79 q117 q1937) rfl rfl rfl hd_X14_must ⟨Nat.le_of_ble_eq_true rfl, Nat.le_of_ble_eq_true rfl⟩) cfX14 (sk_128 hSk) hK hW hR hS rfl hl.1 rfl (Nat.le_of_ble_eq_true rfl) rfl dX14_item_129 ⟨rfl, rfl⟩ ⟨Nat.zero_le _, Nat.zero_le _⟩ (fun H locs hR hS => ?_)
    obtain rfl := s1i h
    exact r_vret0 hx hb hr hlk hR hS (Nat.zero_le _) (Nat.zero_le _) dX14_item_132
  refine lv_if_lt (tgt := 22) hx hb dX14_item_11 (by decide) (fun c10 => ?_) (fun c10 => ?_)
  · replace h := ifp h c10
    refine lv_aload_n hx hb dX14_item_22 rfl (lv_at hl 2 rfl) ?_
    refine va_ldcSW hx hb hown (str_31 hW) dX14_item_23 ?_
    obtain ⟨r12, e11, h⟩ := obd h
    refine rc_V0 (rest := []) (st1 := [.int r12]) hF (w_X14_isWord hSk 31 e11) (cwV 1 hts (lw_V q1911 q1913 qs76 q117 q1914) rfl rfl rfl hd_X14_isWord ⟨Nat.le_of_ble_eq_true rfl, Nat.le_of_ble_eq_true rfl⟩) cfX14 (sk_128 hSk) hK hW hR hS rfl hl.1 rfl (Nat.le_of_ble_eq_true rfl) rfl dX14_item_26 ⟨rfl, rfl⟩ ⟨Nat.zero_le _, Nat.zero_le _⟩ (fun H locs hR hS => ?_)
    refine lv_if_eq (tgt := 48) hx hb dX14_item_29 (by decide) (fun c13 => ?_) (fun c13 => ?_)
    · replace h := ifp h c13
      refine lv_aload_n hx hb dX14_item_48 rfl (lv_at hl 2 rfl) ?_
      refine va_ldcSW hx hb hown (str_33 hW) dX14_item_49 ?_
      obtain ⟨r15, e14, h⟩ := obd h
      refine rc_V0 (rest := []) (st1 := [.int r15]) hF (w_X14_isWord hSk 33 e14) (cwV 1 hts (lw_V q1911 q1913 qs76 q117 q1914) rfl rfl rfl hd_X14_isWord ⟨Nat.le_of_ble_eq_true rfl, Nat.le_of_ble_eq_true rfl⟩) cfX14 (sk_128 hSk) hK hW hR hS rfl hl.1 rfl (Nat.le_of_ble_eq_true rfl) rfl dX14_item_52 ⟨rfl, rfl⟩ ⟨Nat.zero_le _, Nat.zero_le _⟩ (fun H locs hR hS => ?_)
      refine lv_if_eq (tgt := 74) hx hb dX14_item_55 (by decide) (fun c16 => ?_) (fun c16 => ?_)
      · replace h := ifp h c16
        refine lv_aload_n hx hb dX14_item_74 rfl (lv_at hl 2 rfl) ?_
        refine va_ldcSW hx hb hown (str_35 hW) dX14_item_75 ?_
        obtain ⟨r18, e17, h⟩ := obd h
        refine rc_V0 (rest := []) (st1 := [.int r18]) hF (w_X14_isWord hSk 35 e17) (cwV 1 hts (lw_V q1911 q1913 qs76 q117 q1914) rfl rfl rfl hd_X14_isWord ⟨Nat.le_of_ble_eq_true rfl, Nat.le_of_ble_eq_true rfl⟩) cfX14 (sk_128 hSk) hK hW hR hS rfl hl.1 rfl (Nat.le_of_ble_eq_true rfl) rfl dX14_item_78 ⟨rfl, rfl⟩ ⟨Nat.zero_le _, Nat.zero_le _⟩ (fun H locs hR hS => ?_)
        refine lv_if_eq (tgt := 99) hx hb dX14_item_81 (by decide) (fun c19 => ?_) (fun c19 => ?_)
        · replace h := ifp h c19
          refine lv_aload_n hx hb dX14_item_99 rfl (lv_at hl 2 rfl) ?_
          refine lv_iload_n hx hb dX14_item_100 rfl (lv_at hl 0 rfl) ?_
          have J109 : ∀ (x20 : Int32) (H : Heap) (locs : List Loc) (ls : Array Slot), Rep G sh g gl gr n H → va_S (own G) s.heap H locs → lv_has ls 3 [(0, .ref (adr G 128)), (2, .int r4)] → j_X14_item_109 g r4 x20 = some go → W p l e rm_X14_item s m ([.ref (adr G 128)] : List Value).toArray below meth c H locs 0 0 (MQ below (QR G none sh go gl gr n) ([.ref (adr G 128)] : List Value).toArray s rm_X14_item.cells rm_X14_item.slots (own G)) (F0 m 109 ls [.int x20, .ref (adr G 128)]) := by
            intro x20 H locs ls hR hS hl h
            unfold j_X14_item_109 at h
            obtain ⟨g22, e21, h⟩ := obd h
            refine rc_V0 (rest := []) (st1 := []) hF (w_X14_must hSk x20 e21) (cwV 1 hts (lw_V q1934 q1936 qs79 q117 q1937) rfl rfl rfl hd_X14_must ⟨Nat.le_of_ble_eq_true rfl, Nat.le_of_ble_eq_true rfl⟩) cfX14 (sk_128 hSk) hK hW hR hS rfl hl.1 rfl (Nat.le_of_ble_eq_true rfl) rfl dX14_item_109 ⟨rfl, rfl⟩ ⟨Nat.zero_le _, Nat.zero_le _⟩ (fun H locs hR hS => ?_)
            refine lv_aload_n hx hb dX14_item_112 rfl (lv_at hl 0 rfl) ?_
            refine lv_iconst (v := 0) hx hb dX14_item_113 ki_0 ?_
            refine lv_iload_n hx hb dX14_item_114 rfl (lv_at hl 1 rfl) ?_
            refine va_mmax hx hb (hml.trans hl.1.symm) hown (hts _ q1716) (hts _ q837) (hts _ q123) (hts _ q838) (Nat.le_of_ble_eq_true rfl) (Nat.le_of_ble_eq_true rfl) (Nat.zero_le _) (Nat.zero_le _) dX14_item_115 ?_
            obtain ⟨g24, e23, h⟩ := obd h
            refine rc_V0 (rest := []) (st1 := []) hF (w_X14_lawTold hSk (imax 0 r4) e23) (cwV 1 hts (lw_V q1962 q1964 qs84 q117 q1965) rfl rfl rfl hd_X14_lawTold ⟨Nat.le_of_ble_eq_true rfl, Nat.le_of_ble_eq_true rfl⟩) cfX14 (sk_128 hSk) hK hW hR hS rfl hl.1 rfl (Nat.le_of_ble_eq_true rfl) rfl dX14_item_118 ⟨rfl, rfl⟩ ⟨Nat.zero_le _, Nat.zero_le _⟩ (fun H locs hR hS => ?_)
            exact J121 g24 _ _ _ hR hS (lv_sub hl [0] rfl) h
          refine lv_if_lt (tgt := 108) hx hb dX14_item_101 (by decide) (fun c25 => ?_) (fun c25 => ?_)
          · replace h := ifp h c25
            refine lv_iconst (v := 0) hx hb dX14_item_108 ki_0 ?_
            exact J109 0 _ _ _ hR hS (lv_sub hl [2, 0] rfl) h
          · replace h := ifn h c25
            refine lv_iconst (v := 1) hx hb dX14_item_104 ki_1 ?_
            refine lv_goto (tgt := 109) hx hb dX14_item_105 (by decide) ?_
            exact J109 1 _ _ _ hR hS (lv_sub hl [2, 0] rfl) h
        · replace h := ifn h c19
          refine lv_aload_n hx hb dX14_item_84 rfl (lv_at hl 2 rfl) ?_
          refine lv_bipush (v := 23) hx hb dX14_item_85 kb_23 ?_
          refine lv_iconst (v := 5) hx hb dX14_item_87 ki_5 ?_
          refine va_ldcSW hx hb hown (str_31 hW) dX14_item_88 ?_
          refine lv_bipush (v := 7) hx hb dX14_item_91 kb_7 ?_
          obtain ⟨g27, e26, h⟩ := obd h
          refine rc_V0 (rest := []) (st1 := []) hF (w_X14_twoTold hSk 23 5 31 7 e26) (cwV 4 hts (lw_V q1955 q1957 qs83 q117 q1958) rfl rfl rfl hd_X14_twoTold ⟨Nat.le_of_ble_eq_true rfl, Nat.le_of_ble_eq_true rfl⟩) cfX14 (sk_128 hSk) hK hW hR hS rfl hl.1 rfl (Nat.le_of_ble_eq_true rfl) rfl dX14_item_93 ⟨rfl, rfl⟩ ⟨Nat.zero_le _, Nat.zero_le _⟩ (fun H locs hR hS => ?_)
          refine lv_goto (tgt := 121) hx hb dX14_item_96 (by decide) ?_
          exact J121 g27 _ _ _ hR hS (lv_sub hl [2] rfl) h
      · replace h := ifn h c16
        refine lv_aload_n hx hb dX14_item_58 rfl (lv_at hl 2 rfl) ?_
        refine lv_bipush (v := 15) hx hb dX14_item_59 kb_15 ?_
        refine lv_bipush (v := 7) hx hb dX14_item_61 kb_7 ?_
        refine va_ldcSW hx hb hown (str_34 hW) dX14_item_63 ?_
        refine lv_bipush (v := 9) hx hb dX14_item_66 kb_9 ?_
        obtain ⟨g29, e28, h⟩ := obd h
        refine rc_V0 (rest := []) (st1 := []) hF (w_X14_twoTold hSk 15 7 34 9 e28) (cwV 4 hts (lw_V q1955 q1957 qs83 q117 q1958) rfl rfl rfl hd_X14_twoTold ⟨Nat.le_of_ble_eq_true rfl, Nat.le_of_ble_eq_true rfl⟩) cfX14 (sk_128 hSk) hK hW hR hS rfl hl.1 rfl (Nat.le_of_ble_eq_true rfl) rfl dX14_item_68 ⟨rfl, rfl⟩ ⟨Nat.zero_le _, Nat.zero_le _⟩ (fun H locs hR hS => ?_)
        refine lv_goto (tgt := 121) hx hb dX14_item_71 (by decide) ?_
        exact J121 g29 _ _ _ hR hS (lv_sub hl [2] rfl) h
    · replace h := ifn h c13
      refine lv_aload_n hx hb dX14_item_32 rfl (lv_at hl 2 rfl) ?_
      refine lv_bipush (v := 7) hx hb dX14_item_33 kb_7 ?_
      refine lv_bipush (v := 7) hx hb dX14_item_35 kb_7 ?_
      refine va_ldcSW hx hb hown (str_32 hW) dX14_item_37 ?_
      refine lv_bipush (v := 9) hx hb dX14_item_40 kb_9 ?_
      obtain ⟨g31, e30, h⟩ := obd h
      refine rc_V0 (rest := []) (st1 := []) hF (w_X14_twoTold hSk 7 7 32 9 e30) (cwV 4 hts (lw_V q1955 q1957 qs83 q117 q1958) rfl rfl rfl hd_X14_twoTold ⟨Nat.le_of_ble_eq_true rfl, Nat.le_of_ble_eq_true rfl⟩) cfX14 (sk_128 hSk) hK hW hR hS rfl hl.1 rfl (Nat.le_of_ble_eq_true rfl) rfl dX14_item_42 ⟨rfl, rfl⟩ ⟨Nat.zero_le _, Nat.zero_le _⟩ (fun H locs hR hS => ?_)
      refine lv_goto (tgt := 121) hx hb dX14_item_45 (by decide) ?_
      exact J121 g31 _ _ _ hR hS (lv_sub hl [2] rfl) h
  · replace h := ifn h c10
    refine lv_aload_n hx hb dX14_item_14 rfl (lv_at hl 2 rfl) ?_
    refine lv_iload_n hx hb dX14_item_15 rfl (lv_at hl 1 rfl) ?_
    obtain ⟨g33, e32, h⟩ := obd h
    refine rc_V0 (rest := []) (st1 := []) hF (w_X14_clothTold hSk r2 e32) (cwV 1 hts (lw_V q1930 q1932 qs78 q117 q1933) rfl rfl rfl hd_X14_clothTold ⟨Nat.le_of_ble_eq_true rfl, Nat.le_of_ble_eq_true rfl⟩) cfX14 (sk_128 hSk) hK hW hR hS rfl hl.1 rfl (Nat.le_of_ble_eq_true rfl) rfl dX14_item_16 ⟨rfl, rfl⟩ ⟨Nat.zero_le _, Nat.zero_le _⟩ (fun H locs hR hS => ?_)
    refine lv_goto (tgt := 121) hx hb dX14_item_19 (by decide) ?_
    exact J121 g33 _ _ _ hR hS (lv_sub hl [2] rfl) h
def rm_X14_mill : Room := { frames := 10, cells := 0, slots := 0, locals := 312 }
theorem hd_X14_mill : yX14_mill.cls = "IntentVatsModel" ∧ yX14_mill.cls ≠ "java/lang/invoke/MethodHandle" ∧ yX14_mill.cls ≠ "java/lang/invoke/VarHandle" ∧ (parseMethodDescriptor yX14_mill.desc).map (fun d => d.parameters.length) = some 0 := by decide +kernel
theorem he_X14_mill : yX14_mill.cls ≠ "java/lang/invoke/MethodHandle" ∧ yX14_mill.cls ≠ "java/lang/invoke/VarHandle" ∧ (parseMethodDescriptor yX14_mill.desc).map (fun d => d.parameters.length) = some 0 := hd_X14_mill.2

set_option maxHeartbeats 4000000 in
set_option maxRecDepth 100000 in
theorem w_X14_mill {l : Launch} {G : Gx} {sh : SM} {g : GM} {gl : LM} {gr : RM} {n : Nat} (hSk : Sk sh gr)   {r : Int32} {go : GM} (h : f_X14_mill g  = some (r, go)) : MetI l G yX14_mill (ws_ yX14_mill cX14_mill 1 (Option.some Jvm.ClassFile.FieldType.int)) rm_X14_mill [.ref (adr G 128)] sh g gl gr n (some (.int r)) sh go gl gr n := by
  refine MetI.of (by decide) (Nat.le_of_ble_eq_true rfl) ?_
  intro p e s m below meth c ls hx hb hr hml hown hts hlk hnm hW hK hR hS hl
  have hown : s.vm.findClass RX14 = some m.cls := hown
  have hF : CallFix p m c cX14_mill 1 s ([.ref (adr G 128)] : List Value).toArray lw_all RX14 := ⟨hx, hb, hml, hown, hts⟩
  have hl : lv_has ls 1 [(0, .ref (adr G 128))] := hl
  unfold f_X14_mill at h
  refine lv_aload_n hx hb dX14_mill_0 rfl (lv_at hl 0 rfl) ?_
  obtain ⟨g2, e1, h⟩ := obd h
  refine rc_V0 (rest := []) (st1 := []) hF (w_X14_lends hSk e1) (cwV 0 hts (lw_V q1759 q1761 qs60 q117 q1762) rfl rfl rfl hd_X14_lends ⟨Nat.le_of_ble_eq_true rfl, Nat.le_of_ble_eq_true rfl⟩) cfX14 (sk_128 hSk) hK hW hR hS rfl hl.1 rfl (Nat.le_of_ble_eq_true rfl) rfl dX14_mill_1 ⟨rfl, rfl⟩ ⟨Nat.zero_le _, Nat.zero_le _⟩ (fun H locs hR hS => ?_)
  refine lv_aload_n hx hb dX14_mill_4 rfl (lv_at hl 0 rfl) ?_
  obtain ⟨g4, e3, h⟩ := obd h
  refine rc_V0 (rest := []) (st1 := []) hF (w_X14_anew hSk e3) (cwV 0 hts (lw_V q1517 q1519 qs43 q117 q1520) rfl rfl rfl hd_X14_anew ⟨Nat.le_of_ble_eq_true rfl, Nat.le_of_ble_eq_true rfl⟩) cfX14 (sk_128 hSk) hK hW hR hS rfl hl.1 rfl (Nat.le_of_ble_eq_true rfl) rfl dX14_mill_5 ⟨rfl, rfl⟩ ⟨Nat.zero_le _, Nat.zero_le _⟩ (fun H locs hR hS => ?_)
  refine lv_aload_n hx hb dX14_mill_8 rfl (lv_at hl 0 rfl) ?_
  refine lv_iconst (v := 0) hx hb dX14_mill_9 ki_0 ?_
  obtain ⟨g6, e5, h⟩ := obd h
  refine r_puti hx hb hts cfX14 hown hK hR hS (sk_128 hSk) 10 (by decide) rfl (hts _ q1531) (fun _ h => h) (Or.inl rfl) (by decide) (by decide) e5 dX14_mill_10 (fun H locs hR hS => ?_)
  refine lv_aload_n hx hb dX14_mill_13 rfl (lv_at hl 0 rfl) ?_
  refine lv_iconst (v := 0) hx hb dX14_mill_14 ki_0 ?_
  obtain ⟨g8, e7, h⟩ := obd h
  refine r_puti hx hb hts cfX14 hown hK hR hS (sk_128 hSk) 9 (by decide) rfl (hts _ q1530) (fun _ h => h) (Or.inl rfl) rfl rfl e7 dX14_mill_15 (fun H locs hR hS => ?_)
  refine lv_aload_n hx hb dX14_mill_18 rfl (lv_at hl 0 rfl) ?_
  obtain ⟨g10, e9, h⟩ := obd h
  refine rc_V0 (rest := []) (st1 := []) hF (w_X14_next hSk e9) (cwV 0 hts (lw_V q1894 q1896 qs72 q117 q1897) rfl rfl rfl hd_X14_next ⟨Nat.le_of_ble_eq_true rfl, Nat.le_of_ble_eq_true rfl⟩) cfX14 (sk_128 hSk) hK hW hR hS rfl hl.1 rfl (Nat.le_of_ble_eq_true rfl) rfl dX14_mill_19 ⟨rfl, rfl⟩ ⟨Nat.zero_le _, Nat.zero_le _⟩ (fun H locs hR hS => ?_)
  have J22 : ∀ (k22 : Nat) (g11 : GM) (H : Heap) (locs : List Loc) (ls : Array Slot), Rep G sh g11 gl gr n H → va_S (own G) s.heap H locs → lv_has ls 1 [(0, .ref (adr G 128))] → l_X14_mill_22  k22 g11 = some (r, go) → W p l e rm_X14_mill s m ([.ref (adr G 128)] : List Value).toArray below meth c H locs 0 0 (MQ below (QR G (some (.int r)) sh go gl gr n) ([.ref (adr G 128)] : List Value).toArray s rm_X14_mill.cells rm_X14_mill.slots (own G)) (F0 m 22 ls []) := by
    intro k22
    induction k22 with
    | zero => intro _ _ _ _ _ _ _; exact nofun
    | succ k22 ih22 =>
      intro g11 H locs ls hR hS hl h
      unfold l_X14_mill_22 b_X14_mill_22 at h
      refine lv_aload_n hx hb dX14_mill_22 rfl (lv_at hl 0 rfl) ?_
      refine r_geti hx hb hts cfX14 hown hK hR (sk_128 hSk) 10 (by decide) rfl (hts _ q1531) (fun _ h => h) dX14_mill_23 ?_
      have J47 : ∀  (H : Heap) (locs : List Loc) (ls : Array Slot), Rep G sh g11 gl gr n H → va_S (own G) s.heap H locs → lv_has ls 1 [(0, .ref (adr G 128))] → j_X14_mill_47 g11  = some (r, go) → W p l e rm_X14_mill s m ([.ref (adr G 128)] : List Value).toArray below meth c H locs 0 0 (MQ below (QR G (some (.int r)) sh go gl gr n) ([.ref (adr G 128)] : List Value).toArray s rm_X14_mill.cells rm_X14_mill.slots (own G)) (F0 m 47 ls []) := by
        intro  H locs ls hR hS hl h
        unfold j_X14_mill_47 at h
        refine lv_aload_n hx hb dX14_mill_47 rfl (lv_at hl 0 rfl) ?_
        refine lv_iconst (v := 0) hx hb dX14_mill_48 ki_0 ?_
        obtain ⟨g13, e12, h⟩ := obd h
        refine r_puti hx hb hts cfX14 hown hK hR hS (sk_128 hSk) 7 (by decide) rfl (hts _ q1528) (fun _ h => h) (Or.inl rfl) rfl rfl e12 dX14_mill_49 (fun H locs hR hS => ?_)
        refine lv_aload_n hx hb dX14_mill_52 rfl (lv_at hl 0 rfl) ?_
        refine r_geti hx hb hts cfX14 hown hK hR (sk_128 hSk) 10 (by decide) rfl (hts _ q1531) (fun _ h => h) dX14_mill_53 ?_
        refine lv_if_eq (tgt := 71) hx hb dX14_mill_56 (by decide) (fun c14 => ?_) (fun c14 => ?_)
        · replace h := ifp h c14
          refine lv_aload_n hx hb dX14_mill_71 rfl (lv_at hl 0 rfl) ?_
          refine lv_iconst (v := 0) hx hb dX14_mill_72 ki_0 ?_
          obtain ⟨g16, e15, h⟩ := obd h
          refine r_puti hx hb hts cfX14 hown hK hR hS (sk_128 hSk) 12 (by decide) rfl (hts _ q1533) (fun _ h => h) (Or.inl rfl) rfl rfl e15 dX14_mill_73 (fun H locs hR hS => ?_)
          refine lv_aload_n hx hb dX14_mill_76 rfl (lv_at hl 0 rfl) ?_
          refine r_getr hx hb hts cfX14 hown hK hR (sk_128 hSk) 2 (by decide) rfl (sr_128_2 hSk) (hts _ q1523) (fun _ h => h) dX14_mill_77 ?_
          refine lv_bipush (v := 6) hx hb dX14_mill_80 kb_6 ?_
          obtain ⟨v18, e17, h⟩ := obd h
          refine r_ldi hx hb hK hR (sk_131 hSk) e17 dX14_mill_82 ?_
          obtain ⟨rfl, rfl⟩ := s2i h
          exact r_iret0 hx hb hr hlk hR hS (Nat.zero_le _) (Nat.zero_le _) dX14_mill_83
        · replace h := ifn h c14
          refine lv_aload_n hx hb dX14_mill_59 rfl (lv_at hl 0 rfl) ?_
          obtain ⟨g20, e19, h⟩ := obd h
          refine rc_V0 (rest := []) (st1 := []) hF (w_X14_laysBack hSk e19) (cwV 0 hts (lw_V q1766 q1768 qs61 q117 q1769) rfl rfl rfl hd_X14_laysBack ⟨Nat.le_of_ble_eq_true rfl, Nat.le_of_ble_eq_true rfl⟩) cfX14 (sk_128 hSk) hK hW hR hS rfl hl.1 rfl (Nat.le_of_ble_eq_true rfl) rfl dX14_mill_60 ⟨rfl, rfl⟩ ⟨Nat.zero_le _, Nat.zero_le _⟩ (fun H locs hR hS => ?_)
          refine lv_bipush (v := (-100)) hx hb dX14_mill_63 kb_m100 ?_
          refine lv_aload_n hx hb dX14_mill_65 rfl (lv_at hl 0 rfl) ?_
          refine r_geti hx hb hts cfX14 hown hK hR (sk_128 hSk) 8 (by decide) rfl (hts _ q1529) (fun _ h => h) dX14_mill_66 ?_
          refine lv_isub hx hb dX14_mill_69 ?_
          obtain ⟨rfl, rfl⟩ := s2i h
          exact r_iret0 hx hb hr hlk hR hS (Nat.zero_le _) (Nat.zero_le _) dX14_mill_70
      refine lv_if_ne (tgt := 47) hx hb dX14_mill_26 (by decide) (fun c21 => ?_) (fun c21 => ?_)
      · replace h := ifn h c21
        exact J47  _ _ _ hR hS (lv_sub hl [0] rfl) h
      · replace h := ifp h c21
        refine lv_aload_n hx hb dX14_mill_29 rfl (lv_at hl 0 rfl) ?_
        refine r_geti hx hb hts cfX14 hown hK hR (sk_128 hSk) 8 (by decide) rfl (hts _ q1529) (fun _ h => h) dX14_mill_30 ?_
        refine lv_aload_n hx hb dX14_mill_33 rfl (lv_at hl 0 rfl) ?_
        refine r_geti hx hb hts cfX14 hown hK hR (sk_128 hSk) 7 (by decide) rfl (hts _ q1528) (fun _ h => h) dX14_mill_34 ?_
        refine lv_icmp_ge (tgt := 47) hx hb dX14_mill_37 (by decide) (fun c22 => ?_) (fun c22 => ?_)
        · replace h := ifp h c22
          exact J47  _ _ _ hR hS (lv_sub hl [0] rfl) h
        · replace h := ifn h c22
          refine lv_aload_n hx hb dX14_mill_40 rfl (lv_at hl 0 rfl) ?_
          obtain ⟨g24, e23, h⟩ := obd h
          refine rc_V0 (rest := []) (st1 := []) hF (w_X14_item hSk e23) (cwV 0 hts (lw_V q1902 q1904 qs74 q117 q1905) rfl rfl rfl hd_X14_item ⟨Nat.le_of_ble_eq_true rfl, Nat.le_of_ble_eq_true rfl⟩) cfX14 (sk_128 hSk) hK hW hR hS rfl hl.1 rfl (Nat.le_of_ble_eq_true rfl) rfl dX14_mill_41 ⟨rfl, rfl⟩ ⟨Nat.zero_le _, Nat.zero_le _⟩ (fun H locs hR hS => ?_)
          refine lv_goto (tgt := 22) hx hb dX14_mill_44 (by decide) ?_
          exact ih22 g24 _ _ _ hR hS (lv_sub hl [0] rfl) h
  exact J22 fuel g10 _ _ _ hR hS (lv_sub hl [0] rfl) h
def rm_X14_prove : Room := { frames := 6, cells := 0, slots := 0, locals := 132 }
theorem hd_X14_prove : yX14_prove.cls = "IntentVatsModel" ∧ yX14_prove.cls ≠ "java/lang/invoke/MethodHandle" ∧ yX14_prove.cls ≠ "java/lang/invoke/VarHandle" ∧ (parseMethodDescriptor yX14_prove.desc).map (fun d => d.parameters.length) = some 2 := by decide +kernel
theorem he_X14_prove : yX14_prove.cls ≠ "java/lang/invoke/MethodHandle" ∧ yX14_prove.cls ≠ "java/lang/invoke/VarHandle" ∧ (parseMethodDescriptor yX14_prove.desc).map (fun d => d.parameters.length) = some 2 := hd_X14_prove.2

set_option maxHeartbeats 4000000 in
set_option maxRecDepth 100000 in
theorem w_X14_prove {l : Launch} {G : Gx} {sh : SM} {g : GM} {gl : LM} {gr : RM} {n : Nat} (hSk : Sk sh gr) (a1 : Int32) (a2 : Int32)  {r : Int32} {go : GM} (h : f_X14_prove g a1 a2 = some (r, go)) : MetI l G yX14_prove (ws_ yX14_prove cX14_prove 4 (Option.some Jvm.ClassFile.FieldType.int)) rm_X14_prove [.ref (adr G 128), .int a1, .int a2] sh g gl gr n (some (.int r)) sh go gl gr n := by
  refine MetI.of (by decide) (Nat.le_of_ble_eq_true rfl) ?_
  intro p e s m below meth c ls hx hb hr hml hown hts hlk hnm hW hK hR hS hl
  have hown : s.vm.findClass RX14 = some m.cls := hown
  have hF : CallFix p m c cX14_prove 4 s ([.ref (adr G 128), .int a1, .int a2] : List Value).toArray lw_all RX14 := ⟨hx, hb, hml, hown, hts⟩
  have hl : lv_has ls 4 [(0, .ref (adr G 128)), (1, .int a1), (2, .int a2)] := hl
  unfold f_X14_prove at h
  refine lv_aload_n hx hb dX14_prove_0 rfl (lv_at hl 0 rfl) ?_
  refine lv_iload_n hx hb dX14_prove_1 rfl (lv_at hl 1 rfl) ?_
  obtain ⟨r2, e1, h⟩ := obd h
  refine rc_V0 (rest := []) (st1 := [.int r2]) hF (w_X14_isCloth hSk a1 e1) (cwV 1 hts (lw_V q1657 q1659 qs47 q117 q1660) rfl rfl rfl hd_X14_isCloth ⟨Nat.le_of_ble_eq_true rfl, Nat.le_of_ble_eq_true rfl⟩) cfX14 (sk_128 hSk) hK hW hR hS rfl hl.1 rfl (Nat.le_of_ble_eq_true rfl) rfl dX14_prove_2 ⟨rfl, rfl⟩ ⟨Nat.zero_le _, Nat.zero_le _⟩ (fun H locs hR hS => ?_)
  have J20 : ∀  (H : Heap) (locs : List Loc) (ls : Array Slot), Rep G sh g gl gr n H → va_S (own G) s.heap H locs → lv_has ls 4 [] → j_X14_prove_20 g  = some (r, go) → W p l e rm_X14_prove s m ([.ref (adr G 128), .int a1, .int a2] : List Value).toArray below meth c H locs 0 0 (MQ below (QR G (some (.int r)) sh go gl gr n) ([.ref (adr G 128), .int a1, .int a2] : List Value).toArray s rm_X14_prove.cells rm_X14_prove.slots (own G)) (F0 m 20 ls []) := by
    intro  H locs ls hR hS hl h
    unfold j_X14_prove_20 at h
    refine lv_iconst (v := (-1)) hx hb dX14_prove_20 ki_m1 ?_
    obtain ⟨rfl, rfl⟩ := s2i h
    exact r_iret0 hx hb hr hlk hR hS (Nat.zero_le _) (Nat.zero_le _) dX14_prove_21
  refine lv_if_eq (tgt := 20) hx hb dX14_prove_5 (by decide) (fun c3 => ?_) (fun c3 => ?_)
  · replace h := ifp h c3
    exact J20  _ _ _ hR hS (lv_sub hl [] rfl) h
  · replace h := ifn h c3
    refine lv_iload_n hx hb dX14_prove_8 rfl (lv_at hl 2 rfl) ?_
    refine lv_i2l hx hb dX14_prove_9 rfl ?_
    refine lv_lconst (v := 1) hx hb dX14_prove_10 rfl ?_
    refine lv_ldc2 (v := 10) hx hb hown (hts _ q1971) dX14_prove_11 ?_
    obtain ⟨r5, e4, h⟩ := obd h
    refine rc_S0 (rest := []) (st1 := [.int r5]) hF (w_X14_in hSk a2.toInt64 1 10 e4) (va_cwS 3 hts (lw_S q1602 q1603 q117 q1604) rfl rfl rfl he_X14_in ⟨Nat.le_of_ble_eq_true rfl, Nat.le_of_ble_eq_true rfl⟩) hW hR hS rfl hl.1 rfl (Nat.le_of_ble_eq_true rfl) rfl dX14_prove_14 ⟨rfl, rfl⟩ ⟨Nat.zero_le _, Nat.zero_le _⟩ (fun H locs hR hS => ?_)
    refine lv_if_ne (tgt := 22) hx hb dX14_prove_17 (by decide) (fun c6 => ?_) (fun c6 => ?_)
    · replace h := ifn h c6
      refine lv_aload_n hx hb dX14_prove_22 rfl (lv_at hl 0 rfl) ?_
      obtain ⟨g8, e7, h⟩ := obd h
      refine rc_V0 (rest := []) (st1 := []) hF (w_X14_lends hSk e7) (cwV 0 hts (lw_V q1759 q1761 qs60 q117 q1762) rfl rfl rfl hd_X14_lends ⟨Nat.le_of_ble_eq_true rfl, Nat.le_of_ble_eq_true rfl⟩) cfX14 (sk_128 hSk) hK hW hR hS rfl hl.1 rfl (Nat.le_of_ble_eq_true rfl) rfl dX14_prove_23 ⟨rfl, rfl⟩ ⟨Nat.zero_le _, Nat.zero_le _⟩ (fun H locs hR hS => ?_)
      refine lv_iconst (v := 0) hx hb dX14_prove_26 ki_0 ?_
      refine lv_istore_n (lv' := [(3, .int 0), (0, .ref (adr G 128)), (1, .int a1), (2, .int a2)]) hx hb dX14_prove_27 rfl hl (by decide) rfl (fun ls hl => ?_)
      have J28 : ∀ (k28 : Nat) (x9 : Int32) (g10 : GM) (H : Heap) (locs : List Loc) (ls : Array Slot), Rep G sh g10 gl gr n H → va_S (own G) s.heap H locs → lv_has ls 4 [(0, .ref (adr G 128)), (1, .int a1), (2, .int a2), (3, .int x9)] → l_X14_prove_28 a1 a2 k28 x9 g10 = some (r, go) → W p l e rm_X14_prove s m ([.ref (adr G 128), .int a1, .int a2] : List Value).toArray below meth c H locs 0 0 (MQ below (QR G (some (.int r)) sh go gl gr n) ([.ref (adr G 128), .int a1, .int a2] : List Value).toArray s rm_X14_prove.cells rm_X14_prove.slots (own G)) (F0 m 28 ls []) := by
        intro k28
        induction k28 with
        | zero => intro _ _ _ _ _ _ _ _; exact nofun
        | succ k28 ih28 =>
          intro x9 g10 H locs ls hR hS hl h
          unfold l_X14_prove_28 b_X14_prove_28 at h
          refine lv_iload_n hx hb dX14_prove_28 rfl (lv_at hl 3 rfl) ?_
          refine lv_iload_n hx hb dX14_prove_29 rfl (lv_at hl 2 rfl) ?_
          refine lv_icmp_ge (tgt := 90) hx hb dX14_prove_30 (by decide) (fun c11 => ?_) (fun c11 => ?_)
          · replace h := ifp h c11
            refine lv_aload_n hx hb dX14_prove_90 rfl (lv_at hl 0 rfl) ?_
            obtain ⟨g13, e12, h⟩ := obd h
            refine rc_V0 (rest := []) (st1 := []) hF (w_X14_laysBack hSk e12) (cwV 0 hts (lw_V q1766 q1768 qs61 q117 q1769) rfl rfl rfl hd_X14_laysBack ⟨Nat.le_of_ble_eq_true rfl, Nat.le_of_ble_eq_true rfl⟩) cfX14 (sk_128 hSk) hK hW hR hS rfl hl.1 rfl (Nat.le_of_ble_eq_true rfl) rfl dX14_prove_91 ⟨rfl, rfl⟩ ⟨Nat.zero_le _, Nat.zero_le _⟩ (fun H locs hR hS => ?_)
            refine lv_aload_n hx hb dX14_prove_94 rfl (lv_at hl 0 rfl) ?_
            refine lv_iload_n hx hb dX14_prove_95 rfl (lv_at hl 2 rfl) ?_
            obtain ⟨g15, e14, h⟩ := obd h
            refine r_puti hx hb hts cfX14 hown hK hR hS (sk_128 hSk) 12 (by decide) rfl (hts _ q1533) (fun _ h => h) (Or.inl rfl) rfl rfl e14 dX14_prove_96 (fun H locs hR hS => ?_)
            refine lv_iload_n hx hb dX14_prove_99 rfl (lv_at hl 2 rfl) ?_
            obtain ⟨rfl, rfl⟩ := s2i h
            exact r_iret0 hx hb hr hlk hR hS (Nat.zero_le _) (Nat.zero_le _) dX14_prove_100
          · replace h := ifn h c11
            refine lv_aload_n hx hb dX14_prove_33 rfl (lv_at hl 0 rfl) ?_
            refine lv_iconst (v := 1) hx hb dX14_prove_34 ki_1 ?_
            obtain ⟨g17, e16, h⟩ := obd h
            refine rc_V0 (rest := []) (st1 := []) hF (w_X14_goes hSk 1 e16) (cwV 1 hts (lw_V q1725 q1727 qs55 q117 q1728) rfl rfl rfl hd_X14_goes ⟨Nat.le_of_ble_eq_true rfl, Nat.le_of_ble_eq_true rfl⟩) cfX14 (sk_128 hSk) hK hW hR hS rfl hl.1 rfl (Nat.le_of_ble_eq_true rfl) rfl dX14_prove_35 ⟨rfl, rfl⟩ ⟨Nat.zero_le _, Nat.zero_le _⟩ (fun H locs hR hS => ?_)
            refine lv_aload_n hx hb dX14_prove_38 rfl (lv_at hl 0 rfl) ?_
            refine r_getr hx hb hts cfX14 hown hK hR (sk_128 hSk) 11 (by decide) rfl (sr_128_11 hSk) (hts _ q1532) (fun _ h => h) dX14_prove_39 ?_
            refine lv_iconst (v := 3) hx hb dX14_prove_42 ki_3 ?_
            refine lv_iload_n hx hb dX14_prove_43 rfl (lv_at hl 3 rfl) ?_
            refine lv_imul hx hb dX14_prove_44 ?_
            refine lv_iconst (v := 1) hx hb dX14_prove_45 ki_1 ?_
            refine lv_aload_n hx hb dX14_prove_46 rfl (lv_at hl 0 rfl) ?_
            refine lv_iload_n hx hb dX14_prove_47 rfl (lv_at hl 1 rfl) ?_
            refine lv_iconst (v := 1) hx hb dX14_prove_48 ki_1 ?_
            obtain ⟨r19, e18, h⟩ := obd h
            refine rc_V0 (rest := [.int 1, .int (3 * x9), .ref (adr G 135)]) (st1 := [.int r19, .int 1, .int (3 * x9), .ref (adr G 135)]) hF (w_X14_its hSk a1 1 e18) (cwV 2 hts (lw_V q1662 q1664 qs48 q117 q1665) rfl rfl rfl hd_X14_its ⟨Nat.le_of_ble_eq_true rfl, Nat.le_of_ble_eq_true rfl⟩) cfX14 (sk_128 hSk) hK hW hR hS rfl hl.1 rfl (Nat.le_of_ble_eq_true rfl) rfl dX14_prove_49 ⟨rfl, rfl⟩ ⟨Nat.zero_le _, Nat.zero_le _⟩ (fun H locs hR hS => ?_)
            refine lv_iadd hx hb dX14_prove_52 ?_
            obtain ⟨g21, e20, h⟩ := obd h
            refine r_sti hx hb hK hR hS (sk_135 hSk) e20 dX14_prove_53 (fun H locs hR hS => ?_)
            refine lv_aload_n hx hb dX14_prove_54 rfl (lv_at hl 0 rfl) ?_
            refine r_getr hx hb hts cfX14 hown hK hR (sk_128 hSk) 11 (by decide) rfl (sr_128_11 hSk) (hts _ q1532) (fun _ h => h) dX14_prove_55 ?_
            refine lv_iconst (v := 3) hx hb dX14_prove_58 ki_3 ?_
            refine lv_iload_n hx hb dX14_prove_59 rfl (lv_at hl 3 rfl) ?_
            refine lv_imul hx hb dX14_prove_60 ?_
            refine lv_iconst (v := 1) hx hb dX14_prove_61 ki_1 ?_
            refine lv_iadd hx hb dX14_prove_62 ?_
            refine lv_aload_n hx hb dX14_prove_63 rfl (lv_at hl 0 rfl) ?_
            refine lv_iload_n hx hb dX14_prove_64 rfl (lv_at hl 1 rfl) ?_
            refine lv_iconst (v := 2) hx hb dX14_prove_65 ki_2 ?_
            obtain ⟨r23, e22, h⟩ := obd h
            refine rc_V0 (rest := [.int ((3 * x9) + 1), .ref (adr G 135)]) (st1 := [.int r23, .int ((3 * x9) + 1), .ref (adr G 135)]) hF (w_X14_its hSk a1 2 e22) (cwV 2 hts (lw_V q1662 q1664 qs48 q117 q1665) rfl rfl rfl hd_X14_its ⟨Nat.le_of_ble_eq_true rfl, Nat.le_of_ble_eq_true rfl⟩) cfX14 (sk_128 hSk) hK hW hR hS rfl hl.1 rfl (Nat.le_of_ble_eq_true rfl) rfl dX14_prove_66 ⟨rfl, rfl⟩ ⟨Nat.zero_le _, Nat.zero_le _⟩ (fun H locs hR hS => ?_)
            obtain ⟨g25, e24, h⟩ := obd h
            refine r_sti hx hb hK hR hS (sk_135 hSk) e24 dX14_prove_69 (fun H locs hR hS => ?_)
            refine lv_aload_n hx hb dX14_prove_70 rfl (lv_at hl 0 rfl) ?_
            refine r_getr hx hb hts cfX14 hown hK hR (sk_128 hSk) 11 (by decide) rfl (sr_128_11 hSk) (hts _ q1532) (fun _ h => h) dX14_prove_71 ?_
            refine lv_iconst (v := 3) hx hb dX14_prove_74 ki_3 ?_
            refine lv_iload_n hx hb dX14_prove_75 rfl (lv_at hl 3 rfl) ?_
            refine lv_imul hx hb dX14_prove_76 ?_
            refine lv_iconst (v := 2) hx hb dX14_prove_77 ki_2 ?_
            refine lv_iadd hx hb dX14_prove_78 ?_
            refine lv_aload_n hx hb dX14_prove_79 rfl (lv_at hl 0 rfl) ?_
            obtain ⟨r27, e26, h⟩ := obd h
            refine rc_V0 (rest := [.int ((3 * x9) + 2), .ref (adr G 135)]) (st1 := [.int r27, .int ((3 * x9) + 2), .ref (adr G 135)]) hF (w_X14_depths hSk e26) (cwV 0 hts (lw_V q1733 q1735 qs57 q117 q1736) rfl rfl rfl hd_X14_depths ⟨Nat.le_of_ble_eq_true rfl, Nat.le_of_ble_eq_true rfl⟩) cfX14 (sk_128 hSk) hK hW hR hS rfl hl.1 rfl (Nat.le_of_ble_eq_true rfl) rfl dX14_prove_80 ⟨rfl, rfl⟩ ⟨Nat.zero_le _, Nat.zero_le _⟩ (fun H locs hR hS => ?_)
            obtain ⟨g29, e28, h⟩ := obd h
            refine r_sti hx hb hK hR hS (sk_135 hSk) e28 dX14_prove_83 (fun H locs hR hS => ?_)
            refine lv_iinc (v := x9 + 1) (lv' := [(3, .int (x9 + 1)), (0, .ref (adr G 128)), (1, .int a1), (2, .int a2)]) hx hb dX14_prove_84 hl (k := 3) rfl rfl (by decide) rfl (fun ls hl => ?_)
            refine lv_goto (tgt := 28) hx hb dX14_prove_87 (by decide) ?_
            exact ih28 (x9 + 1) g29 _ _ _ hR hS (lv_sub hl [1, 2, 3, 0] rfl) h
      exact J28 fuel 0 g8 _ _ _ hR hS (lv_sub hl [1, 2, 3, 0] rfl) h
    · replace h := ifp h c6
      exact J20  _ _ _ hR hS (lv_sub hl [] rfl) h
def rm_X14_isCell : Room := { frames := 2, cells := 0, slots := 0, locals := 37 }
theorem hd_X14_isCell : yX14_isCell.cls = "IntentVatsModel" ∧ yX14_isCell.cls ≠ "java/lang/invoke/MethodHandle" ∧ yX14_isCell.cls ≠ "java/lang/invoke/VarHandle" ∧ (parseMethodDescriptor yX14_isCell.desc).map (fun d => d.parameters.length) = some 2 := by decide +kernel
theorem he_X14_isCell : yX14_isCell.cls ≠ "java/lang/invoke/MethodHandle" ∧ yX14_isCell.cls ≠ "java/lang/invoke/VarHandle" ∧ (parseMethodDescriptor yX14_isCell.desc).map (fun d => d.parameters.length) = some 2 := hd_X14_isCell.2

set_option maxHeartbeats 4000000 in
set_option maxRecDepth 100000 in
theorem w_X14_isCell {l : Launch} {G : Gx} {sh : SM} {g : GM} {gl : LM} {gr : RM} {n : Nat} (hSk : Sk sh gr) (a1 : Int32) (a2 : Int32)  {r : Int32} (h : f_X14_isCell g a1 a2 = some r) : MetI l G yX14_isCell (ws_ yX14_isCell cX14_isCell 3 (Option.some Jvm.ClassFile.FieldType.boolean)) rm_X14_isCell [.ref (adr G 128), .int a1, .int a2] sh g gl gr n (some (.int r)) sh g gl gr n := by
  refine MetI.of (by decide) (Nat.le_of_ble_eq_true rfl) ?_
  intro p e s m below meth c ls hx hb hr hml hown hts hlk hnm hW hK hR hS hl
  have hown : s.vm.findClass RX14 = some m.cls := hown
  have hF : CallFix p m c cX14_isCell 3 s ([.ref (adr G 128), .int a1, .int a2] : List Value).toArray lw_all RX14 := ⟨hx, hb, hml, hown, hts⟩
  have hl : lv_has ls 3 [(0, .ref (adr G 128)), (1, .int a1), (2, .int a2)] := hl
  unfold f_X14_isCell at h
  refine lv_iload_n hx hb dX14_isCell_0 rfl (lv_at hl 1 rfl) ?_
  refine lv_i2l hx hb dX14_isCell_1 rfl ?_
  refine lv_lconst (v := 0) hx hb dX14_isCell_2 rfl ?_
  refine lv_aload_n hx hb dX14_isCell_3 rfl (lv_at hl 0 rfl) ?_
  refine r_geti hx hb hts cfX14 hown hK hR (sk_128 hSk) 12 (by decide) rfl (hts _ q1533) (fun _ h => h) dX14_isCell_4 ?_
  refine lv_iconst (v := 1) hx hb dX14_isCell_7 ki_1 ?_
  refine lv_isub hx hb dX14_isCell_8 ?_
  refine lv_i2l hx hb dX14_isCell_9 rfl ?_
  obtain ⟨r2, e1, h⟩ := obd h
  refine rc_S0 (rest := []) (st1 := [.int r2]) hF (w_X14_in hSk a1.toInt64 0 (((g 128 12) - 1).toInt64) e1) (va_cwS 3 hts (lw_S q1602 q1603 q117 q1604) rfl rfl rfl he_X14_in ⟨Nat.le_of_ble_eq_true rfl, Nat.le_of_ble_eq_true rfl⟩) hW hR hS rfl hl.1 rfl (Nat.le_of_ble_eq_true rfl) rfl dX14_isCell_10 ⟨rfl, rfl⟩ ⟨Nat.zero_le _, Nat.zero_le _⟩ (fun H locs hR hS => ?_)
  have J33 : ∀ (x3 : Int32) (H : Heap) (locs : List Loc) (ls : Array Slot), Rep G sh g gl gr n H → va_S (own G) s.heap H locs → lv_has ls 3 [] → j_X14_isCell_33  x3 = some r → W p l e rm_X14_isCell s m ([.ref (adr G 128), .int a1, .int a2] : List Value).toArray below meth c H locs 0 0 (MQ below (QR G (some (.int r)) sh g gl gr n) ([.ref (adr G 128), .int a1, .int a2] : List Value).toArray s rm_X14_isCell.cells rm_X14_isCell.slots (own G)) (F0 m 33 ls [.int x3]) := by
    intro x3 H locs ls hR hS hl h
    unfold j_X14_isCell_33 at h
    obtain ⟨c4, h⟩ := ogrd h
    obtain rfl := s1i h
    exact r_zret0 hx hb hr hlk hR hS (Nat.zero_le _) (Nat.zero_le _) (nb01 c4) dX14_isCell_33
  have J32 : ∀  (H : Heap) (locs : List Loc) (ls : Array Slot), Rep G sh g gl gr n H → va_S (own G) s.heap H locs → lv_has ls 3 [] → j_X14_isCell_32   = some r → W p l e rm_X14_isCell s m ([.ref (adr G 128), .int a1, .int a2] : List Value).toArray below meth c H locs 0 0 (MQ below (QR G (some (.int r)) sh g gl gr n) ([.ref (adr G 128), .int a1, .int a2] : List Value).toArray s rm_X14_isCell.cells rm_X14_isCell.slots (own G)) (F0 m 32 ls []) := by
    intro  H locs ls hR hS hl h
    unfold j_X14_isCell_32 at h
    refine lv_iconst (v := 0) hx hb dX14_isCell_32 ki_0 ?_
    exact J33 0 _ _ _ hR hS (lv_sub hl [] rfl) h
  refine lv_if_eq (tgt := 32) hx hb dX14_isCell_13 (by decide) (fun c5 => ?_) (fun c5 => ?_)
  · replace h := ifp h c5
    exact J32  _ _ _ hR hS (lv_sub hl [] rfl) h
  · replace h := ifn h c5
    refine lv_iload_n hx hb dX14_isCell_16 rfl (lv_at hl 2 rfl) ?_
    refine lv_i2l hx hb dX14_isCell_17 rfl ?_
    refine lv_lconst (v := 0) hx hb dX14_isCell_18 rfl ?_
    refine lv_ldc2 (v := 2) hx hb hown (hts _ q1670) dX14_isCell_19 ?_
    obtain ⟨r7, e6, h⟩ := obd h
    refine rc_S0 (rest := []) (st1 := [.int r7]) hF (w_X14_in hSk a2.toInt64 0 2 e6) (va_cwS 3 hts (lw_S q1602 q1603 q117 q1604) rfl rfl rfl he_X14_in ⟨Nat.le_of_ble_eq_true rfl, Nat.le_of_ble_eq_true rfl⟩) hW hR hS rfl hl.1 rfl (Nat.le_of_ble_eq_true rfl) rfl dX14_isCell_22 ⟨rfl, rfl⟩ ⟨Nat.zero_le _, Nat.zero_le _⟩ (fun H locs hR hS => ?_)
    refine lv_if_eq (tgt := 32) hx hb dX14_isCell_25 (by decide) (fun c8 => ?_) (fun c8 => ?_)
    · replace h := ifp h c8
      exact J32  _ _ _ hR hS (lv_sub hl [] rfl) h
    · replace h := ifn h c8
      refine lv_iconst (v := 1) hx hb dX14_isCell_28 ki_1 ?_
      refine lv_goto (tgt := 33) hx hb dX14_isCell_29 (by decide) ?_
      exact J33 1 _ _ _ hR hS (lv_sub hl [] rfl) h
def rm_X14_row : Room := { frames := 3, cells := 0, slots := 0, locals := 59 }
theorem hd_X14_row : yX14_row.cls = "IntentVatsModel" ∧ yX14_row.cls ≠ "java/lang/invoke/MethodHandle" ∧ yX14_row.cls ≠ "java/lang/invoke/VarHandle" ∧ (parseMethodDescriptor yX14_row.desc).map (fun d => d.parameters.length) = some 2 := by decide +kernel
theorem he_X14_row : yX14_row.cls ≠ "java/lang/invoke/MethodHandle" ∧ yX14_row.cls ≠ "java/lang/invoke/VarHandle" ∧ (parseMethodDescriptor yX14_row.desc).map (fun d => d.parameters.length) = some 2 := hd_X14_row.2

set_option maxHeartbeats 4000000 in
set_option maxRecDepth 100000 in
theorem w_X14_row {l : Launch} {G : Gx} {sh : SM} {g : GM} {gl : LM} {gr : RM} {n : Nat} (hSk : Sk sh gr) (a1 : Int32) (a2 : Int32)  {r : Int32} (h : f_X14_row g a1 a2 = some r) : MetI l G yX14_row (ws_ yX14_row cX14_row 3 (Option.some Jvm.ClassFile.FieldType.int)) rm_X14_row [.ref (adr G 128), .int a1, .int a2] sh g gl gr n (some (.int r)) sh g gl gr n := by
  refine MetI.of (by decide) (Nat.le_of_ble_eq_true rfl) ?_
  intro p e s m below meth c ls hx hb hr hml hown hts hlk hnm hW hK hR hS hl
  have hown : s.vm.findClass RX14 = some m.cls := hown
  have hF : CallFix p m c cX14_row 3 s ([.ref (adr G 128), .int a1, .int a2] : List Value).toArray lw_all RX14 := ⟨hx, hb, hml, hown, hts⟩
  have hl : lv_has ls 3 [(0, .ref (adr G 128)), (1, .int a1), (2, .int a2)] := hl
  unfold f_X14_row at h
  refine lv_aload_n hx hb dX14_row_0 rfl (lv_at hl 0 rfl) ?_
  refine lv_iload_n hx hb dX14_row_1 rfl (lv_at hl 1 rfl) ?_
  refine lv_iload_n hx hb dX14_row_2 rfl (lv_at hl 2 rfl) ?_
  obtain ⟨r2, e1, h⟩ := obd h
  refine rc_V0 (rest := []) (st1 := [.int r2]) hF (w_X14_isCell hSk a1 a2 e1) (cwV 2 hts (lw_V q1976 q1978 qs85 q117 q1979) rfl rfl rfl hd_X14_isCell ⟨Nat.le_of_ble_eq_true rfl, Nat.le_of_ble_eq_true rfl⟩) cfX14 (sk_128 hSk) hK hW hR hS rfl hl.1 rfl (Nat.le_of_ble_eq_true rfl) rfl dX14_row_3 ⟨rfl, rfl⟩ ⟨Nat.zero_le _, Nat.zero_le _⟩ (fun H locs hR hS => ?_)
  have J24 : ∀ (x3 : Int32) (H : Heap) (locs : List Loc) (ls : Array Slot), Rep G sh g gl gr n H → va_S (own G) s.heap H locs → lv_has ls 3 [] → j_X14_row_24  x3 = some r → W p l e rm_X14_row s m ([.ref (adr G 128), .int a1, .int a2] : List Value).toArray below meth c H locs 0 0 (MQ below (QR G (some (.int r)) sh g gl gr n) ([.ref (adr G 128), .int a1, .int a2] : List Value).toArray s rm_X14_row.cells rm_X14_row.slots (own G)) (F0 m 24 ls [.int x3]) := by
    intro x3 H locs ls hR hS hl h
    unfold j_X14_row_24 at h
    obtain rfl := s1i h
    exact r_iret0 hx hb hr hlk hR hS (Nat.zero_le _) (Nat.zero_le _) dX14_row_24
  refine lv_if_eq (tgt := 22) hx hb dX14_row_6 (by decide) (fun c4 => ?_) (fun c4 => ?_)
  · replace h := ifp h c4
    refine lv_bipush (v := (-9)) hx hb dX14_row_22 kb_m9 ?_
    exact J24 (-9) _ _ _ hR hS (lv_sub hl [] rfl) h
  · replace h := ifn h c4
    refine lv_aload_n hx hb dX14_row_9 rfl (lv_at hl 0 rfl) ?_
    refine r_getr hx hb hts cfX14 hown hK hR (sk_128 hSk) 11 (by decide) rfl (sr_128_11 hSk) (hts _ q1532) (fun _ h => h) dX14_row_10 ?_
    refine lv_iconst (v := 3) hx hb dX14_row_13 ki_3 ?_
    refine lv_iload_n hx hb dX14_row_14 rfl (lv_at hl 1 rfl) ?_
    refine lv_imul hx hb dX14_row_15 ?_
    refine lv_iload_n hx hb dX14_row_16 rfl (lv_at hl 2 rfl) ?_
    refine lv_iadd hx hb dX14_row_17 ?_
    obtain ⟨v6, e5, h⟩ := obd h
    refine r_ldi hx hb hK hR (sk_135 hSk) e5 dX14_row_18 ?_
    refine lv_goto (tgt := 24) hx hb dX14_row_19 (by decide) ?_
    exact J24 v6 _ _ _ hR hS (lv_sub hl [] rfl) h
def rm_X14_alterRow : Room := { frames := 3, cells := 0, slots := 0, locals := 59 }
theorem hd_X14_alterRow : yX14_alterRow.cls = "IntentVatsModel" ∧ yX14_alterRow.cls ≠ "java/lang/invoke/MethodHandle" ∧ yX14_alterRow.cls ≠ "java/lang/invoke/VarHandle" ∧ (parseMethodDescriptor yX14_alterRow.desc).map (fun d => d.parameters.length) = some 3 := by decide +kernel
theorem he_X14_alterRow : yX14_alterRow.cls ≠ "java/lang/invoke/MethodHandle" ∧ yX14_alterRow.cls ≠ "java/lang/invoke/VarHandle" ∧ (parseMethodDescriptor yX14_alterRow.desc).map (fun d => d.parameters.length) = some 3 := hd_X14_alterRow.2

set_option maxHeartbeats 4000000 in
set_option maxRecDepth 100000 in
theorem w_X14_alterRow {l : Launch} {G : Gx} {sh : SM} {g : GM} {gl : LM} {gr : RM} {n : Nat} (hSk : Sk sh gr) (a1 : Int32) (a2 : Int32) (a3 : Int32)  {r : Int32} {go : GM} (h : f_X14_alterRow g a1 a2 a3 = some (r, go)) : MetI l G yX14_alterRow (ws_ yX14_alterRow cX14_alterRow 5 (Option.some Jvm.ClassFile.FieldType.int)) rm_X14_alterRow [.ref (adr G 128), .int a1, .int a2, .int a3] sh g gl gr n (some (.int r)) sh go gl gr n := by
  refine MetI.of (by decide) (Nat.le_of_ble_eq_true rfl) ?_
  intro p e s m below meth c ls hx hb hr hml hown hts hlk hnm hW hK hR hS hl
  have hown : s.vm.findClass RX14 = some m.cls := hown
  have hF : CallFix p m c cX14_alterRow 5 s ([.ref (adr G 128), .int a1, .int a2, .int a3] : List Value).toArray lw_all RX14 := ⟨hx, hb, hml, hown, hts⟩
  have hl : lv_has ls 5 [(0, .ref (adr G 128)), (1, .int a1), (2, .int a2), (3, .int a3)] := hl
  unfold f_X14_alterRow at h
  refine lv_aload_n hx hb dX14_alterRow_0 rfl (lv_at hl 0 rfl) ?_
  refine lv_iload_n hx hb dX14_alterRow_1 rfl (lv_at hl 1 rfl) ?_
  refine lv_iload_n hx hb dX14_alterRow_2 rfl (lv_at hl 2 rfl) ?_
  obtain ⟨r2, e1, h⟩ := obd h
  refine rc_V0 (rest := []) (st1 := [.int r2]) hF (w_X14_isCell hSk a1 a2 e1) (cwV 2 hts (lw_V q1976 q1978 qs85 q117 q1979) rfl rfl rfl hd_X14_isCell ⟨Nat.le_of_ble_eq_true rfl, Nat.le_of_ble_eq_true rfl⟩) cfX14 (sk_128 hSk) hK hW hR hS rfl hl.1 rfl (Nat.le_of_ble_eq_true rfl) rfl dX14_alterRow_3 ⟨rfl, rfl⟩ ⟨Nat.zero_le _, Nat.zero_le _⟩ (fun H locs hR hS => ?_)
  refine lv_if_ne (tgt := 12) hx hb dX14_alterRow_6 (by decide) (fun c3 => ?_) (fun c3 => ?_)
  · replace h := ifn h c3
    refine lv_aload_n hx hb dX14_alterRow_12 rfl (lv_at hl 0 rfl) ?_
    refine r_getr hx hb hts cfX14 hown hK hR (sk_128 hSk) 11 (by decide) rfl (sr_128_11 hSk) (hts _ q1532) (fun _ h => h) dX14_alterRow_13 ?_
    refine lv_iconst (v := 3) hx hb dX14_alterRow_16 ki_3 ?_
    refine lv_iload_n hx hb dX14_alterRow_17 rfl (lv_at hl 1 rfl) ?_
    refine lv_imul hx hb dX14_alterRow_18 ?_
    refine lv_iload_n hx hb dX14_alterRow_19 rfl (lv_at hl 2 rfl) ?_
    refine lv_iadd hx hb dX14_alterRow_20 ?_
    obtain ⟨v5, e4, h⟩ := obd h
    refine r_ldi hx hb hK hR (sk_135 hSk) e4 dX14_alterRow_21 ?_
    refine lv_istore (lv' := [(4, .int v5), (0, .ref (adr G 128)), (1, .int a1), (2, .int a2), (3, .int a3)]) hx hb dX14_alterRow_22 hl (by decide) rfl (fun ls hl => ?_)
    refine lv_aload_n hx hb dX14_alterRow_24 rfl (lv_at hl 1 rfl) ?_
    refine r_getr hx hb hts cfX14 hown hK hR (sk_128 hSk) 11 (by decide) rfl (sr_128_11 hSk) (hts _ q1532) (fun _ h => h) dX14_alterRow_25 ?_
    refine lv_iconst (v := 3) hx hb dX14_alterRow_28 ki_3 ?_
    refine lv_iload_n hx hb dX14_alterRow_29 rfl (lv_at hl 2 rfl) ?_
    refine lv_imul hx hb dX14_alterRow_30 ?_
    refine lv_iload_n hx hb dX14_alterRow_31 rfl (lv_at hl 3 rfl) ?_
    refine lv_iadd hx hb dX14_alterRow_32 ?_
    refine lv_iload_n hx hb dX14_alterRow_33 rfl (lv_at hl 4 rfl) ?_
    obtain ⟨g7, e6, h⟩ := obd h
    refine r_sti hx hb hK hR hS (sk_135 hSk) e6 dX14_alterRow_34 (fun H locs hR hS => ?_)
    refine lv_iload hx hb dX14_alterRow_35 (lv_at hl 0 rfl) ?_
    obtain ⟨rfl, rfl⟩ := s2i h
    exact r_iret0 hx hb hr hlk hR hS (Nat.zero_le _) (Nat.zero_le _) dX14_alterRow_37
  · replace h := ifp h c3
    refine lv_bipush (v := (-9)) hx hb dX14_alterRow_9 kb_m9 ?_
    obtain ⟨rfl, rfl⟩ := s2i h
    exact r_iret0 hx hb hr hlk hR hS (Nat.zero_le _) (Nat.zero_le _) dX14_alterRow_11
