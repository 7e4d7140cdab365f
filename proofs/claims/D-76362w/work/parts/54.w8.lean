/-! walks: X8_day, X8_item, X8_read -/
def rm_X8_day : Room := { frames := 8, cells := 0, slots := 0, locals := 265 }
theorem hd_X8_day : yX8_day.cls = "IntentVats$Reader" ∧ yX8_day.cls ≠ "java/lang/invoke/MethodHandle" ∧ yX8_day.cls ≠ "java/lang/invoke/VarHandle" ∧ (parseMethodDescriptor yX8_day.desc).map (fun d => d.parameters.length) = some 0 := by decide +kernel
theorem he_X8_day : yX8_day.cls ≠ "java/lang/invoke/MethodHandle" ∧ yX8_day.cls ≠ "java/lang/invoke/VarHandle" ∧ (parseMethodDescriptor yX8_day.desc).map (fun d => d.parameters.length) = some 0 := hd_X8_day.2
set_option maxHeartbeats 4000000 in
set_option maxRecDepth 100000 in
theorem w_X8_day {l : Launch} {G : Gx} {sh : SM} {g : GM} {gl : LM} {gr : RM} {n0 : Nat} (hSk : Sk sh gr)  (hTx : gr 109 4 = some 108) {oo : (GM ⊕ (Nat × GM))} {o : XO} (h : f_X8_day g  = some oo) (ho : o = (oo.elim (fun p => .inl (none, sh, p, gl, gr)) (fun q => .inr (q.1, sh, q.2, gl, gr)))) : MetX l G yX8_day (ws_ yX8_day cX8_day 2 (Option.none : Option Jvm.ClassFile.FieldType)) rm_X8_day [.ref (adr G 109)] sh g gl gr n0 o := by
  refine MetX.of (by decide) (Nat.le_of_ble_eq_true rfl) ?_
  intro p e s m below meth c ls hx hb hr hml hown hts hlk htb hW hK hR hS hl
  have hn : n0 ≤ n0 := Nat.le_refl _
  have hown : s.vm.findClass RX8 = some m.cls := hown
  have hF : CallFix p m c cX8_day 2 s ([.ref (adr G 109)] : List Value).toArray lw_all RX8 := ⟨hx, hb, hml, hown, hts⟩
  have hl : lv_has ls 2 [(0, .ref (adr G 109))] := hl
  unfold f_X8_day at h
  refine lv_aload_n hx hb dX8_day_0 rfl (lv_at hl 0 rfl) ?_
  refine lv_iconst (v := 0) hx hb dX8_day_1 ki_0 ?_
  refine lv_iconst (v := 5) hx hb dX8_day_2 ki_5 ?_
  rcases obx22 h with ⟨ec3, g5, e1, h⟩ | ⟨r2, g4, e1, h⟩
  · refine xc_x (xr_V (ox := (.inr (ec3, sh, g5, gl, gr))) (rest := []) hF (w_X8_number hSk 0 5 hTx e1 rfl) (cwV 2 hts (lw_V q633 q635 qs9 q108 q636) rfl rfl rfl hd_X8_number ⟨Nat.le_of_ble_eq_true rfl, Nat.le_of_ble_eq_true rfl⟩) cfX8 (sk_109 hSk) hK hW hR rfl hl.1 rfl (Nat.le_of_ble_eq_true rfl) dX8_day_3 ⟨Nat.le_of_ble_eq_true rfl, Nat.le_of_ble_eq_true rfl⟩) hS (fun n H locs q9 ce9 hn2 hR hS hq9 hce9 hcv9 hcl9 => ?_)
    obtain rfl := s1i h
    exact x_out htb hlk (Nat.le_trans hn hn2) hR hS (Nat.le_of_ble_eq_true rfl) (Nat.le_of_ble_eq_true rfl) ho hq9 hce9 hcv9 hcl9
  refine xc_r (xr_V (ox := (.inl (some (.int r2), sh, g4, gl, gr))) (rest := []) hF (w_X8_number hSk 0 5 hTx e1 rfl) (cwV 2 hts (lw_V q633 q635 qs9 q108 q636) rfl rfl rfl hd_X8_number ⟨Nat.le_of_ble_eq_true rfl, Nat.le_of_ble_eq_true rfl⟩) cfX8 (sk_109 hSk) hK hW hR rfl hl.1 rfl (Nat.le_of_ble_eq_true rfl) dX8_day_3 ⟨Nat.le_of_ble_eq_true rfl, Nat.le_of_ble_eq_true rfl⟩) hS (fun n H locs hn2 hR hS => ?_)
  replace hn := Nat.le_trans hn hn2
  refine W.widen (k := 0) (n := 0) (Nat.le_of_ble_eq_true rfl) (Nat.le_of_ble_eq_true rfl) ?_
  refine lv_istore_n (lv' := [(1, .int r2), (0, .ref (adr G 109))]) hx hb dX8_day_6 rfl hl (by decide) rfl (fun ls hl => ?_)
  refine lv_aload_n hx hb dX8_day_7 rfl (lv_at hl 1 rfl) ?_
  refine va_ldcS hx hb hown (str_14 hW) dX8_day_8 ?_
  rcases obx12 h with ⟨ec7, g9, e6, h⟩ | ⟨g8, e6, h⟩
  · refine xc_x (xr_V (ox := (.inr (ec7, sh, g9, gl, gr))) (rest := []) hF (w_X8_must hSk 14 hTx e6 rfl) (cwV 1 hts (lw_V q651 q653 qs12 q108 q654) rfl rfl rfl hd_X8_must ⟨Nat.le_of_ble_eq_true rfl, Nat.le_of_ble_eq_true rfl⟩) cfX8 (sk_109 hSk) hK hW hR rfl hl.1 rfl (Nat.le_of_ble_eq_true rfl) dX8_day_10 ⟨Nat.le_of_ble_eq_true rfl, Nat.le_of_ble_eq_true rfl⟩) hS (fun n H locs q9 ce9 hn2 hR hS hq9 hce9 hcv9 hcl9 => ?_)
    obtain rfl := s1i h
    exact x_out htb hlk (Nat.le_trans hn hn2) hR hS (Nat.le_of_ble_eq_true rfl) (Nat.le_of_ble_eq_true rfl) ho hq9 hce9 hcv9 hcl9
  refine xc_r (xr_V (ox := (.inl (none, sh, g8, gl, gr))) (rest := []) hF (w_X8_must hSk 14 hTx e6 rfl) (cwV 1 hts (lw_V q651 q653 qs12 q108 q654) rfl rfl rfl hd_X8_must ⟨Nat.le_of_ble_eq_true rfl, Nat.le_of_ble_eq_true rfl⟩) cfX8 (sk_109 hSk) hK hW hR rfl hl.1 rfl (Nat.le_of_ble_eq_true rfl) dX8_day_10 ⟨Nat.le_of_ble_eq_true rfl, Nat.le_of_ble_eq_true rfl⟩) hS (fun n H locs hn2 hR hS => ?_)
  replace hn := Nat.le_trans hn hn2
  refine W.widen (k := 0) (n := 0) (Nat.le_of_ble_eq_true rfl) (Nat.le_of_ble_eq_true rfl) ?_
  refine lv_aload_n hx hb dX8_day_13 rfl (lv_at hl 1 rfl) ?_
  refine r_getr hx hb hts cfX8 hown hK hR (sk_109 hSk) 3 (by decide) rfl (sr_109_3 hSk) (hts _ q354) (fun _ h => h) dX8_day_14 ?_
  refine r_getrN hx hb hts cfX1 hown hK hR (sk_83 hSk) 7 (by decide) rfl (sr_83_7 hSk) (hW.nestF q178) (fun _ h => h) dX8_day_17 ?_
  refine lv_iload_n hx hb dX8_day_20 rfl (lv_at hl 0 rfl) ?_
  refine lv_aload_n hx hb dX8_day_21 rfl (lv_at hl 1 rfl) ?_
  refine lv_iconst (v := 0) hx hb dX8_day_22 ki_0 ?_
  refine lv_bipush (v := 7) hx hb dX8_day_23 kb_7 ?_
  rcases obx22 h with ⟨ec12, g14, e10, h⟩ | ⟨r11, g13, e10, h⟩
  · refine xc_x (xr_V (ox := (.inr (ec12, sh, g14, gl, gr))) (rest := [.int r2, .ref (adr G 87)]) hF (w_X8_number hSk 0 7 hTx e10 rfl) (cwV 2 hts (lw_V q633 q635 qs9 q108 q636) rfl rfl rfl hd_X8_number ⟨Nat.le_of_ble_eq_true rfl, Nat.le_of_ble_eq_true rfl⟩) cfX8 (sk_109 hSk) hK hW hR rfl hl.1 rfl (Nat.le_of_ble_eq_true rfl) dX8_day_25 ⟨Nat.le_of_ble_eq_true rfl, Nat.le_of_ble_eq_true rfl⟩) hS (fun n H locs q9 ce9 hn2 hR hS hq9 hce9 hcv9 hcl9 => ?_)
    obtain rfl := s1i h
    exact x_out htb hlk (Nat.le_trans hn hn2) hR hS (Nat.le_of_ble_eq_true rfl) (Nat.le_of_ble_eq_true rfl) ho hq9 hce9 hcv9 hcl9
  refine xc_r (xr_V (ox := (.inl (some (.int r11), sh, g13, gl, gr))) (rest := [.int r2, .ref (adr G 87)]) hF (w_X8_number hSk 0 7 hTx e10 rfl) (cwV 2 hts (lw_V q633 q635 qs9 q108 q636) rfl rfl rfl hd_X8_number ⟨Nat.le_of_ble_eq_true rfl, Nat.le_of_ble_eq_true rfl⟩) cfX8 (sk_109 hSk) hK hW hR rfl hl.1 rfl (Nat.le_of_ble_eq_true rfl) dX8_day_25 ⟨Nat.le_of_ble_eq_true rfl, Nat.le_of_ble_eq_true rfl⟩) hS (fun n H locs hn2 hR hS => ?_)
  replace hn := Nat.le_trans hn hn2
  refine W.widen (k := 0) (n := 0) (Nat.le_of_ble_eq_true rfl) (Nat.le_of_ble_eq_true rfl) ?_
  obtain ⟨g16, e15, h⟩ := obd h
  refine r_sti hx hb hK hR hS (sk_87 hSk) e15 dX8_day_28 (fun H locs hR hS => ?_)
  obtain rfl := s1i h
  exact x_vret hx hb hr hlk hn hR hS (Nat.zero_le _) (Nat.zero_le _) ho dX8_day_29
def rm_X8_item : Room := { frames := 9, cells := 0, slots := 0, locals := 287 }
theorem hd_X8_item : yX8_item.cls = "IntentVats$Reader" ∧ yX8_item.cls ≠ "java/lang/invoke/MethodHandle" ∧ yX8_item.cls ≠ "java/lang/invoke/VarHandle" ∧ (parseMethodDescriptor yX8_item.desc).map (fun d => d.parameters.length) = some 0 := by decide +kernel
theorem he_X8_item : yX8_item.cls ≠ "java/lang/invoke/MethodHandle" ∧ yX8_item.cls ≠ "java/lang/invoke/VarHandle" ∧ (parseMethodDescriptor yX8_item.desc).map (fun d => d.parameters.length) = some 0 := hd_X8_item.2
set_option maxHeartbeats 4000000 in
set_option maxRecDepth 100000 in
theorem w_X8_item {l : Launch} {G : Gx} {sh : SM} {g : GM} {gl : LM} {gr : RM} {n0 : Nat} (hSk : Sk sh gr)  (hTx : gr 109 4 = some 108) {oo : (GM ⊕ (Nat × GM))} {o : XO} (h : f_X8_item g  = some oo) (ho : o = (oo.elim (fun p => .inl (none, sh, p, gl, gr)) (fun q => .inr (q.1, sh, q.2, gl, gr)))) : MetX l G yX8_item (ws_ yX8_item cX8_item 3 (Option.none : Option Jvm.ClassFile.FieldType)) rm_X8_item [.ref (adr G 109)] sh g gl gr n0 o := by
  refine MetX.of (by decide) (Nat.le_of_ble_eq_true rfl) ?_
  intro p e s m below meth c ls hx hb hr hml hown hts hlk htb hW hK hR hS hl
  have hn : n0 ≤ n0 := Nat.le_refl _
  have hown : s.vm.findClass RX8 = some m.cls := hown
  have hF : CallFix p m c cX8_item 3 s ([.ref (adr G 109)] : List Value).toArray lw_all RX8 := ⟨hx, hb, hml, hown, hts⟩
  have hl : lv_has ls 3 [(0, .ref (adr G 109))] := hl
  unfold f_X8_item at h
  refine lv_aload_n hx hb dX8_item_0 rfl (lv_at hl 0 rfl) ?_
  refine r_getr hx hb hts cfX8 hown hK hR (sk_109 hSk) 0 (by decide) rfl (sr_109_0 hSk) (hts _ q351) (fun _ h => h) dX8_item_1 ?_
  refine lv_aload_n hx hb dX8_item_4 rfl (lv_at hl 0 rfl) ?_
  obtain ⟨r2, e1, h⟩ := obd h
  refine rc_S0 (rest := []) (st1 := [.int r2]) hF (w_X8_placeOf hSk 110 6 0 (sk_110 hSk) (fun j hj => srq_110 hSk hj) hTx e1) (va_cwS 2 hts (lw_S q553 q554 q108 q555) rfl rfl rfl he_X8_placeOf ⟨Nat.le_of_ble_eq_true rfl, Nat.le_of_ble_eq_true rfl⟩) hW hR hS rfl hl.1 rfl (Nat.le_of_ble_eq_true rfl) rfl dX8_item_5 ⟨rfl, rfl⟩ ⟨Nat.zero_le _, Nat.zero_le _⟩ (fun H locs hR hS => ?_)
  refine lv_istore_n (lv' := [(1, .int r2), (0, .ref (adr G 109))]) hx hb dX8_item_8 rfl hl (by decide) rfl (fun ls hl => ?_)
  refine lv_aload_n hx hb dX8_item_9 rfl (lv_at hl 1 rfl) ?_
  refine r_getr hx hb hts cfX8 hown hK hR (sk_109 hSk) 1 (by decide) rfl (sr_109_1 hSk) (hts _ q352) (fun _ h => h) dX8_item_10 ?_
  refine lv_aload_n hx hb dX8_item_13 rfl (lv_at hl 1 rfl) ?_
  obtain ⟨r4, e3, h⟩ := obd h
  refine rc_S0 (rest := []) (st1 := [.int r4]) hF (w_X8_placeOf hSk 111 4 6 (sk_111 hSk) (fun j hj => srq_111 hSk hj) hTx e3) (va_cwS 2 hts (lw_S q553 q554 q108 q555) rfl rfl rfl he_X8_placeOf ⟨Nat.le_of_ble_eq_true rfl, Nat.le_of_ble_eq_true rfl⟩) hW hR hS rfl hl.1 rfl (Nat.le_of_ble_eq_true rfl) rfl dX8_item_14 ⟨rfl, rfl⟩ ⟨Nat.zero_le _, Nat.zero_le _⟩ (fun H locs hR hS => ?_)
  refine lv_istore_n (lv' := [(2, .int r4), (1, .int r2), (0, .ref (adr G 109))]) hx hb dX8_item_17 rfl hl (by decide) rfl (fun ls hl => ?_)
  refine lv_iload_n hx hb dX8_item_18 rfl (lv_at hl 1 rfl) ?_
  refine lv_aload_n hx hb dX8_item_19 rfl (lv_at hl 2 rfl) ?_
  refine r_getr hx hb hts cfX8 hown hK hR (sk_109 hSk) 0 (by decide) rfl (sr_109_0 hSk) (hts _ q351) (fun _ h => h) dX8_item_20 ?_
  refine r_alen hx hb hK hR (sk_110 hSk) (by decide) (by decide) 5 rfl dX8_item_23 ?_
  have J123 : ∀ (g5 : GM) (n : Nat) (H : Heap) (locs : List Loc) (ls : Array Slot), n0 ≤ n → Rep G sh g5 gl gr n H → va_S (own G) s.heap H locs → lv_has ls 3 [(0, .ref (adr G 109))] → j_X8_item_123  g5 = some oo → W p l e rm_X8_item s m ([.ref (adr G 109)] : List Value).toArray below meth c H locs 0 0 (XQ G below n0 o ([.ref (adr G 109)] : List Value).toArray s rm_X8_item) (F0 m 123 ls []) := by
    intro g5 n H locs ls hn hR hS hl h
    unfold j_X8_item_123 at h
    refine lv_aload_n hx hb dX8_item_123 rfl (lv_at hl 0 rfl) ?_
    refine va_ldcS hx hb hown (str_17 hW) dX8_item_124 ?_
    rcases obx12 h with ⟨ec7, g9, e6, h⟩ | ⟨g8, e6, h⟩
    · refine xc_x (xr_V (ox := (.inr (ec7, sh, g9, gl, gr))) (rest := []) hF (w_X8_must hSk 17 hTx e6 rfl) (cwV 1 hts (lw_V q651 q653 qs12 q108 q654) rfl rfl rfl hd_X8_must ⟨Nat.le_of_ble_eq_true rfl, Nat.le_of_ble_eq_true rfl⟩) cfX8 (sk_109 hSk) hK hW hR rfl hl.1 rfl (Nat.le_of_ble_eq_true rfl) dX8_item_126 ⟨Nat.le_of_ble_eq_true rfl, Nat.le_of_ble_eq_true rfl⟩) hS (fun n H locs q9 ce9 hn2 hR hS hq9 hce9 hcv9 hcl9 => ?_)
      obtain rfl := s1i h
      exact x_out htb hlk (Nat.le_trans hn hn2) hR hS (Nat.le_of_ble_eq_true rfl) (Nat.le_of_ble_eq_true rfl) ho hq9 hce9 hcv9 hcl9
    refine xc_r (xr_V (ox := (.inl (none, sh, g8, gl, gr))) (rest := []) hF (w_X8_must hSk 17 hTx e6 rfl) (cwV 1 hts (lw_V q651 q653 qs12 q108 q654) rfl rfl rfl hd_X8_must ⟨Nat.le_of_ble_eq_true rfl, Nat.le_of_ble_eq_true rfl⟩) cfX8 (sk_109 hSk) hK hW hR rfl hl.1 rfl (Nat.le_of_ble_eq_true rfl) dX8_item_126 ⟨Nat.le_of_ble_eq_true rfl, Nat.le_of_ble_eq_true rfl⟩) hS (fun n H locs hn2 hR hS => ?_)
    replace hn := Nat.le_trans hn hn2
    refine W.widen (k := 0) (n := 0) (Nat.le_of_ble_eq_true rfl) (Nat.le_of_ble_eq_true rfl) ?_
    obtain rfl := s1i h
    exact x_vret hx hb hr hlk hn hR hS (Nat.zero_le _) (Nat.zero_le _) ho dX8_item_129
  refine lv_icmp_ge (tgt := 35) hx hb dX8_item_24 (by decide) (fun c10 => ?_) (fun c10 => ?_)
  · replace h := ifp h c10
    refine lv_aload_n hx hb dX8_item_35 rfl (lv_at hl 2 rfl) ?_
    refine va_ldcS hx hb hown (str_14 hW) dX8_item_36 ?_
    obtain ⟨r12, g13, e11, h⟩ := obd2 h
    refine rc_V0 (rest := []) (st1 := [.int r12]) hF (w_X8_may hSk 14 hTx e11) (cwV 1 hts (lw_V q629 q631 qs8 q108 q632) rfl rfl rfl hd_X8_may ⟨Nat.le_of_ble_eq_true rfl, Nat.le_of_ble_eq_true rfl⟩) cfX8 (sk_109 hSk) hK hW hR hS rfl hl.1 rfl (Nat.le_of_ble_eq_true rfl) rfl dX8_item_38 ⟨rfl, rfl⟩ ⟨Nat.zero_le _, Nat.zero_le _⟩ (fun H locs hR hS => ?_)
    refine lv_if_eq (tgt := 51) hx hb dX8_item_41 (by decide) (fun c14 => ?_) (fun c14 => ?_)
    · replace h := ifp h c14
      refine lv_aload_n hx hb dX8_item_51 rfl (lv_at hl 2 rfl) ?_
      refine va_ldcS hx hb hown (str_15 hW) dX8_item_52 ?_
      obtain ⟨r16, g17, e15, h⟩ := obd2 h
      refine rc_V0 (rest := []) (st1 := [.int r16]) hF (w_X8_may hSk 15 hTx e15) (cwV 1 hts (lw_V q629 q631 qs8 q108 q632) rfl rfl rfl hd_X8_may ⟨Nat.le_of_ble_eq_true rfl, Nat.le_of_ble_eq_true rfl⟩) cfX8 (sk_109 hSk) hK hW hR hS rfl hl.1 rfl (Nat.le_of_ble_eq_true rfl) rfl dX8_item_54 ⟨rfl, rfl⟩ ⟨Nat.zero_le _, Nat.zero_le _⟩ (fun H locs hR hS => ?_)
      refine lv_if_eq (tgt := 67) hx hb dX8_item_57 (by decide) (fun c18 => ?_) (fun c18 => ?_)
      · replace h := ifp h c18
        refine lv_aload_n hx hb dX8_item_67 rfl (lv_at hl 2 rfl) ?_
        refine va_ldcS hx hb hown (str_16 hW) dX8_item_68 ?_
        obtain ⟨r20, g21, e19, h⟩ := obd2 h
        refine rc_V0 (rest := []) (st1 := [.int r20]) hF (w_X8_may hSk 16 hTx e19) (cwV 1 hts (lw_V q629 q631 qs8 q108 q632) rfl rfl rfl hd_X8_may ⟨Nat.le_of_ble_eq_true rfl, Nat.le_of_ble_eq_true rfl⟩) cfX8 (sk_109 hSk) hK hW hR hS rfl hl.1 rfl (Nat.le_of_ble_eq_true rfl) rfl dX8_item_70 ⟨rfl, rfl⟩ ⟨Nat.zero_le _, Nat.zero_le _⟩ (fun H locs hR hS => ?_)
        refine lv_if_eq (tgt := 83) hx hb dX8_item_73 (by decide) (fun c22 => ?_) (fun c22 => ?_)
        · replace h := ifp h c22
          refine lv_aload_n hx hb dX8_item_83 rfl (lv_at hl 2 rfl) ?_
          refine lv_iload_n hx hb dX8_item_84 rfl (lv_at hl 0 rfl) ?_
          refine lv_aload_n hx hb dX8_item_85 rfl (lv_at hl 2 rfl) ?_
          refine r_getr hx hb hts cfX8 hown hK hR (sk_109 hSk) 1 (by decide) rfl (sr_109_1 hSk) (hts _ q352) (fun _ h => h) dX8_item_86 ?_
          refine r_alen hx hb hK hR (sk_111 hSk) (by decide) (by decide) 5 rfl dX8_item_89 ?_
          have J98 : ∀ (x23 : Int32) (n : Nat) (H : Heap) (locs : List Loc) (ls : Array Slot), n0 ≤ n → Rep G sh g21 gl gr n H → va_S (own G) s.heap H locs → lv_has ls 3 [(0, .ref (adr G 109)), (2, .int r4)] → j_X8_item_98 r4 g21 x23 = some oo → W p l e rm_X8_item s m ([.ref (adr G 109)] : List Value).toArray below meth c H locs 0 0 (XQ G below n0 o ([.ref (adr G 109)] : List Value).toArray s rm_X8_item) (F0 m 98 ls [.int x23, .ref (adr G 109)]) := by
            intro x23 n H locs ls hn hR hS hl h
            unfold j_X8_item_98 at h
            rcases obx12 h with ⟨ec25, g27, e24, h⟩ | ⟨g26, e24, h⟩
            · refine xc_x (xr_V (ox := (.inr (ec25, sh, g27, gl, gr))) (rest := []) hF (w_X8_need hSk x23 e24 rfl) (cwV 1 hts (lw_V q612 q614 qs7 q108 q615) rfl rfl rfl hd_X8_need ⟨Nat.le_of_ble_eq_true rfl, Nat.le_of_ble_eq_true rfl⟩) cfX8 (sk_109 hSk) hK hW hR rfl hl.1 rfl (Nat.le_of_ble_eq_true rfl) dX8_item_98 ⟨Nat.le_of_ble_eq_true rfl, Nat.le_of_ble_eq_true rfl⟩) hS (fun n H locs q9 ce9 hn2 hR hS hq9 hce9 hcv9 hcl9 => ?_)
              obtain rfl := s1i h
              exact x_out htb hlk (Nat.le_trans hn hn2) hR hS (Nat.le_of_ble_eq_true rfl) (Nat.le_of_ble_eq_true rfl) ho hq9 hce9 hcv9 hcl9
            refine xc_r (xr_V (ox := (.inl (none, sh, g26, gl, gr))) (rest := []) hF (w_X8_need hSk x23 e24 rfl) (cwV 1 hts (lw_V q612 q614 qs7 q108 q615) rfl rfl rfl hd_X8_need ⟨Nat.le_of_ble_eq_true rfl, Nat.le_of_ble_eq_true rfl⟩) cfX8 (sk_109 hSk) hK hW hR rfl hl.1 rfl (Nat.le_of_ble_eq_true rfl) dX8_item_98 ⟨Nat.le_of_ble_eq_true rfl, Nat.le_of_ble_eq_true rfl⟩) hS (fun n H locs hn2 hR hS => ?_)
            replace hn := Nat.le_trans hn hn2
            refine W.widen (k := 0) (n := 0) (Nat.le_of_ble_eq_true rfl) (Nat.le_of_ble_eq_true rfl) ?_
            refine lv_aload_n hx hb dX8_item_101 rfl (lv_at hl 0 rfl) ?_
            obtain ⟨g29, e28, h⟩ := obd h
            refine rc_V0 (rest := []) (st1 := []) hF (w_X8_next hSk hTx e28) (cwV 0 hts (lw_V q534 q536 qs2 q108 q537) rfl rfl rfl hd_X8_next ⟨Nat.le_of_ble_eq_true rfl, Nat.le_of_ble_eq_true rfl⟩) cfX8 (sk_109 hSk) hK hW hR hS rfl hl.1 rfl (Nat.le_of_ble_eq_true rfl) rfl dX8_item_102 ⟨rfl, rfl⟩ ⟨Nat.zero_le _, Nat.zero_le _⟩ (fun H locs hR hS => ?_)
            refine lv_aload_n hx hb dX8_item_105 rfl (lv_at hl 0 rfl) ?_
            refine r_getr hx hb hts cfX8 hown hK hR (sk_109 hSk) 3 (by decide) rfl (sr_109_3 hSk) (hts _ q354) (fun _ h => h) dX8_item_106 ?_
            refine r_getrN hx hb hts cfX1 hown hK hR (sk_83 hSk) 4 (by decide) rfl (sr_83_4 hSk) (hW.nestF q168) (fun _ h => h) dX8_item_109 ?_
            refine lv_iload_n hx hb dX8_item_112 rfl (lv_at hl 1 rfl) ?_
            refine lv_aload_n hx hb dX8_item_113 rfl (lv_at hl 0 rfl) ?_
            refine lv_iconst (v := 0) hx hb dX8_item_114 ki_0 ?_
            refine lv_iload_n hx hb dX8_item_115 rfl (lv_at hl 1 rfl) ?_
            obtain ⟨r31, e30, h⟩ := obd h
            refine rc_SN0 (rest := [.int 0, .ref (adr G 109), .int r4, .ref (adr G 84)]) (st1 := [.int r31, .int 0, .ref (adr G 109), .int r4, .ref (adr G 84)]) hF (w_X0_mostOf hSk r4 e30) ⟨va_cnB 1 hts (lw_meth q667) rfl rfl rfl (hW.nestM q665) (hts _ q100) he_X0_mostOf ⟨Nat.le_of_ble_eq_true rfl, Nat.le_of_ble_eq_true rfl⟩, hts _ q666, trivial⟩ hW hR hS rfl hl.1 rfl (Nat.le_of_ble_eq_true rfl) rfl dX8_item_116 ⟨rfl, rfl⟩ ⟨Nat.zero_le _, Nat.zero_le _⟩ (fun H locs hR hS => ?_)
            rcases obx22 h with ⟨ec34, g36, e32, h⟩ | ⟨r33, g35, e32, h⟩
            · refine xc_x (xr_V (ox := (.inr (ec34, sh, g36, gl, gr))) (rest := [.int r4, .ref (adr G 84)]) hF (w_X8_number hSk 0 r31 hTx e32 rfl) (cwV 2 hts (lw_V q633 q635 qs9 q108 q636) rfl rfl rfl hd_X8_number ⟨Nat.le_of_ble_eq_true rfl, Nat.le_of_ble_eq_true rfl⟩) cfX8 (sk_109 hSk) hK hW hR rfl hl.1 rfl (Nat.le_of_ble_eq_true rfl) dX8_item_119 ⟨Nat.le_of_ble_eq_true rfl, Nat.le_of_ble_eq_true rfl⟩) hS (fun n H locs q9 ce9 hn2 hR hS hq9 hce9 hcv9 hcl9 => ?_)
              obtain rfl := s1i h
              exact x_out htb hlk (Nat.le_trans hn hn2) hR hS (Nat.le_of_ble_eq_true rfl) (Nat.le_of_ble_eq_true rfl) ho hq9 hce9 hcv9 hcl9
            refine xc_r (xr_V (ox := (.inl (some (.int r33), sh, g35, gl, gr))) (rest := [.int r4, .ref (adr G 84)]) hF (w_X8_number hSk 0 r31 hTx e32 rfl) (cwV 2 hts (lw_V q633 q635 qs9 q108 q636) rfl rfl rfl hd_X8_number ⟨Nat.le_of_ble_eq_true rfl, Nat.le_of_ble_eq_true rfl⟩) cfX8 (sk_109 hSk) hK hW hR rfl hl.1 rfl (Nat.le_of_ble_eq_true rfl) dX8_item_119 ⟨Nat.le_of_ble_eq_true rfl, Nat.le_of_ble_eq_true rfl⟩) hS (fun n H locs hn2 hR hS => ?_)
            replace hn := Nat.le_trans hn hn2
            refine W.widen (k := 0) (n := 0) (Nat.le_of_ble_eq_true rfl) (Nat.le_of_ble_eq_true rfl) ?_
            obtain ⟨g38, e37, h⟩ := obd h
            refine r_sti hx hb hK hR hS (sk_84 hSk) e37 dX8_item_122 (fun H locs hR hS => ?_)
            exact J123 g38 _ _ _ _ hn hR hS (lv_sub hl [0] rfl) h
          refine lv_icmp_ge (tgt := 97) hx hb dX8_item_90 (by decide) (fun c39 => ?_) (fun c39 => ?_)
          · replace h := ifp h c39
            refine lv_iconst (v := 0) hx hb dX8_item_97 ki_0 ?_
            exact J98 0 _ _ _ _ hn hR hS (lv_sub hl [2, 0] rfl) h
          · replace h := ifn h c39
            refine lv_iconst (v := 1) hx hb dX8_item_93 ki_1 ?_
            refine lv_goto (tgt := 98) hx hb dX8_item_94 (by decide) ?_
            exact J98 1 _ _ _ _ hn hR hS (lv_sub hl [2, 0] rfl) h
        · replace h := ifn h c22
          refine lv_aload_n hx hb dX8_item_76 rfl (lv_at hl 2 rfl) ?_
          rcases obx12 h with ⟨ec41, g43, e40, h⟩ | ⟨g42, e40, h⟩
          · refine xc_x (xr_V (ox := (.inr (ec41, sh, g43, gl, gr))) (rest := []) hF (w_X8_day hSk hTx e40 rfl) (cwV 0 hts (lw_V q661 q663 qs14 q108 q664) rfl rfl rfl hd_X8_day ⟨Nat.le_of_ble_eq_true rfl, Nat.le_of_ble_eq_true rfl⟩) cfX8 (sk_109 hSk) hK hW hR rfl hl.1 rfl (Nat.le_of_ble_eq_true rfl) dX8_item_77 ⟨Nat.le_of_ble_eq_true rfl, Nat.le_of_ble_eq_true rfl⟩) hS (fun n H locs q9 ce9 hn2 hR hS hq9 hce9 hcv9 hcl9 => ?_)
            obtain rfl := s1i h
            exact x_out htb hlk (Nat.le_trans hn hn2) hR hS (Nat.le_of_ble_eq_true rfl) (Nat.le_of_ble_eq_true rfl) ho hq9 hce9 hcv9 hcl9
          refine xc_r (xr_V (ox := (.inl (none, sh, g42, gl, gr))) (rest := []) hF (w_X8_day hSk hTx e40 rfl) (cwV 0 hts (lw_V q661 q663 qs14 q108 q664) rfl rfl rfl hd_X8_day ⟨Nat.le_of_ble_eq_true rfl, Nat.le_of_ble_eq_true rfl⟩) cfX8 (sk_109 hSk) hK hW hR rfl hl.1 rfl (Nat.le_of_ble_eq_true rfl) dX8_item_77 ⟨Nat.le_of_ble_eq_true rfl, Nat.le_of_ble_eq_true rfl⟩) hS (fun n H locs hn2 hR hS => ?_)
          replace hn := Nat.le_trans hn hn2
          refine W.widen (k := 0) (n := 0) (Nat.le_of_ble_eq_true rfl) (Nat.le_of_ble_eq_true rfl) ?_
          refine lv_goto (tgt := 123) hx hb dX8_item_80 (by decide) ?_
          exact J123 g42 _ _ _ _ hn hR hS (lv_sub hl [2] rfl) h
      · replace h := ifn h c18
        refine lv_aload_n hx hb dX8_item_60 rfl (lv_at hl 2 rfl) ?_
        rcases obx12 h with ⟨ec45, g47, e44, h⟩ | ⟨g46, e44, h⟩
        · refine xc_x (xr_V (ox := (.inr (ec45, sh, g47, gl, gr))) (rest := []) hF (w_X8_strong hSk hTx e44 rfl) (cwV 0 hts (lw_V q656 q658 qs13 q108 q659) rfl rfl rfl hd_X8_strong ⟨Nat.le_of_ble_eq_true rfl, Nat.le_of_ble_eq_true rfl⟩) cfX8 (sk_109 hSk) hK hW hR rfl hl.1 rfl (Nat.le_of_ble_eq_true rfl) dX8_item_61 ⟨Nat.le_of_ble_eq_true rfl, Nat.le_of_ble_eq_true rfl⟩) hS (fun n H locs q9 ce9 hn2 hR hS hq9 hce9 hcv9 hcl9 => ?_)
          obtain rfl := s1i h
          exact x_out htb hlk (Nat.le_trans hn hn2) hR hS (Nat.le_of_ble_eq_true rfl) (Nat.le_of_ble_eq_true rfl) ho hq9 hce9 hcv9 hcl9
        refine xc_r (xr_V (ox := (.inl (none, sh, g46, gl, gr))) (rest := []) hF (w_X8_strong hSk hTx e44 rfl) (cwV 0 hts (lw_V q656 q658 qs13 q108 q659) rfl rfl rfl hd_X8_strong ⟨Nat.le_of_ble_eq_true rfl, Nat.le_of_ble_eq_true rfl⟩) cfX8 (sk_109 hSk) hK hW hR rfl hl.1 rfl (Nat.le_of_ble_eq_true rfl) dX8_item_61 ⟨Nat.le_of_ble_eq_true rfl, Nat.le_of_ble_eq_true rfl⟩) hS (fun n H locs hn2 hR hS => ?_)
        replace hn := Nat.le_trans hn hn2
        refine W.widen (k := 0) (n := 0) (Nat.le_of_ble_eq_true rfl) (Nat.le_of_ble_eq_true rfl) ?_
        refine lv_goto (tgt := 123) hx hb dX8_item_64 (by decide) ?_
        exact J123 g46 _ _ _ _ hn hR hS (lv_sub hl [2] rfl) h
    · replace h := ifn h c14
      refine lv_aload_n hx hb dX8_item_44 rfl (lv_at hl 2 rfl) ?_
      rcases obx12 h with ⟨ec49, g51, e48, h⟩ | ⟨g50, e48, h⟩
      · refine xc_x (xr_V (ox := (.inr (ec49, sh, g51, gl, gr))) (rest := []) hF (w_X8_vat hSk hTx e48 rfl) (cwV 0 hts (lw_V q646 q648 qs11 q108 q649) rfl rfl rfl hd_X8_vat ⟨Nat.le_of_ble_eq_true rfl, Nat.le_of_ble_eq_true rfl⟩) cfX8 (sk_109 hSk) hK hW hR rfl hl.1 rfl (Nat.le_of_ble_eq_true rfl) dX8_item_45 ⟨Nat.le_of_ble_eq_true rfl, Nat.le_of_ble_eq_true rfl⟩) hS (fun n H locs q9 ce9 hn2 hR hS hq9 hce9 hcv9 hcl9 => ?_)
        obtain rfl := s1i h
        exact x_out htb hlk (Nat.le_trans hn hn2) hR hS (Nat.le_of_ble_eq_true rfl) (Nat.le_of_ble_eq_true rfl) ho hq9 hce9 hcv9 hcl9
      refine xc_r (xr_V (ox := (.inl (none, sh, g50, gl, gr))) (rest := []) hF (w_X8_vat hSk hTx e48 rfl) (cwV 0 hts (lw_V q646 q648 qs11 q108 q649) rfl rfl rfl hd_X8_vat ⟨Nat.le_of_ble_eq_true rfl, Nat.le_of_ble_eq_true rfl⟩) cfX8 (sk_109 hSk) hK hW hR rfl hl.1 rfl (Nat.le_of_ble_eq_true rfl) dX8_item_45 ⟨Nat.le_of_ble_eq_true rfl, Nat.le_of_ble_eq_true rfl⟩) hS (fun n H locs hn2 hR hS => ?_)
      replace hn := Nat.le_trans hn hn2
      refine W.widen (k := 0) (n := 0) (Nat.le_of_ble_eq_true rfl) (Nat.le_of_ble_eq_true rfl) ?_
      refine lv_goto (tgt := 123) hx hb dX8_item_48 (by decide) ?_
      exact J123 g50 _ _ _ _ hn hR hS (lv_sub hl [2] rfl) h
  · replace h := ifn h c10
    refine lv_aload_n hx hb dX8_item_27 rfl (lv_at hl 2 rfl) ?_
    refine lv_iload_n hx hb dX8_item_28 rfl (lv_at hl 1 rfl) ?_
    rcases obx12 h with ⟨ec53, g55, e52, h⟩ | ⟨g54, e52, h⟩
    · refine xc_x (xr_V (ox := (.inr (ec53, sh, g55, gl, gr))) (rest := []) hF (w_X8_cloth hSk r2 hTx e52 rfl) (cwV 1 hts (lw_V q608 q610 qs6 q108 q611) rfl rfl rfl hd_X8_cloth ⟨Nat.le_of_ble_eq_true rfl, Nat.le_of_ble_eq_true rfl⟩) cfX8 (sk_109 hSk) hK hW hR rfl hl.1 rfl (Nat.le_of_ble_eq_true rfl) dX8_item_29 ⟨Nat.le_of_ble_eq_true rfl, Nat.le_of_ble_eq_true rfl⟩) hS (fun n H locs q9 ce9 hn2 hR hS hq9 hce9 hcv9 hcl9 => ?_)
      obtain rfl := s1i h
      exact x_out htb hlk (Nat.le_trans hn hn2) hR hS (Nat.le_of_ble_eq_true rfl) (Nat.le_of_ble_eq_true rfl) ho hq9 hce9 hcv9 hcl9
    refine xc_r (xr_V (ox := (.inl (none, sh, g54, gl, gr))) (rest := []) hF (w_X8_cloth hSk r2 hTx e52 rfl) (cwV 1 hts (lw_V q608 q610 qs6 q108 q611) rfl rfl rfl hd_X8_cloth ⟨Nat.le_of_ble_eq_true rfl, Nat.le_of_ble_eq_true rfl⟩) cfX8 (sk_109 hSk) hK hW hR rfl hl.1 rfl (Nat.le_of_ble_eq_true rfl) dX8_item_29 ⟨Nat.le_of_ble_eq_true rfl, Nat.le_of_ble_eq_true rfl⟩) hS (fun n H locs hn2 hR hS => ?_)
    replace hn := Nat.le_trans hn hn2
    refine W.widen (k := 0) (n := 0) (Nat.le_of_ble_eq_true rfl) (Nat.le_of_ble_eq_true rfl) ?_
    refine lv_goto (tgt := 123) hx hb dX8_item_32 (by decide) ?_
    exact J123 g54 _ _ _ _ hn hR hS (lv_sub hl [2] rfl) h
def rm_X8_read : Room := { frames := 10, cells := 0, slots := 0, locals := 309 }
theorem hd_X8_read : yX8_read.cls = "IntentVats$Reader" ∧ yX8_read.cls ≠ "java/lang/invoke/MethodHandle" ∧ yX8_read.cls ≠ "java/lang/invoke/VarHandle" ∧ (parseMethodDescriptor yX8_read.desc).map (fun d => d.parameters.length) = some 2 := by decide +kernel
theorem he_X8_read : yX8_read.cls ≠ "java/lang/invoke/MethodHandle" ∧ yX8_read.cls ≠ "java/lang/invoke/VarHandle" ∧ (parseMethodDescriptor yX8_read.desc).map (fun d => d.parameters.length) = some 2 := hd_X8_read.2
set_option maxHeartbeats 4000000 in
set_option maxRecDepth 100000 in
theorem w_X8_read {l : Launch} {G : Gx} {sh : SM} {g : GM} {gl : LM} {gr : RM} {n0 : Nat} (hSk : Sk sh gr) (a2 : Int32)  {oo : ((GM × RM) ⊕ (Nat × GM × RM))} {o : XO} (h : f_X8_read g gr a2 = some oo) (ho : o = (oo.elim (fun p => .inl (none, sh, p.1, gl, p.2)) (fun q => .inr (q.1, sh, q.2.1, gl, q.2.2)))) : MetX l G yX8_read (ws_ yX8_read cX8_read 3 (Option.none : Option Jvm.ClassFile.FieldType)) rm_X8_read [.ref (adr G 109), .ref (adr G 108), .int a2] sh g gl gr n0 o := by
  refine MetX.of (by decide) (Nat.le_of_ble_eq_true rfl) ?_
  intro p e s m below meth c ls hx hb hr hml hown hts hlk htb hW hK hR hS hl
  have hn : n0 ≤ n0 := Nat.le_refl _
  have hown : s.vm.findClass RX8 = some m.cls := hown
  have hF : CallFix p m c cX8_read 3 s ([.ref (adr G 109), .ref (adr G 108), .int a2] : List Value).toArray lw_all RX8 := ⟨hx, hb, hml, hown, hts⟩
  have hl : lv_has ls 3 [(0, .ref (adr G 109)), (1, .ref (adr G 108)), (2, .int a2)] := hl
  unfold f_X8_read at h
  refine lv_aload_n hx hb dX8_read_0 rfl (lv_at hl 0 rfl) ?_
  refine lv_aload_n hx hb dX8_read_1 rfl (lv_at hl 1 rfl) ?_
  refine lv_iload_n hx hb dX8_read_2 rfl (lv_at hl 2 rfl) ?_
  obtain ⟨g2, gr3, e1, h⟩ := obd2 h
  refine rc_V0 (rest := []) (st1 := []) hF (w_X8_begins hSk a2 e1) (cwV 2 hts (lw_V q530 q532 qs1 q108 q533) rfl rfl rfl hd_X8_begins ⟨Nat.le_of_ble_eq_true rfl, Nat.le_of_ble_eq_true rfl⟩) cfX8 (sk_109 hSk) hK hW hR hS rfl hl.1 rfl (Nat.le_of_ble_eq_true rfl) rfl dX8_read_3 ⟨rfl, rfl⟩ ⟨Nat.zero_le _, Nat.zero_le _⟩ (fun H locs hR hS => ?_)
  have hTx := begins_tx e1
  have hSk := begins_sk hSk e1
  refine lv_aload_n hx hb dX8_read_6 rfl (lv_at hl 0 rfl) ?_
  refine r_getr hx hb hts cfX8 hown hK hR (sk_109 hSk) 3 (by decide) rfl (sr_109_3 hSk) (hts _ q354) (fun _ h => h) dX8_read_7 ?_
  obtain ⟨g5, e4, h⟩ := obd h
  refine rc_V0 (rest := []) (st1 := []) hF (w_X1_begins hSk 83 (isMl_83) e4) (cwV 0 hts (lw_V q548 q149 q150 q101 q151) rfl rfl rfl hd_X1_begins ⟨Nat.le_of_ble_eq_true rfl, Nat.le_of_ble_eq_true rfl⟩) cfX1 (sk_83 hSk) hK hW hR hS rfl hl.1 rfl (Nat.le_of_ble_eq_true rfl) rfl dX8_read_10 ⟨rfl, rfl⟩ ⟨Nat.zero_le _, Nat.zero_le _⟩ (fun H locs hR hS => ?_)
  have J13 : ∀ (k13 : Nat) (g6 : GM) (n : Nat) (H : Heap) (locs : List Loc) (ls : Array Slot), n0 ≤ n → Rep G sh g6 gl gr3 n H → va_S (own G) s.heap H locs → lv_has ls 3 [(0, .ref (adr G 109))] → l_X8_read_13 gr3 k13 g6 = some oo → W p l e rm_X8_read s m ([.ref (adr G 109), .ref (adr G 108), .int a2] : List Value).toArray below meth c H locs 0 0 (XQ G below n0 o ([.ref (adr G 109), .ref (adr G 108), .int a2] : List Value).toArray s rm_X8_read) (F0 m 13 ls []) := by
    intro k13
    induction k13 with
    | zero => intro _ _ _ _ _ _ _ _ _; exact nofun
    | succ k13 ih13 =>
      intro g6 n H locs ls hn hR hS hl h
      unfold l_X8_read_13 b_X8_read_13 at h
      refine lv_aload_n hx hb dX8_read_13 rfl (lv_at hl 0 rfl) ?_
      refine r_geti hx hb hts cfX8 hown hK hR (sk_109 hSk) 6 (by decide) rfl (hts _ q357) (fun _ h => h) dX8_read_14 ?_
      refine lv_aload_n hx hb dX8_read_17 rfl (lv_at hl 0 rfl) ?_
      refine r_geti hx hb hts cfX8 hown hK hR (sk_109 hSk) 5 (by decide) rfl (hts _ q356) (fun _ h => h) dX8_read_18 ?_
      refine lv_icmp_ge (tgt := 31) hx hb dX8_read_21 (by decide) (fun c7 => ?_) (fun c7 => ?_)
      · replace h := ifp h c7
        obtain rfl := s1i h
        exact x_vret hx hb hr hlk hn hR hS (Nat.zero_le _) (Nat.zero_le _) ho dX8_read_31
      · replace h := ifn h c7
        refine lv_aload_n hx hb dX8_read_24 rfl (lv_at hl 0 rfl) ?_
        rcases obx12 h with ⟨ec9, g11, e8, h⟩ | ⟨g10, e8, h⟩
        · refine xc_x (xr_V (ox := (.inr (ec9, sh, g11, gl, gr3))) (rest := []) hF (w_X8_item hSk hTx e8 rfl) (cwV 0 hts (lw_V q549 q551 qs4 q108 q552) rfl rfl rfl hd_X8_item ⟨Nat.le_of_ble_eq_true rfl, Nat.le_of_ble_eq_true rfl⟩) cfX8 (sk_109 hSk) hK hW hR rfl hl.1 rfl (Nat.le_of_ble_eq_true rfl) dX8_read_25 ⟨Nat.le_of_ble_eq_true rfl, Nat.le_of_ble_eq_true rfl⟩) hS (fun n H locs q9 ce9 hn2 hR hS hq9 hce9 hcv9 hcl9 => ?_)
          obtain rfl := s1i h
          exact x_out htb hlk (Nat.le_trans hn hn2) hR hS (Nat.le_of_ble_eq_true rfl) (Nat.le_of_ble_eq_true rfl) ho hq9 hce9 hcv9 hcl9
        refine xc_r (xr_V (ox := (.inl (none, sh, g10, gl, gr3))) (rest := []) hF (w_X8_item hSk hTx e8 rfl) (cwV 0 hts (lw_V q549 q551 qs4 q108 q552) rfl rfl rfl hd_X8_item ⟨Nat.le_of_ble_eq_true rfl, Nat.le_of_ble_eq_true rfl⟩) cfX8 (sk_109 hSk) hK hW hR rfl hl.1 rfl (Nat.le_of_ble_eq_true rfl) dX8_read_25 ⟨Nat.le_of_ble_eq_true rfl, Nat.le_of_ble_eq_true rfl⟩) hS (fun n H locs hn2 hR hS => ?_)
        replace hn := Nat.le_trans hn hn2
        refine W.widen (k := 0) (n := 0) (Nat.le_of_ble_eq_true rfl) (Nat.le_of_ble_eq_true rfl) ?_
        refine lv_goto (tgt := 13) hx hb dX8_read_28 (by decide) ?_
        exact ih13 g10 _ _ _ _ hn hR hS (lv_sub hl [0] rfl) h
  exact J13 fuel g5 _ _ _ _ hn hR hS (lv_sub hl [0] rfl) h
