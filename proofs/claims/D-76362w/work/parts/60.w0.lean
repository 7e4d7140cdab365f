/-! walks: X0_feed, X0_mill, X0_set, X0_lawOf, X0_isVat, X0_becomes, X0_fill, X0_vatOf, X0_isRest, X0_roster, X0_rosterOf, X0_isKind, X0_cloth, X0_isCloth, X0_of, X0_wayOf, X0_does, X0_mind, X0_isPurpose, X0_steep -/
def rm_X0_feed : Room := { frames := 2, cells := 0, slots := 0, locals := 34 }
theorem hd_X0_feed : yX0_feed.cls = "IntentVats" ∧ yX0_feed.cls ≠ "java/lang/invoke/MethodHandle" ∧ yX0_feed.cls ≠ "java/lang/invoke/VarHandle" ∧ (parseMethodDescriptor yX0_feed.desc).map (fun d => d.parameters.length) = some 2 := by decide +kernel
theorem he_X0_feed : yX0_feed.cls ≠ "java/lang/invoke/MethodHandle" ∧ yX0_feed.cls ≠ "java/lang/invoke/VarHandle" ∧ (parseMethodDescriptor yX0_feed.desc).map (fun d => d.parameters.length) = some 2 := hd_X0_feed.2

set_option maxHeartbeats 4000000 in
set_option maxRecDepth 100000 in
theorem w_X0_feed {l : Launch} {G : Gx} {sh : SM} {g : GM} {gl : LM} {gr : RM} {n : Nat} (hSk : Sk sh gr) (a1 : Int64) (a3 : Int32)  {r : Int32} {go : GM} (h : f_X0_feed g a1 a3 = some (r, go)) : MetI l G yX0_feed (ws_ yX0_feed cX0_feed 5 (Option.some Jvm.ClassFile.FieldType.int)) rm_X0_feed [.ref (adr G 64), .long a1, .int a3] sh g gl gr n (some (.int r)) sh go gl gr n := by
  refine MetI.of (by decide) (Nat.le_of_ble_eq_true rfl) ?_
  intro p e s m below meth c ls hx hb hr hml hown hts hlk hnm hW hK hR hS hl
  have hown : s.vm.findClass RX0 = some m.cls := hown
  have hF : CallFix p m c cX0_feed 5 s ([.ref (adr G 64), .long a1, .int a3] : List Value).toArray lw_all RX0 := ⟨hx, hb, hml, hown, hts⟩
  have hl : lv_has ls 5 [(0, .ref (adr G 64)), (1, .long a1), (3, .int a3)] := hl
  unfold f_X0_feed at h
  refine lv_iload_n hx hb dX0_feed_0 rfl (lv_at hl 2 rfl) ?_
  refine lv_iconst (v := 1) hx hb dX0_feed_1 ki_1 ?_
  refine lv_bipush (v := 8) hx hb dX0_feed_2 kb_8 ?_
  obtain ⟨r2, e1, h⟩ := obd h
  refine rc_S0 (rest := []) (st1 := [.int r2]) hF (w_X0_in hSk a3 1 8 e1) (va_cwS 3 hts (lw_S q508 q509 q100 q510) rfl rfl rfl he_X0_in ⟨Nat.le_of_ble_eq_true rfl, Nat.le_of_ble_eq_true rfl⟩) hW hR hS rfl hl.1 rfl (Nat.le_of_ble_eq_true rfl) rfl dX0_feed_4 ⟨rfl, rfl⟩ ⟨Nat.zero_le _, Nat.zero_le _⟩ (fun H locs hR hS => ?_)
  refine lv_if_ne (tgt := 12) hx hb dX0_feed_7 (by decide) (fun c3 => ?_) (fun c3 => ?_)
  · replace h := ifn h c3
    refine lv_aload_n hx hb dX0_feed_12 rfl (lv_at hl 0 rfl) ?_
    refine r_geti hx hb hts cfX0 hown hK hR (sk_64 hSk) 7 (by decide) rfl (hts _ q456) (fun _ h => h) dX0_feed_13 ?_
    refine lv_iload_n hx hb dX0_feed_16 rfl (lv_at hl 2 rfl) ?_
    refine lv_iadd hx hb dX0_feed_17 ?_
    refine lv_sipush (v := 200) hx hb dX0_feed_18 ks_200 ?_
    refine lv_icmp_le (tgt := 27) hx hb dX0_feed_21 (by decide) (fun c4 => ?_) (fun c4 => ?_)
    · replace h := ifp h c4
      refine lv_iconst (v := 0) hx hb dX0_feed_27 ki_0 ?_
      refine lv_istore (lv' := [(4, .int 0), (0, .ref (adr G 64)), (1, .long a1), (3, .int a3)]) hx hb dX0_feed_28 hl (by decide) rfl (fun ls hl => ?_)
      have J30 : ∀ (k30 : Nat) (x5 : Int32) (g6 : GM) (H : Heap) (locs : List Loc) (ls : Array Slot), Rep G sh g6 gl gr n H → va_S (own G) s.heap H locs → lv_has ls 5 [(0, .ref (adr G 64)), (1, .long a1), (3, .int a3), (4, .int x5)] → l_X0_feed_30 a1 a3 k30 x5 g6 = some (r, go) → W p l e rm_X0_feed s m ([.ref (adr G 64), .long a1, .int a3] : List Value).toArray below meth c H locs 0 0 (MQ below (QR G (some (.int r)) sh go gl gr n) ([.ref (adr G 64), .long a1, .int a3] : List Value).toArray s rm_X0_feed.cells rm_X0_feed.slots (own G)) (F0 m 30 ls []) := by
        intro k30
        induction k30 with
        | zero => intro _ _ _ _ _ _ _ _; exact nofun
        | succ k30 ih30 =>
          intro x5 g6 H locs ls hR hS hl h
          unfold l_X0_feed_30 b_X0_feed_30 at h
          refine lv_iload hx hb dX0_feed_30 (lv_at hl 3 rfl) ?_
          refine lv_iload_n hx hb dX0_feed_32 rfl (lv_at hl 2 rfl) ?_
          refine lv_icmp_ge (tgt := 70) hx hb dX0_feed_33 (by decide) (fun c7 => ?_) (fun c7 => ?_)
          · replace h := ifp h c7
            refine lv_aload_n hx hb dX0_feed_70 rfl (lv_at hl 0 rfl) ?_
            refine r_geti hx hb hts cfX0 hown hK hR (sk_64 hSk) 7 (by decide) rfl (hts _ q456) (fun _ h => h) dX0_feed_71 ?_
            obtain ⟨rfl, rfl⟩ := s2i h
            exact r_iret0 hx hb hr hlk hR hS (Nat.zero_le _) (Nat.zero_le _) dX0_feed_74
          · replace h := ifn h c7
            refine lv_aload_n hx hb dX0_feed_36 rfl (lv_at hl 0 rfl) ?_
            refine r_getr hx hb hts cfX0 hown hK hR (sk_64 hSk) 6 (by decide) rfl (sr_64_6 hSk) (hts _ q455) (fun _ h => h) dX0_feed_37 ?_
            refine lv_aload_n hx hb dX0_feed_40 rfl (lv_at hl 0 rfl) ?_
            refine r_geti hx hb hts cfX0 hown hK hR (sk_64 hSk) 7 (by decide) rfl (hts _ q456) (fun _ h => h) dX0_feed_41 ?_
            refine lv_lload_n hx hb dX0_feed_44 rfl (lv_at hl 1 rfl) ?_
            refine lv_bipush (v := 8) hx hb dX0_feed_45 kb_8 ?_
            refine lv_iload hx hb dX0_feed_47 (lv_at hl 3 rfl) ?_
            refine lv_imul hx hb dX0_feed_49 ?_
            refine lv_lshr hx hb dX0_feed_50 rfl ?_
            refine lv_l2i hx hb dX0_feed_51 rfl ?_
            refine lv_i2b hx hb dX0_feed_52 rfl ?_
            obtain ⟨g9, e8, h⟩ := obd h
            refine r_stb hx hb hK hR hS (sk_108 hSk) e8 dX0_feed_53 (fun H locs hR hS => ?_)
            refine lv_aload_n hx hb dX0_feed_54 rfl (lv_at hl 0 rfl) ?_
            refine lv_dup hx hb dX0_feed_55 rfl ?_
            refine r_geti hx hb hts cfX0 hown hK hR (sk_64 hSk) 7 (by decide) rfl (hts _ q456) (fun _ h => h) dX0_feed_56 ?_
            refine lv_iconst (v := 1) hx hb dX0_feed_59 ki_1 ?_
            refine lv_iadd hx hb dX0_feed_60 ?_
            obtain ⟨g11, e10, h⟩ := obd h
            refine r_puti hx hb hts cfX0 hown hK hR hS (sk_64 hSk) 7 (by decide) rfl (hts _ q456) (fun _ h => h) (Or.inl rfl) rfl rfl e10 dX0_feed_61 (fun H locs hR hS => ?_)
            refine lv_iinc (v := x5 + 1) (lv' := [(4, .int (x5 + 1)), (0, .ref (adr G 64)), (1, .long a1), (3, .int a3)]) hx hb dX0_feed_64 hl (k := 3) rfl rfl (by decide) rfl (fun ls hl => ?_)
            refine lv_goto (tgt := 30) hx hb dX0_feed_67 (by decide) ?_
            exact ih30 (x5 + 1) g11 _ _ _ hR hS (lv_sub hl [1, 2, 3, 0] rfl) h
      exact J30 fuel 0 g _ _ _ hR hS (lv_sub hl [1, 2, 3, 0] rfl) h
    · replace h := ifn h c4
      refine lv_bipush (v := (-2)) hx hb dX0_feed_24 kb_m2 ?_
      obtain ⟨rfl, rfl⟩ := s2i h
      exact r_iret0 hx hb hr hlk hR hS (Nat.zero_le _) (Nat.zero_le _) dX0_feed_26
  · replace h := ifp h c3
    refine lv_iconst (v := (-1)) hx hb dX0_feed_10 ki_m1 ?_
    obtain ⟨rfl, rfl⟩ := s2i h
    exact r_iret0 hx hb hr hlk hR hS (Nat.zero_le _) (Nat.zero_le _) dX0_feed_11
def rm_X0_mill : Room := { frames := 11, cells := 0, slots := 0, locals := 331 }
theorem hd_X0_mill : yX0_mill.cls = "IntentVats" ∧ yX0_mill.cls ≠ "java/lang/invoke/MethodHandle" ∧ yX0_mill.cls ≠ "java/lang/invoke/VarHandle" ∧ (parseMethodDescriptor yX0_mill.desc).map (fun d => d.parameters.length) = some 0 := by decide +kernel
theorem he_X0_mill : yX0_mill.cls ≠ "java/lang/invoke/MethodHandle" ∧ yX0_mill.cls ≠ "java/lang/invoke/VarHandle" ∧ (parseMethodDescriptor yX0_mill.desc).map (fun d => d.parameters.length) = some 0 := hd_X0_mill.2
set_option maxHeartbeats 4000000 in
set_option maxRecDepth 100000 in
theorem w_X0_mill {l : Launch} {G : Gx} {sh : SM} {g : GM} {gl : LM} {gr : RM} {n0 : Nat} (hSk : Sk sh gr)   {oo : ((Int32 × GM × RM) ⊕ (Nat × GM × RM))} {o : XO} (h : f_X0_mill g gr  = some oo) (ho : o = (oo.elim (fun p => .inl (some (.int p.1), sh, p.2.1, gl, p.2.2)) (fun q => .inr (q.1, sh, q.2.1, gl, q.2.2)))) : MetX l G yX0_mill (wsW_ yX0_mill cX0_mill 3 (Option.some Jvm.ClassFile.FieldType.int) [(21, 33, 36, 210)]) rm_X0_mill [.ref (adr G 64)] sh g gl gr n0 o := by
  refine MetX.ofW (by decide) (Nat.le_of_ble_eq_true rfl) ?_
  intro p e s m below meth c ls hx hb hr hml hown hts hlk htb hW hK hR hS hl
  have hn : n0 ≤ n0 := Nat.le_refl _
  have hown : s.vm.findClass RX0 = some m.cls := hown
  have hF : CallFix p m c cX0_mill 3 s ([.ref (adr G 64)] : List Value).toArray lw_all RX0 := ⟨hx, hb, hml, hown, hts⟩
  have hl : lv_has ls 3 [(0, .ref (adr G 64))] := hl
  unfold f_X0_mill at h
  refine lv_aload_n hx hb dX0_mill_0 rfl (lv_at hl 0 rfl) ?_
  refine r_geti hx hb hts cfX0 hown hK hR (sk_64 hSk) 7 (by decide) rfl (hts _ q456) (fun _ h => h) dX0_mill_1 ?_
  refine lv_istore_n (lv' := [(1, .int (g 64 7)), (0, .ref (adr G 64))]) hx hb dX0_mill_4 rfl hl (by decide) rfl (fun ls hl => ?_)
  refine lv_aload_n hx hb dX0_mill_5 rfl (lv_at hl 1 rfl) ?_
  refine lv_iconst (v := 0) hx hb dX0_mill_6 ki_0 ?_
  obtain ⟨g2, e1, h⟩ := obd h
  refine r_puti hx hb hts cfX0 hown hK hR hS (sk_64 hSk) 7 (by decide) rfl (hts _ q456) (fun _ h => h) (Or.inl rfl) rfl rfl e1 dX0_mill_7 (fun H locs hR hS => ?_)
  refine lv_aload_n hx hb dX0_mill_10 rfl (lv_at hl 1 rfl) ?_
  refine r_getr hx hb hts cfX0 hown hK hR (sk_64 hSk) 2 (by decide) rfl (sr_64_2 hSk) (hts _ q451) (fun _ h => h) dX0_mill_11 ?_
  refine lv_aload_n hx hb dX0_mill_14 rfl (lv_at hl 1 rfl) ?_
  refine r_getr hx hb hts cfX0 hown hK hR (sk_64 hSk) 0 (by decide) rfl (sr_64_0 hSk) (hts _ q449) (fun _ h => h) dX0_mill_15 ?_
  obtain ⟨g4, e3, h⟩ := obd h
  refine rc_V0 (rest := []) (st1 := []) hF (w_X1_become hSk 83 65 (isMl_83) (isMl_65) e3) (cwV 1 hts (lw_V q516 q517 q518 q101 q519) rfl rfl rfl hd_X1_become ⟨Nat.le_of_ble_eq_true rfl, Nat.le_of_ble_eq_true rfl⟩) cfX1 (sk_83 hSk) hK hW hR hS rfl hl.1 rfl (Nat.le_of_ble_eq_true rfl) rfl dX0_mill_18 ⟨rfl, rfl⟩ ⟨Nat.zero_le _, Nat.zero_le _⟩ (fun H locs hR hS => ?_)
  refine lv_aload_n hx hb dX0_mill_21 rfl (lv_at hl 1 rfl) ?_
  refine r_getr hx hb hts cfX0 hown hK hR (sk_64 hSk) 8 (by decide) rfl (sr_64_8 hSk) (hts _ q457) (fun _ h => h) dX0_mill_22 ?_
  refine lv_aload_n hx hb dX0_mill_25 rfl (lv_at hl 1 rfl) ?_
  refine r_getr hx hb hts cfX0 hown hK hR (sk_64 hSk) 6 (by decide) rfl (sr_64_6 hSk) (hts _ q455) (fun _ h => h) dX0_mill_26 ?_
  refine lv_iload_n hx hb dX0_mill_29 rfl (lv_at hl 0 rfl) ?_
  rcases obx23 h with ⟨ec6, g8, gr10, e5, h⟩ | ⟨g7, gr9, e5, h⟩
  · refine xc_x (xr_V (ox := (.inr (ec6, sh, g8, gl, gr10))) (rest := []) hF (w_X8_read hSk (g 64 7) e5 rfl) (cwV 2 hts (lw_V q526 q527 q528 q108 q529) rfl rfl rfl hd_X8_read ⟨Nat.le_of_ble_eq_true rfl, Nat.le_of_ble_eq_true rfl⟩) cfX8 (sk_109 hSk) hK hW hR rfl hl.1 rfl (Nat.le_of_ble_eq_true rfl) dX0_mill_30 ⟨Nat.le_of_ble_eq_true rfl, Nat.le_of_ble_eq_true rfl⟩) hS (fun n H locs q9 ce9 hn2 hR hS hq9 hce9 hcv9 hcl9 => ?_)
    have hSk : Sk sh gr10 := read_gr hSk e5
    replace hn := Nat.le_trans hn hn2
    by_cases c11 : ec6 = 9
    · replace h := ifp h c11
      subst c11
      obtain rfl := hq9 112 rfl
      refine vx_catch (E := "IntentVats$Fault") (name := "IntentVats$Fault") hown [] ⟨21, 33, 36, 210⟩ [] (htb.trans rfl) (fun _ hz => nomatch hz) rfl (by decide) (hts _ q515) (hW.cab q279) hce9 hcv9 hcl9 ?_
      refine lv_astore_n (lv' := [(2, .ref (adr G 112)), (1, .int (g 64 7)), (0, .ref (adr G 64))]) hx hb dX0_mill_36 rfl hl (by decide) rfl (fun ls hl => ?_)
      refine lv_bipush (v := (-100)) hx hb dX0_mill_37 kb_m100 ?_
      refine lv_aload_n hx hb dX0_mill_39 rfl (lv_at hl 0 rfl) ?_
      refine r_getiN hx hb hts cfX9 hown hK hR (sk_112 hSk) 6 (by decide) rfl (hW.nestF q334) (fun _ h => h) dX0_mill_40 ?_
      refine lv_isub hx hb dX0_mill_43 ?_
      obtain rfl := s1i h
      exact x_iret hx hb hr hlk hn hR hS (Nat.zero_le _) (Nat.zero_le _) ho dX0_mill_44
    · replace h := ifn h c11
      cases h
  refine xc_r (xr_V (ox := (.inl (none, sh, g7, gl, gr9))) (rest := []) hF (w_X8_read hSk (g 64 7) e5 rfl) (cwV 2 hts (lw_V q526 q527 q528 q108 q529) rfl rfl rfl hd_X8_read ⟨Nat.le_of_ble_eq_true rfl, Nat.le_of_ble_eq_true rfl⟩) cfX8 (sk_109 hSk) hK hW hR rfl hl.1 rfl (Nat.le_of_ble_eq_true rfl) dX0_mill_30 ⟨Nat.le_of_ble_eq_true rfl, Nat.le_of_ble_eq_true rfl⟩) hS (fun n H locs hn2 hR hS => ?_)
  replace hn := Nat.le_trans hn hn2
  refine W.widen (k := 0) (n := 0) (Nat.le_of_ble_eq_true rfl) (Nat.le_of_ble_eq_true rfl) ?_
  have hSk : Sk sh gr9 := read_gr hSk e5
  refine lv_goto (tgt := 45) hx hb dX0_mill_33 (by decide) ?_
  refine lv_aload_n hx hb dX0_mill_45 rfl (lv_at hl 1 rfl) ?_
  refine r_getr hx hb hts cfX0 hown hK hR (sk_64 hSk) 0 (by decide) rfl (sr_64_0 hSk) (hts _ q449) (fun _ h => h) dX0_mill_46 ?_
  refine lv_aload_n hx hb dX0_mill_49 rfl (lv_at hl 1 rfl) ?_
  refine r_getr hx hb hts cfX0 hown hK hR (sk_64 hSk) 2 (by decide) rfl (sr_64_2 hSk) (hts _ q451) (fun _ h => h) dX0_mill_50 ?_
  obtain ⟨g13, e12, h⟩ := obd h
  refine rc_V0 (rest := []) (st1 := []) hF (w_X1_become hSk 65 83 (isMl_65) (isMl_83) e12) (cwV 1 hts (lw_V q516 q517 q518 q101 q519) rfl rfl rfl hd_X1_become ⟨Nat.le_of_ble_eq_true rfl, Nat.le_of_ble_eq_true rfl⟩) cfX1 (sk_65 hSk) hK hW hR hS rfl hl.1 rfl (Nat.le_of_ble_eq_true rfl) rfl dX0_mill_53 ⟨rfl, rfl⟩ ⟨Nat.zero_le _, Nat.zero_le _⟩ (fun H locs hR hS => ?_)
  refine lv_aload_n hx hb dX0_mill_56 rfl (lv_at hl 1 rfl) ?_
  refine lv_iconst (v := 0) hx hb dX0_mill_57 ki_0 ?_
  obtain ⟨g15, e14, h⟩ := obd h
  refine r_puti hx hb hts cfX0 hown hK hR hS (sk_64 hSk) 10 (by decide) rfl (hts _ q459) (fun _ h => h) (Or.inl rfl) rfl rfl e14 dX0_mill_58 (fun H locs hR hS => ?_)
  refine lv_aload_n hx hb dX0_mill_61 rfl (lv_at hl 1 rfl) ?_
  refine r_getr hx hb hts cfX0 hown hK hR (sk_64 hSk) 0 (by decide) rfl (sr_64_0 hSk) (hts _ q449) (fun _ h => h) dX0_mill_62 ?_
  refine r_getiN hx hb hts cfX1 hown hK hR (sk_65 hSk) 0 (by decide) rfl (hW.nestF q153) (fun _ h => h) dX0_mill_65 ?_
  obtain rfl := s1i h
  exact x_iret hx hb hr hlk hn hR hS (Nat.zero_le _) (Nat.zero_le _) ho dX0_mill_68
def rm_X0_set : Room := { frames := 2, cells := 0, slots := 0, locals := 34 }
theorem hd_X0_set : yX0_set.cls = "IntentVats" ∧ yX0_set.cls ≠ "java/lang/invoke/MethodHandle" ∧ yX0_set.cls ≠ "java/lang/invoke/VarHandle" ∧ (parseMethodDescriptor yX0_set.desc).map (fun d => d.parameters.length) = some 2 := by decide +kernel
theorem he_X0_set : yX0_set.cls ≠ "java/lang/invoke/MethodHandle" ∧ yX0_set.cls ≠ "java/lang/invoke/VarHandle" ∧ (parseMethodDescriptor yX0_set.desc).map (fun d => d.parameters.length) = some 2 := hd_X0_set.2

set_option maxHeartbeats 4000000 in
set_option maxRecDepth 100000 in
theorem w_X0_set {l : Launch} {G : Gx} {sh : SM} {g : GM} {gl : LM} {gr : RM} {n : Nat} (hSk : Sk sh gr) (a1 : Int32) (a2 : Int32)  {r : Int32} {go : GM} (h : f_X0_set g a1 a2 = some (r, go)) : MetI l G yX0_set (ws_ yX0_set cX0_set 4 (Option.some Jvm.ClassFile.FieldType.int)) rm_X0_set [.ref (adr G 64), .int a1, .int a2] sh g gl gr n (some (.int r)) sh go gl gr n := by
  refine MetI.of (by decide) (Nat.le_of_ble_eq_true rfl) ?_
  intro p e s m below meth c ls hx hb hr hml hown hts hlk hnm hW hK hR hS hl
  have hown : s.vm.findClass RX0 = some m.cls := hown
  have hF : CallFix p m c cX0_set 4 s ([.ref (adr G 64), .int a1, .int a2] : List Value).toArray lw_all RX0 := ⟨hx, hb, hml, hown, hts⟩
  have hl : lv_has ls 4 [(0, .ref (adr G 64)), (1, .int a1), (2, .int a2)] := hl
  unfold f_X0_set at h
  refine lv_iload_n hx hb dX0_set_0 rfl (lv_at hl 1 rfl) ?_
  refine lv_iconst (v := 0) hx hb dX0_set_1 ki_0 ?_
  refine lv_iconst (v := 3) hx hb dX0_set_2 ki_3 ?_
  obtain ⟨r2, e1, h⟩ := obd h
  refine rc_S0 (rest := []) (st1 := [.int r2]) hF (w_X0_in hSk a1 0 3 e1) (va_cwS 3 hts (lw_S q508 q509 q100 q510) rfl rfl rfl he_X0_in ⟨Nat.le_of_ble_eq_true rfl, Nat.le_of_ble_eq_true rfl⟩) hW hR hS rfl hl.1 rfl (Nat.le_of_ble_eq_true rfl) rfl dX0_set_3 ⟨rfl, rfl⟩ ⟨Nat.zero_le _, Nat.zero_le _⟩ (fun H locs hR hS => ?_)
  have J21 : ∀  (H : Heap) (locs : List Loc) (ls : Array Slot), Rep G sh g gl gr n H → va_S (own G) s.heap H locs → lv_has ls 4 [] → j_X0_set_21 g  = some (r, go) → W p l e rm_X0_set s m ([.ref (adr G 64), .int a1, .int a2] : List Value).toArray below meth c H locs 0 0 (MQ below (QR G (some (.int r)) sh go gl gr n) ([.ref (adr G 64), .int a1, .int a2] : List Value).toArray s rm_X0_set.cells rm_X0_set.slots (own G)) (F0 m 21 ls []) := by
    intro  H locs ls hR hS hl h
    unfold j_X0_set_21 at h
    refine lv_iconst (v := (-1)) hx hb dX0_set_21 ki_m1 ?_
    obtain ⟨rfl, rfl⟩ := s2i h
    exact r_iret0 hx hb hr hlk hR hS (Nat.zero_le _) (Nat.zero_le _) dX0_set_22
  refine lv_if_eq (tgt := 21) hx hb dX0_set_6 (by decide) (fun c3 => ?_) (fun c3 => ?_)
  · replace h := ifp h c3
    exact J21  _ _ _ hR hS (lv_sub hl [] rfl) h
  · replace h := ifn h c3
    refine lv_iload_n hx hb dX0_set_9 rfl (lv_at hl 2 rfl) ?_
    refine lv_iconst (v := 0) hx hb dX0_set_10 ki_0 ?_
    refine lv_iload_n hx hb dX0_set_11 rfl (lv_at hl 1 rfl) ?_
    obtain ⟨r5, e4, h⟩ := obd h
    refine rc_S0 (rest := [.int 0, .int a2]) (st1 := [.int r5, .int 0, .int a2]) hF (w_X0_mostOf hSk a1 e4) (va_cwS 1 hts (lw_S q673 q666 q100 q667) rfl rfl rfl he_X0_mostOf ⟨Nat.le_of_ble_eq_true rfl, Nat.le_of_ble_eq_true rfl⟩) hW hR hS rfl hl.1 rfl (Nat.le_of_ble_eq_true rfl) rfl dX0_set_12 ⟨rfl, rfl⟩ ⟨Nat.zero_le _, Nat.zero_le _⟩ (fun H locs hR hS => ?_)
    obtain ⟨r7, e6, h⟩ := obd h
    refine rc_S0 (rest := []) (st1 := [.int r7]) hF (w_X0_in hSk a2 0 r5 e6) (va_cwS 3 hts (lw_S q508 q509 q100 q510) rfl rfl rfl he_X0_in ⟨Nat.le_of_ble_eq_true rfl, Nat.le_of_ble_eq_true rfl⟩) hW hR hS rfl hl.1 rfl (Nat.le_of_ble_eq_true rfl) rfl dX0_set_15 ⟨rfl, rfl⟩ ⟨Nat.zero_le _, Nat.zero_le _⟩ (fun H locs hR hS => ?_)
    refine lv_if_ne (tgt := 23) hx hb dX0_set_18 (by decide) (fun c8 => ?_) (fun c8 => ?_)
    · replace h := ifn h c8
      refine lv_aload_n hx hb dX0_set_23 rfl (lv_at hl 0 rfl) ?_
      refine r_getr hx hb hts cfX0 hown hK hR (sk_64 hSk) 0 (by decide) rfl (sr_64_0 hSk) (hts _ q449) (fun _ h => h) dX0_set_24 ?_
      refine r_getrN hx hb hts cfX1 hown hK hR (sk_65 hSk) 4 (by decide) rfl (sr_65_4 hSk) (hW.nestF q169) (fun _ h => h) dX0_set_27 ?_
      refine lv_iload_n hx hb dX0_set_30 rfl (lv_at hl 1 rfl) ?_
      obtain ⟨v10, e9, h⟩ := obd h
      refine r_ldi hx hb hK hR (sk_66 hSk) e9 dX0_set_31 ?_
      refine lv_istore_n (lv' := [(3, .int v10), (0, .ref (adr G 64)), (1, .int a1), (2, .int a2)]) hx hb dX0_set_32 rfl hl (by decide) rfl (fun ls hl => ?_)
      refine lv_aload_n hx hb dX0_set_33 rfl (lv_at hl 1 rfl) ?_
      refine r_getr hx hb hts cfX0 hown hK hR (sk_64 hSk) 0 (by decide) rfl (sr_64_0 hSk) (hts _ q449) (fun _ h => h) dX0_set_34 ?_
      refine r_getrN hx hb hts cfX1 hown hK hR (sk_65 hSk) 4 (by decide) rfl (sr_65_4 hSk) (hW.nestF q169) (fun _ h => h) dX0_set_37 ?_
      refine lv_iload_n hx hb dX0_set_40 rfl (lv_at hl 2 rfl) ?_
      refine lv_iload_n hx hb dX0_set_41 rfl (lv_at hl 3 rfl) ?_
      obtain ⟨g12, e11, h⟩ := obd h
      refine r_sti hx hb hK hR hS (sk_66 hSk) e11 dX0_set_42 (fun H locs hR hS => ?_)
      refine lv_iload_n hx hb dX0_set_43 rfl (lv_at hl 0 rfl) ?_
      obtain ⟨rfl, rfl⟩ := s2i h
      exact r_iret0 hx hb hr hlk hR hS (Nat.zero_le _) (Nat.zero_le _) dX0_set_44
    · replace h := ifp h c8
      exact J21  _ _ _ hR hS (lv_sub hl [] rfl) h
def rm_X0_lawOf : Room := { frames := 2, cells := 0, slots := 0, locals := 34 }
theorem hd_X0_lawOf : yX0_lawOf.cls = "IntentVats" ∧ yX0_lawOf.cls ≠ "java/lang/invoke/MethodHandle" ∧ yX0_lawOf.cls ≠ "java/lang/invoke/VarHandle" ∧ (parseMethodDescriptor yX0_lawOf.desc).map (fun d => d.parameters.length) = some 1 := by decide +kernel
theorem he_X0_lawOf : yX0_lawOf.cls ≠ "java/lang/invoke/MethodHandle" ∧ yX0_lawOf.cls ≠ "java/lang/invoke/VarHandle" ∧ (parseMethodDescriptor yX0_lawOf.desc).map (fun d => d.parameters.length) = some 1 := hd_X0_lawOf.2

set_option maxHeartbeats 4000000 in
set_option maxRecDepth 100000 in
theorem w_X0_lawOf {l : Launch} {G : Gx} {sh : SM} {g : GM} {gl : LM} {gr : RM} {n : Nat} (hSk : Sk sh gr) (a1 : Int32)  {r : Int32} (h : f_X0_lawOf g a1 = some r) : MetI l G yX0_lawOf (ws_ yX0_lawOf cX0_lawOf 2 (Option.some Jvm.ClassFile.FieldType.int)) rm_X0_lawOf [.ref (adr G 64), .int a1] sh g gl gr n (some (.int r)) sh g gl gr n := by
  refine MetI.of (by decide) (Nat.le_of_ble_eq_true rfl) ?_
  intro p e s m below meth c ls hx hb hr hml hown hts hlk hnm hW hK hR hS hl
  have hown : s.vm.findClass RX0 = some m.cls := hown
  have hF : CallFix p m c cX0_lawOf 2 s ([.ref (adr G 64), .int a1] : List Value).toArray lw_all RX0 := ⟨hx, hb, hml, hown, hts⟩
  have hl : lv_has ls 2 [(0, .ref (adr G 64)), (1, .int a1)] := hl
  unfold f_X0_lawOf at h
  refine lv_iload_n hx hb dX0_lawOf_0 rfl (lv_at hl 1 rfl) ?_
  refine lv_iconst (v := 0) hx hb dX0_lawOf_1 ki_0 ?_
  refine lv_iconst (v := 3) hx hb dX0_lawOf_2 ki_3 ?_
  obtain ⟨r2, e1, h⟩ := obd h
  refine rc_S0 (rest := []) (st1 := [.int r2]) hF (w_X0_in hSk a1 0 3 e1) (va_cwS 3 hts (lw_S q508 q509 q100 q510) rfl rfl rfl he_X0_in ⟨Nat.le_of_ble_eq_true rfl, Nat.le_of_ble_eq_true rfl⟩) hW hR hS rfl hl.1 rfl (Nat.le_of_ble_eq_true rfl) rfl dX0_lawOf_3 ⟨rfl, rfl⟩ ⟨Nat.zero_le _, Nat.zero_le _⟩ (fun H locs hR hS => ?_)
  have J22 : ∀ (x3 : Int32) (H : Heap) (locs : List Loc) (ls : Array Slot), Rep G sh g gl gr n H → va_S (own G) s.heap H locs → lv_has ls 2 [] → j_X0_lawOf_22  x3 = some r → W p l e rm_X0_lawOf s m ([.ref (adr G 64), .int a1] : List Value).toArray below meth c H locs 0 0 (MQ below (QR G (some (.int r)) sh g gl gr n) ([.ref (adr G 64), .int a1] : List Value).toArray s rm_X0_lawOf.cells rm_X0_lawOf.slots (own G)) (F0 m 22 ls [.int x3]) := by
    intro x3 H locs ls hR hS hl h
    unfold j_X0_lawOf_22 at h
    obtain rfl := s1i h
    exact r_iret0 hx hb hr hlk hR hS (Nat.zero_le _) (Nat.zero_le _) dX0_lawOf_22
  refine lv_if_eq (tgt := 21) hx hb dX0_lawOf_6 (by decide) (fun c4 => ?_) (fun c4 => ?_)
  · replace h := ifp h c4
    refine lv_iconst (v := (-1)) hx hb dX0_lawOf_21 ki_m1 ?_
    exact J22 (-1) _ _ _ hR hS (lv_sub hl [] rfl) h
  · replace h := ifn h c4
    refine lv_aload_n hx hb dX0_lawOf_9 rfl (lv_at hl 0 rfl) ?_
    refine r_getr hx hb hts cfX0 hown hK hR (sk_64 hSk) 0 (by decide) rfl (sr_64_0 hSk) (hts _ q449) (fun _ h => h) dX0_lawOf_10 ?_
    refine r_getrN hx hb hts cfX1 hown hK hR (sk_65 hSk) 4 (by decide) rfl (sr_65_4 hSk) (hW.nestF q169) (fun _ h => h) dX0_lawOf_13 ?_
    refine lv_iload_n hx hb dX0_lawOf_16 rfl (lv_at hl 1 rfl) ?_
    obtain ⟨v6, e5, h⟩ := obd h
    refine r_ldi hx hb hK hR (sk_66 hSk) e5 dX0_lawOf_17 ?_
    refine lv_goto (tgt := 22) hx hb dX0_lawOf_18 (by decide) ?_
    exact J22 v6 _ _ _ hR hS (lv_sub hl [] rfl) h
def rm_X0_isVat : Room := { frames := 2, cells := 0, slots := 0, locals := 34 }
theorem he_X0_isVat : yX0_isVat.cls ≠ "java/lang/invoke/MethodHandle" ∧ yX0_isVat.cls ≠ "java/lang/invoke/VarHandle" ∧ (parseMethodDescriptor yX0_isVat.desc).map (fun d => d.parameters.length) = some 1 := by decide +kernel

set_option maxHeartbeats 4000000 in
set_option maxRecDepth 100000 in
theorem w_X0_isVat {l : Launch} {G : Gx} {sh : SM} {g : GM} {gl : LM} {gr : RM} {n : Nat} (hSk : Sk sh gr) (a0 : Int32)  {r : Int32} (h : f_X0_isVat  a0 = some r) : MetI l G yX0_isVat (ws_ yX0_isVat cX0_isVat 1 (Option.some Jvm.ClassFile.FieldType.boolean)) rm_X0_isVat [.int a0] sh g gl gr n (some (.int r)) sh g gl gr n := by
  refine MetI.of (by decide) (Nat.le_of_ble_eq_true rfl) ?_
  intro p e s m below meth c ls hx hb hr hml hown hts hlk hnm hW hK hR hS hl
  have hown : s.vm.findClass RX0 = some m.cls := hown
  have hF : CallFix p m c cX0_isVat 1 s ([.int a0] : List Value).toArray lw_all RX0 := ⟨hx, hb, hml, hown, hts⟩
  have hl : lv_has ls 1 [(0, .int a0)] := hl
  unfold f_X0_isVat at h
  refine lv_iload_n hx hb dX0_isVat_0 rfl (lv_at hl 0 rfl) ?_
  refine lv_iconst (v := 0) hx hb dX0_isVat_1 ki_0 ?_
  refine lv_bipush (v := 7) hx hb dX0_isVat_2 kb_7 ?_
  obtain ⟨r2, e1, h⟩ := obd h
  refine rc_S0 (rest := []) (st1 := [.int r2]) hF (w_X0_in hSk a0 0 7 e1) (va_cwS 3 hts (lw_S q508 q509 q100 q510) rfl rfl rfl he_X0_in ⟨Nat.le_of_ble_eq_true rfl, Nat.le_of_ble_eq_true rfl⟩) hW hR hS rfl hl.1 rfl (Nat.le_of_ble_eq_true rfl) rfl dX0_isVat_4 ⟨rfl, rfl⟩ ⟨Nat.zero_le _, Nat.zero_le _⟩ (fun H locs hR hS => ?_)
  obtain ⟨c3, h⟩ := ogrd h
  obtain rfl := s1i h
  exact r_zret0 hx hb hr hlk hR hS (Nat.zero_le _) (Nat.zero_le _) (nb01 c3) dX0_isVat_7
def rm_X0_becomes : Room := { frames := 1, cells := 0, slots := 0, locals := 12 }
theorem he_X0_becomes : yX0_becomes.cls ≠ "java/lang/invoke/MethodHandle" ∧ yX0_becomes.cls ≠ "java/lang/invoke/VarHandle" ∧ (parseMethodDescriptor yX0_becomes.desc).map (fun d => d.parameters.length) = some 3 := by decide +kernel

set_option maxHeartbeats 4000000 in
set_option maxRecDepth 100000 in
theorem w_X0_becomes {l : Launch} {G : Gx} {sh : SM} {g : GM} {gl : LM} {gr : RM} {n : Nat} (hSk : Sk sh gr) (a0 : Nat) (La0 : Nat) (a1 : Int32) (a2 : Int32) (hs_a0 : sh a0 = (1, La0)) {r : Int32} {go : GM} (h : f_X0_becomes g a0 La0 a1 a2 = some (r, go)) : MetI l G yX0_becomes (ws_ yX0_becomes cX0_becomes 4 (Option.some Jvm.ClassFile.FieldType.int)) rm_X0_becomes [.ref (adr G a0), .int a1, .int a2] sh g gl gr n (some (.int r)) sh go gl gr n := by
  refine MetI.of (by decide) (Nat.le_of_ble_eq_true rfl) ?_
  intro p e s m below meth c ls hx hb hr hml hown hts hlk hnm hW hK hR hS hl
  have hown : s.vm.findClass RX0 = some m.cls := hown
  have hF : CallFix p m c cX0_becomes 4 s ([.ref (adr G a0), .int a1, .int a2] : List Value).toArray lw_all RX0 := ⟨hx, hb, hml, hown, hts⟩
  have hl : lv_has ls 4 [(0, .ref (adr G a0)), (1, .int a1), (2, .int a2)] := hl
  unfold f_X0_becomes at h
  refine lv_aload_n hx hb dX0_becomes_0 rfl (lv_at hl 0 rfl) ?_
  refine lv_iload_n hx hb dX0_becomes_1 rfl (lv_at hl 1 rfl) ?_
  obtain ⟨v2, e1, h⟩ := obd h
  refine r_ldi hx hb hK hR hs_a0 e1 dX0_becomes_2 ?_
  refine lv_istore_n (lv' := [(3, .int v2), (0, .ref (adr G a0)), (1, .int a1), (2, .int a2)]) hx hb dX0_becomes_3 rfl hl (by decide) rfl (fun ls hl => ?_)
  refine lv_aload_n hx hb dX0_becomes_4 rfl (lv_at hl 1 rfl) ?_
  refine lv_iload_n hx hb dX0_becomes_5 rfl (lv_at hl 2 rfl) ?_
  refine lv_iload_n hx hb dX0_becomes_6 rfl (lv_at hl 3 rfl) ?_
  obtain ⟨g4, e3, h⟩ := obd h
  refine r_sti hx hb hK hR hS hs_a0 e3 dX0_becomes_7 (fun H locs hR hS => ?_)
  refine lv_iload_n hx hb dX0_becomes_8 rfl (lv_at hl 0 rfl) ?_
  obtain ⟨rfl, rfl⟩ := s2i h
  exact r_iret0 hx hb hr hlk hR hS (Nat.zero_le _) (Nat.zero_le _) dX0_becomes_9
def rm_X0_fill : Room := { frames := 3, cells := 0, slots := 0, locals := 54 }
theorem hd_X0_fill : yX0_fill.cls = "IntentVats" ∧ yX0_fill.cls ≠ "java/lang/invoke/MethodHandle" ∧ yX0_fill.cls ≠ "java/lang/invoke/VarHandle" ∧ (parseMethodDescriptor yX0_fill.desc).map (fun d => d.parameters.length) = some 3 := by decide +kernel
theorem he_X0_fill : yX0_fill.cls ≠ "java/lang/invoke/MethodHandle" ∧ yX0_fill.cls ≠ "java/lang/invoke/VarHandle" ∧ (parseMethodDescriptor yX0_fill.desc).map (fun d => d.parameters.length) = some 3 := hd_X0_fill.2

set_option maxHeartbeats 4000000 in
set_option maxRecDepth 100000 in
theorem w_X0_fill {l : Launch} {G : Gx} {sh : SM} {g : GM} {gl : LM} {gr : RM} {n : Nat} (hSk : Sk sh gr) (a1 : Int32) (a2 : Int32) (a3 : Int32)  {r : Int32} {go : GM} (h : f_X0_fill g a1 a2 a3 = some (r, go)) : MetI l G yX0_fill (ws_ yX0_fill cX0_fill 4 (Option.some Jvm.ClassFile.FieldType.int)) rm_X0_fill [.ref (adr G 64), .int a1, .int a2, .int a3] sh g gl gr n (some (.int r)) sh go gl gr n := by
  refine MetI.of (by decide) (Nat.le_of_ble_eq_true rfl) ?_
  intro p e s m below meth c ls hx hb hr hml hown hts hlk hnm hW hK hR hS hl
  have hown : s.vm.findClass RX0 = some m.cls := hown
  have hF : CallFix p m c cX0_fill 4 s ([.ref (adr G 64), .int a1, .int a2, .int a3] : List Value).toArray lw_all RX0 := ⟨hx, hb, hml, hown, hts⟩
  have hl : lv_has ls 4 [(0, .ref (adr G 64)), (1, .int a1), (2, .int a2), (3, .int a3)] := hl
  unfold f_X0_fill at h
  refine lv_iload_n hx hb dX0_fill_0 rfl (lv_at hl 1 rfl) ?_
  obtain ⟨r2, e1, h⟩ := obd h
  refine rc_S0 (rest := []) (st1 := [.int r2]) hF (w_X0_isVat hSk a1 e1) (va_cwS 1 hts (lw_S q682 q683 q100 q684) rfl rfl rfl he_X0_isVat ⟨Nat.le_of_ble_eq_true rfl, Nat.le_of_ble_eq_true rfl⟩) hW hR hS rfl hl.1 rfl (Nat.le_of_ble_eq_true rfl) rfl dX0_fill_1 ⟨rfl, rfl⟩ ⟨Nat.zero_le _, Nat.zero_le _⟩ (fun H locs hR hS => ?_)
  have J56 : ∀ (x3 : Int32) (g4 : GM) (H : Heap) (locs : List Loc) (ls : Array Slot), Rep G sh g4 gl gr n H → va_S (own G) s.heap H locs → lv_has ls 4 [] → j_X0_fill_56  x3 g4 = some (r, go) → W p l e rm_X0_fill s m ([.ref (adr G 64), .int a1, .int a2, .int a3] : List Value).toArray below meth c H locs 0 0 (MQ below (QR G (some (.int r)) sh go gl gr n) ([.ref (adr G 64), .int a1, .int a2, .int a3] : List Value).toArray s rm_X0_fill.cells rm_X0_fill.slots (own G)) (F0 m 56 ls [.int x3]) := by
    intro x3 g4 H locs ls hR hS hl h
    unfold j_X0_fill_56 at h
    obtain ⟨rfl, rfl⟩ := s2i h
    exact r_iret0 hx hb hr hlk hR hS (Nat.zero_le _) (Nat.zero_le _) dX0_fill_56
  have J55 : ∀  (H : Heap) (locs : List Loc) (ls : Array Slot), Rep G sh g gl gr n H → va_S (own G) s.heap H locs → lv_has ls 4 [] → j_X0_fill_55 g  = some (r, go) → W p l e rm_X0_fill s m ([.ref (adr G 64), .int a1, .int a2, .int a3] : List Value).toArray below meth c H locs 0 0 (MQ below (QR G (some (.int r)) sh go gl gr n) ([.ref (adr G 64), .int a1, .int a2, .int a3] : List Value).toArray s rm_X0_fill.cells rm_X0_fill.slots (own G)) (F0 m 55 ls []) := by
    intro  H locs ls hR hS hl h
    unfold j_X0_fill_55 at h
    refine lv_iconst (v := (-1)) hx hb dX0_fill_55 ki_m1 ?_
    exact J56 (-1) g _ _ _ hR hS (lv_sub hl [] rfl) h
  refine lv_if_eq (tgt := 55) hx hb dX0_fill_4 (by decide) (fun c5 => ?_) (fun c5 => ?_)
  · replace h := ifp h c5
    exact J55  _ _ _ hR hS (lv_sub hl [] rfl) h
  · replace h := ifn h c5
    refine lv_iload_n hx hb dX0_fill_7 rfl (lv_at hl 2 rfl) ?_
    refine lv_iconst (v := 0) hx hb dX0_fill_8 ki_0 ?_
    refine lv_iconst (v := 1) hx hb dX0_fill_9 ki_1 ?_
    obtain ⟨r7, e6, h⟩ := obd h
    refine rc_S0 (rest := []) (st1 := [.int r7]) hF (w_X0_in hSk a2 0 1 e6) (va_cwS 3 hts (lw_S q508 q509 q100 q510) rfl rfl rfl he_X0_in ⟨Nat.le_of_ble_eq_true rfl, Nat.le_of_ble_eq_true rfl⟩) hW hR hS rfl hl.1 rfl (Nat.le_of_ble_eq_true rfl) rfl dX0_fill_10 ⟨rfl, rfl⟩ ⟨Nat.zero_le _, Nat.zero_le _⟩ (fun H locs hR hS => ?_)
    refine lv_if_eq (tgt := 55) hx hb dX0_fill_13 (by decide) (fun c8 => ?_) (fun c8 => ?_)
    · replace h := ifp h c8
      exact J55  _ _ _ hR hS (lv_sub hl [] rfl) h
    · replace h := ifn h c8
      refine lv_iload_n hx hb dX0_fill_16 rfl (lv_at hl 3 rfl) ?_
      refine lv_iconst (v := 0) hx hb dX0_fill_17 ki_0 ?_
      refine lv_bipush (v := 9) hx hb dX0_fill_18 kb_9 ?_
      obtain ⟨r10, e9, h⟩ := obd h
      refine rc_S0 (rest := []) (st1 := [.int r10]) hF (w_X0_in hSk a3 0 9 e9) (va_cwS 3 hts (lw_S q508 q509 q100 q510) rfl rfl rfl he_X0_in ⟨Nat.le_of_ble_eq_true rfl, Nat.le_of_ble_eq_true rfl⟩) hW hR hS rfl hl.1 rfl (Nat.le_of_ble_eq_true rfl) rfl dX0_fill_20 ⟨rfl, rfl⟩ ⟨Nat.zero_le _, Nat.zero_le _⟩ (fun H locs hR hS => ?_)
      refine lv_if_eq (tgt := 55) hx hb dX0_fill_23 (by decide) (fun c11 => ?_) (fun c11 => ?_)
      · replace h := ifp h c11
        exact J55  _ _ _ hR hS (lv_sub hl [] rfl) h
      · replace h := ifn h c11
        refine lv_iload_n hx hb dX0_fill_26 rfl (lv_at hl 2 rfl) ?_
        have J47 : ∀ (x12 : Nat) (hs_x12 : sh x12 = (1, 8)) (H : Heap) (locs : List Loc) (ls : Array Slot), Rep G sh g gl gr n H → va_S (own G) s.heap H locs → lv_has ls 4 [(1, .int a1), (3, .int a3)] → j_X0_fill_47 g a1 a3 x12 = some (r, go) → W p l e rm_X0_fill s m ([.ref (adr G 64), .int a1, .int a2, .int a3] : List Value).toArray below meth c H locs 0 0 (MQ below (QR G (some (.int r)) sh go gl gr n) ([.ref (adr G 64), .int a1, .int a2, .int a3] : List Value).toArray s rm_X0_fill.cells rm_X0_fill.slots (own G)) (F0 m 47 ls [.ref (adr G x12)]) := by
          intro x12 hs_x12 H locs ls hR hS hl h
          unfold j_X0_fill_47 at h
          refine lv_iload_n hx hb dX0_fill_47 rfl (lv_at hl 0 rfl) ?_
          refine lv_iload_n hx hb dX0_fill_48 rfl (lv_at hl 1 rfl) ?_
          obtain ⟨r14, g15, e13, h⟩ := obd2 h
          refine rc_S0 (rest := []) (st1 := [.int r14]) hF (w_X0_becomes hSk x12 8 a1 a3 hs_x12 e13) (va_cwS 3 hts (lw_S q685 q686 q100 q687) rfl rfl rfl he_X0_becomes ⟨Nat.le_of_ble_eq_true rfl, Nat.le_of_ble_eq_true rfl⟩) hW hR hS rfl hl.1 rfl (Nat.le_of_ble_eq_true rfl) rfl dX0_fill_49 ⟨rfl, rfl⟩ ⟨Nat.zero_le _, Nat.zero_le _⟩ (fun H locs hR hS => ?_)
          refine lv_goto (tgt := 56) hx hb dX0_fill_52 (by decide) ?_
          exact J56 r14 g15 _ _ _ hR hS (lv_sub hl [] rfl) h
        refine lv_if_ne (tgt := 40) hx hb dX0_fill_27 (by decide) (fun c16 => ?_) (fun c16 => ?_)
        · replace h := ifn h c16
          refine lv_aload_n hx hb dX0_fill_40 rfl (lv_at hl 0 rfl) ?_
          refine r_getr hx hb hts cfX0 hown hK hR (sk_64 hSk) 0 (by decide) rfl (sr_64_0 hSk) (hts _ q449) (fun _ h => h) dX0_fill_41 ?_
          refine r_getrN hx hb hts cfX1 hown hK hR (sk_65 hSk) 6 (by decide) rfl (sr_65_6 hSk) (hW.nestF q175) (fun _ h => h) dX0_fill_44 ?_
          exact J47 68 (sk_68 hSk) _ _ _ hR hS (lv_sub hl [1, 3] rfl) h
        · replace h := ifp h c16
          refine lv_aload_n hx hb dX0_fill_30 rfl (lv_at hl 0 rfl) ?_
          refine r_getr hx hb hts cfX0 hown hK hR (sk_64 hSk) 0 (by decide) rfl (sr_64_0 hSk) (hts _ q449) (fun _ h => h) dX0_fill_31 ?_
          refine r_getrN hx hb hts cfX1 hown hK hR (sk_65 hSk) 5 (by decide) rfl (sr_65_5 hSk) (hW.nestF q171) (fun _ h => h) dX0_fill_34 ?_
          refine lv_goto (tgt := 47) hx hb dX0_fill_37 (by decide) ?_
          exact J47 67 (sk_67 hSk) _ _ _ hR hS (lv_sub hl [1, 3] rfl) h
def rm_X0_vatOf : Room := { frames := 3, cells := 0, slots := 0, locals := 54 }
theorem hd_X0_vatOf : yX0_vatOf.cls = "IntentVats" ∧ yX0_vatOf.cls ≠ "java/lang/invoke/MethodHandle" ∧ yX0_vatOf.cls ≠ "java/lang/invoke/VarHandle" ∧ (parseMethodDescriptor yX0_vatOf.desc).map (fun d => d.parameters.length) = some 2 := by decide +kernel
theorem he_X0_vatOf : yX0_vatOf.cls ≠ "java/lang/invoke/MethodHandle" ∧ yX0_vatOf.cls ≠ "java/lang/invoke/VarHandle" ∧ (parseMethodDescriptor yX0_vatOf.desc).map (fun d => d.parameters.length) = some 2 := hd_X0_vatOf.2

set_option maxHeartbeats 4000000 in
set_option maxRecDepth 100000 in
theorem w_X0_vatOf {l : Launch} {G : Gx} {sh : SM} {g : GM} {gl : LM} {gr : RM} {n : Nat} (hSk : Sk sh gr) (a1 : Int32) (a2 : Int32)  {r : Int32} (h : f_X0_vatOf g a1 a2 = some r) : MetI l G yX0_vatOf (ws_ yX0_vatOf cX0_vatOf 3 (Option.some Jvm.ClassFile.FieldType.int)) rm_X0_vatOf [.ref (adr G 64), .int a1, .int a2] sh g gl gr n (some (.int r)) sh g gl gr n := by
  refine MetI.of (by decide) (Nat.le_of_ble_eq_true rfl) ?_
  intro p e s m below meth c ls hx hb hr hml hown hts hlk hnm hW hK hR hS hl
  have hown : s.vm.findClass RX0 = some m.cls := hown
  have hF : CallFix p m c cX0_vatOf 3 s ([.ref (adr G 64), .int a1, .int a2] : List Value).toArray lw_all RX0 := ⟨hx, hb, hml, hown, hts⟩
  have hl : lv_has ls 3 [(0, .ref (adr G 64)), (1, .int a1), (2, .int a2)] := hl
  unfold f_X0_vatOf at h
  refine lv_iload_n hx hb dX0_vatOf_0 rfl (lv_at hl 1 rfl) ?_
  obtain ⟨r2, e1, h⟩ := obd h
  refine rc_S0 (rest := []) (st1 := [.int r2]) hF (w_X0_isVat hSk a1 e1) (va_cwS 1 hts (lw_S q682 q683 q100 q684) rfl rfl rfl he_X0_isVat ⟨Nat.le_of_ble_eq_true rfl, Nat.le_of_ble_eq_true rfl⟩) hW hR hS rfl hl.1 rfl (Nat.le_of_ble_eq_true rfl) rfl dX0_vatOf_1 ⟨rfl, rfl⟩ ⟨Nat.zero_le _, Nat.zero_le _⟩ (fun H locs hR hS => ?_)
  have J16 : ∀  (H : Heap) (locs : List Loc) (ls : Array Slot), Rep G sh g gl gr n H → va_S (own G) s.heap H locs → lv_has ls 3 [] → j_X0_vatOf_16   = some r → W p l e rm_X0_vatOf s m ([.ref (adr G 64), .int a1, .int a2] : List Value).toArray below meth c H locs 0 0 (MQ below (QR G (some (.int r)) sh g gl gr n) ([.ref (adr G 64), .int a1, .int a2] : List Value).toArray s rm_X0_vatOf.cells rm_X0_vatOf.slots (own G)) (F0 m 16 ls []) := by
    intro  H locs ls hR hS hl h
    unfold j_X0_vatOf_16 at h
    refine lv_iconst (v := (-1)) hx hb dX0_vatOf_16 ki_m1 ?_
    obtain rfl := s1i h
    exact r_iret0 hx hb hr hlk hR hS (Nat.zero_le _) (Nat.zero_le _) dX0_vatOf_17
  refine lv_if_eq (tgt := 16) hx hb dX0_vatOf_4 (by decide) (fun c3 => ?_) (fun c3 => ?_)
  · replace h := ifp h c3
    exact J16  _ _ _ hR hS (lv_sub hl [] rfl) h
  · replace h := ifn h c3
    refine lv_iload_n hx hb dX0_vatOf_7 rfl (lv_at hl 2 rfl) ?_
    refine lv_iconst (v := 0) hx hb dX0_vatOf_8 ki_0 ?_
    refine lv_iconst (v := 1) hx hb dX0_vatOf_9 ki_1 ?_
    obtain ⟨r5, e4, h⟩ := obd h
    refine rc_S0 (rest := []) (st1 := [.int r5]) hF (w_X0_in hSk a2 0 1 e4) (va_cwS 3 hts (lw_S q508 q509 q100 q510) rfl rfl rfl he_X0_in ⟨Nat.le_of_ble_eq_true rfl, Nat.le_of_ble_eq_true rfl⟩) hW hR hS rfl hl.1 rfl (Nat.le_of_ble_eq_true rfl) rfl dX0_vatOf_10 ⟨rfl, rfl⟩ ⟨Nat.zero_le _, Nat.zero_le _⟩ (fun H locs hR hS => ?_)
    refine lv_if_ne (tgt := 18) hx hb dX0_vatOf_13 (by decide) (fun c6 => ?_) (fun c6 => ?_)
    · replace h := ifn h c6
      refine lv_iload_n hx hb dX0_vatOf_18 rfl (lv_at hl 2 rfl) ?_
      have J43 : ∀ (x7 : Int32) (H : Heap) (locs : List Loc) (ls : Array Slot), Rep G sh g gl gr n H → va_S (own G) s.heap H locs → lv_has ls 3 [] → j_X0_vatOf_43  x7 = some r → W p l e rm_X0_vatOf s m ([.ref (adr G 64), .int a1, .int a2] : List Value).toArray below meth c H locs 0 0 (MQ below (QR G (some (.int r)) sh g gl gr n) ([.ref (adr G 64), .int a1, .int a2] : List Value).toArray s rm_X0_vatOf.cells rm_X0_vatOf.slots (own G)) (F0 m 43 ls [.int x7]) := by
        intro x7 H locs ls hR hS hl h
        unfold j_X0_vatOf_43 at h
        obtain rfl := s1i h
        exact r_iret0 hx hb hr hlk hR hS (Nat.zero_le _) (Nat.zero_le _) dX0_vatOf_43
      refine lv_if_ne (tgt := 34) hx hb dX0_vatOf_19 (by decide) (fun c8 => ?_) (fun c8 => ?_)
      · replace h := ifn h c8
        refine lv_aload_n hx hb dX0_vatOf_34 rfl (lv_at hl 0 rfl) ?_
        refine r_getr hx hb hts cfX0 hown hK hR (sk_64 hSk) 0 (by decide) rfl (sr_64_0 hSk) (hts _ q449) (fun _ h => h) dX0_vatOf_35 ?_
        refine r_getrN hx hb hts cfX1 hown hK hR (sk_65 hSk) 6 (by decide) rfl (sr_65_6 hSk) (hW.nestF q175) (fun _ h => h) dX0_vatOf_38 ?_
        refine lv_iload_n hx hb dX0_vatOf_41 rfl (lv_at hl 1 rfl) ?_
        obtain ⟨v10, e9, h⟩ := obd h
        refine r_ldi hx hb hK hR (sk_68 hSk) e9 dX0_vatOf_42 ?_
        exact J43 v10 _ _ _ hR hS (lv_sub hl [] rfl) h
      · replace h := ifp h c8
        refine lv_aload_n hx hb dX0_vatOf_22 rfl (lv_at hl 0 rfl) ?_
        refine r_getr hx hb hts cfX0 hown hK hR (sk_64 hSk) 0 (by decide) rfl (sr_64_0 hSk) (hts _ q449) (fun _ h => h) dX0_vatOf_23 ?_
        refine r_getrN hx hb hts cfX1 hown hK hR (sk_65 hSk) 5 (by decide) rfl (sr_65_5 hSk) (hW.nestF q171) (fun _ h => h) dX0_vatOf_26 ?_
        refine lv_iload_n hx hb dX0_vatOf_29 rfl (lv_at hl 1 rfl) ?_
        obtain ⟨v12, e11, h⟩ := obd h
        refine r_ldi hx hb hK hR (sk_67 hSk) e11 dX0_vatOf_30 ?_
        refine lv_goto (tgt := 43) hx hb dX0_vatOf_31 (by decide) ?_
        exact J43 v12 _ _ _ hR hS (lv_sub hl [] rfl) h
    · replace h := ifp h c6
      exact J16  _ _ _ hR hS (lv_sub hl [] rfl) h
def rm_X0_isRest : Room := { frames := 2, cells := 0, slots := 0, locals := 34 }
theorem he_X0_isRest : yX0_isRest.cls ≠ "java/lang/invoke/MethodHandle" ∧ yX0_isRest.cls ≠ "java/lang/invoke/VarHandle" ∧ (parseMethodDescriptor yX0_isRest.desc).map (fun d => d.parameters.length) = some 1 := by decide +kernel

set_option maxHeartbeats 4000000 in
set_option maxRecDepth 100000 in
theorem w_X0_isRest {l : Launch} {G : Gx} {sh : SM} {g : GM} {gl : LM} {gr : RM} {n : Nat} (hSk : Sk sh gr) (a0 : Int32)  {r : Int32} (h : f_X0_isRest  a0 = some r) : MetI l G yX0_isRest (ws_ yX0_isRest cX0_isRest 1 (Option.some Jvm.ClassFile.FieldType.boolean)) rm_X0_isRest [.int a0] sh g gl gr n (some (.int r)) sh g gl gr n := by
  refine MetI.of (by decide) (Nat.le_of_ble_eq_true rfl) ?_
  intro p e s m below meth c ls hx hb hr hml hown hts hlk hnm hW hK hR hS hl
  have hown : s.vm.findClass RX0 = some m.cls := hown
  have hF : CallFix p m c cX0_isRest 1 s ([.int a0] : List Value).toArray lw_all RX0 := ⟨hx, hb, hml, hown, hts⟩
  have hl : lv_has ls 1 [(0, .int a0)] := hl
  unfold f_X0_isRest at h
  refine lv_iload_n hx hb dX0_isRest_0 rfl (lv_at hl 0 rfl) ?_
  refine lv_iconst (v := 0) hx hb dX0_isRest_1 ki_0 ?_
  refine lv_iconst (v := 5) hx hb dX0_isRest_2 ki_5 ?_
  obtain ⟨r2, e1, h⟩ := obd h
  refine rc_S0 (rest := []) (st1 := [.int r2]) hF (w_X0_in hSk a0 0 5 e1) (va_cwS 3 hts (lw_S q508 q509 q100 q510) rfl rfl rfl he_X0_in ⟨Nat.le_of_ble_eq_true rfl, Nat.le_of_ble_eq_true rfl⟩) hW hR hS rfl hl.1 rfl (Nat.le_of_ble_eq_true rfl) rfl dX0_isRest_3 ⟨rfl, rfl⟩ ⟨Nat.zero_le _, Nat.zero_le _⟩ (fun H locs hR hS => ?_)
  obtain ⟨c3, h⟩ := ogrd h
  obtain rfl := s1i h
  exact r_zret0 hx hb hr hlk hR hS (Nat.zero_le _) (Nat.zero_le _) (nb01 c3) dX0_isRest_6
def rm_X0_roster : Room := { frames := 3, cells := 0, slots := 0, locals := 54 }
theorem hd_X0_roster : yX0_roster.cls = "IntentVats" ∧ yX0_roster.cls ≠ "java/lang/invoke/MethodHandle" ∧ yX0_roster.cls ≠ "java/lang/invoke/VarHandle" ∧ (parseMethodDescriptor yX0_roster.desc).map (fun d => d.parameters.length) = some 2 := by decide +kernel
theorem he_X0_roster : yX0_roster.cls ≠ "java/lang/invoke/MethodHandle" ∧ yX0_roster.cls ≠ "java/lang/invoke/VarHandle" ∧ (parseMethodDescriptor yX0_roster.desc).map (fun d => d.parameters.length) = some 2 := hd_X0_roster.2

set_option maxHeartbeats 4000000 in
set_option maxRecDepth 100000 in
theorem w_X0_roster {l : Launch} {G : Gx} {sh : SM} {g : GM} {gl : LM} {gr : RM} {n : Nat} (hSk : Sk sh gr) (a1 : Int32) (a2 : Int32)  {r : Int32} {go : GM} (h : f_X0_roster g a1 a2 = some (r, go)) : MetI l G yX0_roster (ws_ yX0_roster cX0_roster 3 (Option.some Jvm.ClassFile.FieldType.int)) rm_X0_roster [.ref (adr G 64), .int a1, .int a2] sh g gl gr n (some (.int r)) sh go gl gr n := by
  refine MetI.of (by decide) (Nat.le_of_ble_eq_true rfl) ?_
  intro p e s m below meth c ls hx hb hr hml hown hts hlk hnm hW hK hR hS hl
  have hown : s.vm.findClass RX0 = some m.cls := hown
  have hF : CallFix p m c cX0_roster 3 s ([.ref (adr G 64), .int a1, .int a2] : List Value).toArray lw_all RX0 := ⟨hx, hb, hml, hown, hts⟩
  have hl : lv_has ls 3 [(0, .ref (adr G 64)), (1, .int a1), (2, .int a2)] := hl
  unfold f_X0_roster at h
  refine lv_iload_n hx hb dX0_roster_0 rfl (lv_at hl 1 rfl) ?_
  obtain ⟨r2, e1, h⟩ := obd h
  refine rc_S0 (rest := []) (st1 := [.int r2]) hF (w_X0_isRest hSk a1 e1) (va_cwS 1 hts (lw_S q696 q697 q100 q698) rfl rfl rfl he_X0_isRest ⟨Nat.le_of_ble_eq_true rfl, Nat.le_of_ble_eq_true rfl⟩) hW hR hS rfl hl.1 rfl (Nat.le_of_ble_eq_true rfl) rfl dX0_roster_1 ⟨rfl, rfl⟩ ⟨Nat.zero_le _, Nat.zero_le _⟩ (fun H locs hR hS => ?_)
  have J35 : ∀ (x3 : Int32) (g4 : GM) (H : Heap) (locs : List Loc) (ls : Array Slot), Rep G sh g4 gl gr n H → va_S (own G) s.heap H locs → lv_has ls 3 [] → j_X0_roster_35  x3 g4 = some (r, go) → W p l e rm_X0_roster s m ([.ref (adr G 64), .int a1, .int a2] : List Value).toArray below meth c H locs 0 0 (MQ below (QR G (some (.int r)) sh go gl gr n) ([.ref (adr G 64), .int a1, .int a2] : List Value).toArray s rm_X0_roster.cells rm_X0_roster.slots (own G)) (F0 m 35 ls [.int x3]) := by
    intro x3 g4 H locs ls hR hS hl h
    unfold j_X0_roster_35 at h
    obtain ⟨rfl, rfl⟩ := s2i h
    exact r_iret0 hx hb hr hlk hR hS (Nat.zero_le _) (Nat.zero_le _) dX0_roster_35
  have J34 : ∀  (H : Heap) (locs : List Loc) (ls : Array Slot), Rep G sh g gl gr n H → va_S (own G) s.heap H locs → lv_has ls 3 [] → j_X0_roster_34 g  = some (r, go) → W p l e rm_X0_roster s m ([.ref (adr G 64), .int a1, .int a2] : List Value).toArray below meth c H locs 0 0 (MQ below (QR G (some (.int r)) sh go gl gr n) ([.ref (adr G 64), .int a1, .int a2] : List Value).toArray s rm_X0_roster.cells rm_X0_roster.slots (own G)) (F0 m 34 ls []) := by
    intro  H locs ls hR hS hl h
    unfold j_X0_roster_34 at h
    refine lv_iconst (v := (-1)) hx hb dX0_roster_34 ki_m1 ?_
    exact J35 (-1) g _ _ _ hR hS (lv_sub hl [] rfl) h
  refine lv_if_eq (tgt := 34) hx hb dX0_roster_4 (by decide) (fun c5 => ?_) (fun c5 => ?_)
  · replace h := ifp h c5
    exact J34  _ _ _ hR hS (lv_sub hl [] rfl) h
  · replace h := ifn h c5
    refine lv_iload_n hx hb dX0_roster_7 rfl (lv_at hl 2 rfl) ?_
    refine lv_iconst (v := (-1)) hx hb dX0_roster_8 ki_m1 ?_
    refine lv_bipush (v := 7) hx hb dX0_roster_9 kb_7 ?_
    obtain ⟨r7, e6, h⟩ := obd h
    refine rc_S0 (rest := []) (st1 := [.int r7]) hF (w_X0_in hSk a2 (-1) 7 e6) (va_cwS 3 hts (lw_S q508 q509 q100 q510) rfl rfl rfl he_X0_in ⟨Nat.le_of_ble_eq_true rfl, Nat.le_of_ble_eq_true rfl⟩) hW hR hS rfl hl.1 rfl (Nat.le_of_ble_eq_true rfl) rfl dX0_roster_11 ⟨rfl, rfl⟩ ⟨Nat.zero_le _, Nat.zero_le _⟩ (fun H locs hR hS => ?_)
    refine lv_if_eq (tgt := 34) hx hb dX0_roster_14 (by decide) (fun c8 => ?_) (fun c8 => ?_)
    · replace h := ifp h c8
      exact J34  _ _ _ hR hS (lv_sub hl [] rfl) h
    · replace h := ifn h c8
      refine lv_iconst (v := 1) hx hb dX0_roster_17 ki_1 ?_
      refine lv_aload_n hx hb dX0_roster_18 rfl (lv_at hl 0 rfl) ?_
      refine r_getr hx hb hts cfX0 hown hK hR (sk_64 hSk) 0 (by decide) rfl (sr_64_0 hSk) (hts _ q449) (fun _ h => h) dX0_roster_19 ?_
      refine r_getrN hx hb hts cfX1 hown hK hR (sk_65 hSk) 7 (by decide) rfl (sr_65_7 hSk) (hW.nestF q179) (fun _ h => h) dX0_roster_22 ?_
      refine lv_iload_n hx hb dX0_roster_25 rfl (lv_at hl 1 rfl) ?_
      refine lv_iload_n hx hb dX0_roster_26 rfl (lv_at hl 2 rfl) ?_
      obtain ⟨r10, g11, e9, h⟩ := obd2 h
      refine rc_S0 (rest := [.int 1]) (st1 := [.int r10, .int 1]) hF (w_X0_becomes hSk 69 6 a1 a2 (sk_69 hSk) e9) (va_cwS 3 hts (lw_S q685 q686 q100 q687) rfl rfl rfl he_X0_becomes ⟨Nat.le_of_ble_eq_true rfl, Nat.le_of_ble_eq_true rfl⟩) hW hR hS rfl hl.1 rfl (Nat.le_of_ble_eq_true rfl) rfl dX0_roster_27 ⟨rfl, rfl⟩ ⟨Nat.zero_le _, Nat.zero_le _⟩ (fun H locs hR hS => ?_)
      refine lv_iadd hx hb dX0_roster_30 ?_
      refine lv_goto (tgt := 35) hx hb dX0_roster_31 (by decide) ?_
      exact J35 (1 + r10) g11 _ _ _ hR hS (lv_sub hl [] rfl) h
def rm_X0_rosterOf : Room := { frames := 3, cells := 0, slots := 0, locals := 54 }
theorem hd_X0_rosterOf : yX0_rosterOf.cls = "IntentVats" ∧ yX0_rosterOf.cls ≠ "java/lang/invoke/MethodHandle" ∧ yX0_rosterOf.cls ≠ "java/lang/invoke/VarHandle" ∧ (parseMethodDescriptor yX0_rosterOf.desc).map (fun d => d.parameters.length) = some 1 := by decide +kernel
theorem he_X0_rosterOf : yX0_rosterOf.cls ≠ "java/lang/invoke/MethodHandle" ∧ yX0_rosterOf.cls ≠ "java/lang/invoke/VarHandle" ∧ (parseMethodDescriptor yX0_rosterOf.desc).map (fun d => d.parameters.length) = some 1 := hd_X0_rosterOf.2

set_option maxHeartbeats 4000000 in
set_option maxRecDepth 100000 in
theorem w_X0_rosterOf {l : Launch} {G : Gx} {sh : SM} {g : GM} {gl : LM} {gr : RM} {n : Nat} (hSk : Sk sh gr) (a1 : Int32)  {r : Int32} (h : f_X0_rosterOf g a1 = some r) : MetI l G yX0_rosterOf (ws_ yX0_rosterOf cX0_rosterOf 2 (Option.some Jvm.ClassFile.FieldType.int)) rm_X0_rosterOf [.ref (adr G 64), .int a1] sh g gl gr n (some (.int r)) sh g gl gr n := by
  refine MetI.of (by decide) (Nat.le_of_ble_eq_true rfl) ?_
  intro p e s m below meth c ls hx hb hr hml hown hts hlk hnm hW hK hR hS hl
  have hown : s.vm.findClass RX0 = some m.cls := hown
  have hF : CallFix p m c cX0_rosterOf 2 s ([.ref (adr G 64), .int a1] : List Value).toArray lw_all RX0 := ⟨hx, hb, hml, hown, hts⟩
  have hl : lv_has ls 2 [(0, .ref (adr G 64)), (1, .int a1)] := hl
  unfold f_X0_rosterOf at h
  refine lv_iload_n hx hb dX0_rosterOf_0 rfl (lv_at hl 1 rfl) ?_
  obtain ⟨r2, e1, h⟩ := obd h
  refine rc_S0 (rest := []) (st1 := [.int r2]) hF (w_X0_isRest hSk a1 e1) (va_cwS 1 hts (lw_S q696 q697 q100 q698) rfl rfl rfl he_X0_isRest ⟨Nat.le_of_ble_eq_true rfl, Nat.le_of_ble_eq_true rfl⟩) hW hR hS rfl hl.1 rfl (Nat.le_of_ble_eq_true rfl) rfl dX0_rosterOf_1 ⟨rfl, rfl⟩ ⟨Nat.zero_le _, Nat.zero_le _⟩ (fun H locs hR hS => ?_)
  have J22 : ∀ (x3 : Int32) (H : Heap) (locs : List Loc) (ls : Array Slot), Rep G sh g gl gr n H → va_S (own G) s.heap H locs → lv_has ls 2 [] → j_X0_rosterOf_22  x3 = some r → W p l e rm_X0_rosterOf s m ([.ref (adr G 64), .int a1] : List Value).toArray below meth c H locs 0 0 (MQ below (QR G (some (.int r)) sh g gl gr n) ([.ref (adr G 64), .int a1] : List Value).toArray s rm_X0_rosterOf.cells rm_X0_rosterOf.slots (own G)) (F0 m 22 ls [.int x3]) := by
    intro x3 H locs ls hR hS hl h
    unfold j_X0_rosterOf_22 at h
    obtain rfl := s1i h
    exact r_iret0 hx hb hr hlk hR hS (Nat.zero_le _) (Nat.zero_le _) dX0_rosterOf_22
  refine lv_if_eq (tgt := 21) hx hb dX0_rosterOf_4 (by decide) (fun c4 => ?_) (fun c4 => ?_)
  · replace h := ifp h c4
    refine lv_iconst (v := (-1)) hx hb dX0_rosterOf_21 ki_m1 ?_
    exact J22 (-1) _ _ _ hR hS (lv_sub hl [] rfl) h
  · replace h := ifn h c4
    refine lv_iconst (v := 1) hx hb dX0_rosterOf_7 ki_1 ?_
    refine lv_aload_n hx hb dX0_rosterOf_8 rfl (lv_at hl 0 rfl) ?_
    refine r_getr hx hb hts cfX0 hown hK hR (sk_64 hSk) 0 (by decide) rfl (sr_64_0 hSk) (hts _ q449) (fun _ h => h) dX0_rosterOf_9 ?_
    refine r_getrN hx hb hts cfX1 hown hK hR (sk_65 hSk) 7 (by decide) rfl (sr_65_7 hSk) (hW.nestF q179) (fun _ h => h) dX0_rosterOf_12 ?_
    refine lv_iload_n hx hb dX0_rosterOf_15 rfl (lv_at hl 1 rfl) ?_
    obtain ⟨v6, e5, h⟩ := obd h
    refine r_ldi hx hb hK hR (sk_69 hSk) e5 dX0_rosterOf_16 ?_
    refine lv_iadd hx hb dX0_rosterOf_17 ?_
    refine lv_goto (tgt := 22) hx hb dX0_rosterOf_18 (by decide) ?_
    exact J22 (1 + v6) _ _ _ hR hS (lv_sub hl [] rfl) h
def rm_X0_isKind : Room := { frames := 2, cells := 0, slots := 0, locals := 34 }
theorem he_X0_isKind : yX0_isKind.cls ≠ "java/lang/invoke/MethodHandle" ∧ yX0_isKind.cls ≠ "java/lang/invoke/VarHandle" ∧ (parseMethodDescriptor yX0_isKind.desc).map (fun d => d.parameters.length) = some 1 := by decide +kernel

set_option maxHeartbeats 4000000 in
set_option maxRecDepth 100000 in
theorem w_X0_isKind {l : Launch} {G : Gx} {sh : SM} {g : GM} {gl : LM} {gr : RM} {n : Nat} (hSk : Sk sh gr) (a0 : Int32)  {r : Int32} (h : f_X0_isKind  a0 = some r) : MetI l G yX0_isKind (ws_ yX0_isKind cX0_isKind 1 (Option.some Jvm.ClassFile.FieldType.boolean)) rm_X0_isKind [.int a0] sh g gl gr n (some (.int r)) sh g gl gr n := by
  refine MetI.of (by decide) (Nat.le_of_ble_eq_true rfl) ?_
  intro p e s m below meth c ls hx hb hr hml hown hts hlk hnm hW hK hR hS hl
  have hown : s.vm.findClass RX0 = some m.cls := hown
  have hF : CallFix p m c cX0_isKind 1 s ([.int a0] : List Value).toArray lw_all RX0 := ⟨hx, hb, hml, hown, hts⟩
  have hl : lv_has ls 1 [(0, .int a0)] := hl
  unfold f_X0_isKind at h
  refine lv_iload_n hx hb dX0_isKind_0 rfl (lv_at hl 0 rfl) ?_
  refine lv_iconst (v := 0) hx hb dX0_isKind_1 ki_0 ?_
  refine lv_iconst (v := 5) hx hb dX0_isKind_2 ki_5 ?_
  obtain ⟨r2, e1, h⟩ := obd h
  refine rc_S0 (rest := []) (st1 := [.int r2]) hF (w_X0_in hSk a0 0 5 e1) (va_cwS 3 hts (lw_S q508 q509 q100 q510) rfl rfl rfl he_X0_in ⟨Nat.le_of_ble_eq_true rfl, Nat.le_of_ble_eq_true rfl⟩) hW hR hS rfl hl.1 rfl (Nat.le_of_ble_eq_true rfl) rfl dX0_isKind_3 ⟨rfl, rfl⟩ ⟨Nat.zero_le _, Nat.zero_le _⟩ (fun H locs hR hS => ?_)
  obtain ⟨c3, h⟩ := ogrd h
  obtain rfl := s1i h
  exact r_zret0 hx hb hr hlk hR hS (Nat.zero_le _) (Nat.zero_le _) (nb01 c3) dX0_isKind_6
def rm_X0_cloth : Room := { frames := 3, cells := 0, slots := 0, locals := 56 }
theorem hd_X0_cloth : yX0_cloth.cls = "IntentVats" ∧ yX0_cloth.cls ≠ "java/lang/invoke/MethodHandle" ∧ yX0_cloth.cls ≠ "java/lang/invoke/VarHandle" ∧ (parseMethodDescriptor yX0_cloth.desc).map (fun d => d.parameters.length) = some 1 := by decide +kernel
theorem he_X0_cloth : yX0_cloth.cls ≠ "java/lang/invoke/MethodHandle" ∧ yX0_cloth.cls ≠ "java/lang/invoke/VarHandle" ∧ (parseMethodDescriptor yX0_cloth.desc).map (fun d => d.parameters.length) = some 1 := hd_X0_cloth.2

set_option maxHeartbeats 4000000 in
set_option maxRecDepth 100000 in
theorem w_X0_cloth {l : Launch} {G : Gx} {sh : SM} {g : GM} {gl : LM} {gr : RM} {n : Nat} (hSk : Sk sh gr) (a1 : Int32)  {r : Int32} {go : GM} (h : f_X0_cloth g a1 = some (r, go)) : MetI l G yX0_cloth (ws_ yX0_cloth cX0_cloth 2 (Option.some Jvm.ClassFile.FieldType.int)) rm_X0_cloth [.ref (adr G 64), .int a1] sh g gl gr n (some (.int r)) sh go gl gr n := by
  refine MetI.of (by decide) (Nat.le_of_ble_eq_true rfl) ?_
  intro p e s m below meth c ls hx hb hr hml hown hts hlk hnm hW hK hR hS hl
  have hown : s.vm.findClass RX0 = some m.cls := hown
  have hF : CallFix p m c cX0_cloth 2 s ([.ref (adr G 64), .int a1] : List Value).toArray lw_all RX0 := ⟨hx, hb, hml, hown, hts⟩
  have hl : lv_has ls 2 [(0, .ref (adr G 64)), (1, .int a1)] := hl
  unfold f_X0_cloth at h
  refine lv_iload_n hx hb dX0_cloth_0 rfl (lv_at hl 1 rfl) ?_
  obtain ⟨r2, e1, h⟩ := obd h
  refine rc_S0 (rest := []) (st1 := [.int r2]) hF (w_X0_isKind hSk a1 e1) (va_cwS 1 hts (lw_S q707 q708 q100 q709) rfl rfl rfl he_X0_isKind ⟨Nat.le_of_ble_eq_true rfl, Nat.le_of_ble_eq_true rfl⟩) hW hR hS rfl hl.1 rfl (Nat.le_of_ble_eq_true rfl) rfl dX0_cloth_1 ⟨rfl, rfl⟩ ⟨Nat.zero_le _, Nat.zero_le _⟩ (fun H locs hR hS => ?_)
  refine lv_if_ne (tgt := 9) hx hb dX0_cloth_4 (by decide) (fun c3 => ?_) (fun c3 => ?_)
  · replace h := ifn h c3
    refine lv_aload_n hx hb dX0_cloth_9 rfl (lv_at hl 0 rfl) ?_
    refine r_getr hx hb hts cfX0 hown hK hR (sk_64 hSk) 0 (by decide) rfl (sr_64_0 hSk) (hts _ q449) (fun _ h => h) dX0_cloth_10 ?_
    refine r_getiN hx hb hts cfX1 hown hK hR (sk_65 hSk) 0 (by decide) rfl (hW.nestF q153) (fun _ h => h) dX0_cloth_13 ?_
    refine lv_bipush (v := 8) hx hb dX0_cloth_16 kb_8 ?_
    have J34 : ∀ (x4 : Int32) (g5 : GM) (H : Heap) (locs : List Loc) (ls : Array Slot), Rep G sh g5 gl gr n H → va_S (own G) s.heap H locs → lv_has ls 2 [] → j_X0_cloth_34  x4 g5 = some (r, go) → W p l e rm_X0_cloth s m ([.ref (adr G 64), .int a1] : List Value).toArray below meth c H locs 0 0 (MQ below (QR G (some (.int r)) sh go gl gr n) ([.ref (adr G 64), .int a1] : List Value).toArray s rm_X0_cloth.cells rm_X0_cloth.slots (own G)) (F0 m 34 ls [.int x4]) := by
      intro x4 g5 H locs ls hR hS hl h
      unfold j_X0_cloth_34 at h
      obtain ⟨rfl, rfl⟩ := s2i h
      exact r_iret0 hx hb hr hlk hR hS (Nat.zero_le _) (Nat.zero_le _) dX0_cloth_34
    refine lv_icmp_ne (tgt := 26) hx hb dX0_cloth_18 (by decide) (fun c6 => ?_) (fun c6 => ?_)
    · replace h := ifn h c6
      refine lv_aload_n hx hb dX0_cloth_26 rfl (lv_at hl 0 rfl) ?_
      refine r_getr hx hb hts cfX0 hown hK hR (sk_64 hSk) 0 (by decide) rfl (sr_64_0 hSk) (hts _ q449) (fun _ h => h) dX0_cloth_27 ?_
      refine lv_iload_n hx hb dX0_cloth_30 rfl (lv_at hl 1 rfl) ?_
      obtain ⟨r8, g9, e7, h⟩ := obd2 h
      refine rc_V0 (rest := []) (st1 := [.int r8]) hF (w_X1_add hSk 65 a1 (isMl_65) e7) (cwV 1 hts (lw_V q710 q621 q622 q101 q623) rfl rfl rfl hd_X1_add ⟨Nat.le_of_ble_eq_true rfl, Nat.le_of_ble_eq_true rfl⟩) cfX1 (sk_65 hSk) hK hW hR hS rfl hl.1 rfl (Nat.le_of_ble_eq_true rfl) rfl dX0_cloth_31 ⟨rfl, rfl⟩ ⟨Nat.zero_le _, Nat.zero_le _⟩ (fun H locs hR hS => ?_)
      exact J34 r8 g9 _ _ _ hR hS (lv_sub hl [] rfl) h
    · replace h := ifp h c6
      refine lv_bipush (v := (-2)) hx hb dX0_cloth_21 kb_m2 ?_
      refine lv_goto (tgt := 34) hx hb dX0_cloth_23 (by decide) ?_
      exact J34 (-2) g _ _ _ hR hS (lv_sub hl [] rfl) h
  · replace h := ifp h c3
    refine lv_iconst (v := (-1)) hx hb dX0_cloth_7 ki_m1 ?_
    obtain ⟨rfl, rfl⟩ := s2i h
    exact r_iret0 hx hb hr hlk hR hS (Nat.zero_le _) (Nat.zero_le _) dX0_cloth_8
def rm_X0_isCloth : Room := { frames := 2, cells := 0, slots := 0, locals := 34 }
theorem hd_X0_isCloth : yX0_isCloth.cls = "IntentVats" ∧ yX0_isCloth.cls ≠ "java/lang/invoke/MethodHandle" ∧ yX0_isCloth.cls ≠ "java/lang/invoke/VarHandle" ∧ (parseMethodDescriptor yX0_isCloth.desc).map (fun d => d.parameters.length) = some 1 := by decide +kernel
theorem he_X0_isCloth : yX0_isCloth.cls ≠ "java/lang/invoke/MethodHandle" ∧ yX0_isCloth.cls ≠ "java/lang/invoke/VarHandle" ∧ (parseMethodDescriptor yX0_isCloth.desc).map (fun d => d.parameters.length) = some 1 := hd_X0_isCloth.2

set_option maxHeartbeats 4000000 in
set_option maxRecDepth 100000 in
theorem w_X0_isCloth {l : Launch} {G : Gx} {sh : SM} {g : GM} {gl : LM} {gr : RM} {n : Nat} (hSk : Sk sh gr) (a1 : Int32)  {r : Int32} (h : f_X0_isCloth g a1 = some r) : MetI l G yX0_isCloth (ws_ yX0_isCloth cX0_isCloth 2 (Option.some Jvm.ClassFile.FieldType.boolean)) rm_X0_isCloth [.ref (adr G 64), .int a1] sh g gl gr n (some (.int r)) sh g gl gr n := by
  refine MetI.of (by decide) (Nat.le_of_ble_eq_true rfl) ?_
  intro p e s m below meth c ls hx hb hr hml hown hts hlk hnm hW hK hR hS hl
  have hown : s.vm.findClass RX0 = some m.cls := hown
  have hF : CallFix p m c cX0_isCloth 2 s ([.ref (adr G 64), .int a1] : List Value).toArray lw_all RX0 := ⟨hx, hb, hml, hown, hts⟩
  have hl : lv_has ls 2 [(0, .ref (adr G 64)), (1, .int a1)] := hl
  unfold f_X0_isCloth at h
  refine lv_iload_n hx hb dX0_isCloth_0 rfl (lv_at hl 1 rfl) ?_
  refine lv_iconst (v := 0) hx hb dX0_isCloth_1 ki_0 ?_
  refine lv_aload_n hx hb dX0_isCloth_2 rfl (lv_at hl 0 rfl) ?_
  refine r_getr hx hb hts cfX0 hown hK hR (sk_64 hSk) 0 (by decide) rfl (sr_64_0 hSk) (hts _ q449) (fun _ h => h) dX0_isCloth_3 ?_
  refine r_getiN hx hb hts cfX1 hown hK hR (sk_65 hSk) 0 (by decide) rfl (hW.nestF q153) (fun _ h => h) dX0_isCloth_6 ?_
  refine lv_iconst (v := 1) hx hb dX0_isCloth_9 ki_1 ?_
  refine lv_isub hx hb dX0_isCloth_10 ?_
  obtain ⟨r2, e1, h⟩ := obd h
  refine rc_S0 (rest := []) (st1 := [.int r2]) hF (w_X0_in hSk a1 0 ((g 65 0) - 1) e1) (va_cwS 3 hts (lw_S q508 q509 q100 q510) rfl rfl rfl he_X0_in ⟨Nat.le_of_ble_eq_true rfl, Nat.le_of_ble_eq_true rfl⟩) hW hR hS rfl hl.1 rfl (Nat.le_of_ble_eq_true rfl) rfl dX0_isCloth_11 ⟨rfl, rfl⟩ ⟨Nat.zero_le _, Nat.zero_le _⟩ (fun H locs hR hS => ?_)
  obtain ⟨c3, h⟩ := ogrd h
  obtain rfl := s1i h
  exact r_zret0 hx hb hr hlk hR hS (Nat.zero_le _) (Nat.zero_le _) (nb01 c3) dX0_isCloth_14
def rm_X0_of : Room := { frames := 3, cells := 0, slots := 0, locals := 55 }
theorem hd_X0_of : yX0_of.cls = "IntentVats" ∧ yX0_of.cls ≠ "java/lang/invoke/MethodHandle" ∧ yX0_of.cls ≠ "java/lang/invoke/VarHandle" ∧ (parseMethodDescriptor yX0_of.desc).map (fun d => d.parameters.length) = some 2 := by decide +kernel
theorem he_X0_of : yX0_of.cls ≠ "java/lang/invoke/MethodHandle" ∧ yX0_of.cls ≠ "java/lang/invoke/VarHandle" ∧ (parseMethodDescriptor yX0_of.desc).map (fun d => d.parameters.length) = some 2 := hd_X0_of.2

set_option maxHeartbeats 4000000 in
set_option maxRecDepth 100000 in
theorem w_X0_of {l : Launch} {G : Gx} {sh : SM} {g : GM} {gl : LM} {gr : RM} {n : Nat} (hSk : Sk sh gr) (a1 : Int32) (a2 : Int32)  {r : Int32} (h : f_X0_of g a1 a2 = some r) : MetI l G yX0_of (ws_ yX0_of cX0_of 3 (Option.some Jvm.ClassFile.FieldType.int)) rm_X0_of [.ref (adr G 64), .int a1, .int a2] sh g gl gr n (some (.int r)) sh g gl gr n := by
  refine MetI.of (by decide) (Nat.le_of_ble_eq_true rfl) ?_
  intro p e s m below meth c ls hx hb hr hml hown hts hlk hnm hW hK hR hS hl
  have hown : s.vm.findClass RX0 = some m.cls := hown
  have hF : CallFix p m c cX0_of 3 s ([.ref (adr G 64), .int a1, .int a2] : List Value).toArray lw_all RX0 := ⟨hx, hb, hml, hown, hts⟩
  have hl : lv_has ls 3 [(0, .ref (adr G 64)), (1, .int a1), (2, .int a2)] := hl
  unfold f_X0_of at h
  refine lv_aload_n hx hb dX0_of_0 rfl (lv_at hl 0 rfl) ?_
  refine lv_iload_n hx hb dX0_of_1 rfl (lv_at hl 1 rfl) ?_
  obtain ⟨r2, e1, h⟩ := obd h
  refine rc_V0 (rest := []) (st1 := [.int r2]) hF (w_X0_isCloth hSk a1 e1) (cwV 1 hts (lw_V q715 q717 qs15 q100 q718) rfl rfl rfl hd_X0_isCloth ⟨Nat.le_of_ble_eq_true rfl, Nat.le_of_ble_eq_true rfl⟩) cfX0 (sk_64 hSk) hK hW hR hS rfl hl.1 rfl (Nat.le_of_ble_eq_true rfl) rfl dX0_of_2 ⟨rfl, rfl⟩ ⟨Nat.zero_le _, Nat.zero_le _⟩ (fun H locs hR hS => ?_)
  refine lv_if_ne (tgt := 10) hx hb dX0_of_5 (by decide) (fun c3 => ?_) (fun c3 => ?_)
  · replace h := ifn h c3
    refine lv_iload_n hx hb dX0_of_10 rfl (lv_at hl 2 rfl) ?_
    by_cases c4 : a2 = 0
    · replace h := ifp h c4
      refine lv_tableIn (off := 33) (tgt := 44) hx hb dX0_of_11 (by rw [c4]; decide) (by rw [c4]; decide) (by rw [c4]; decide) (by decide) ?_
      refine lv_aload_n hx hb dX0_of_44 rfl (lv_at hl 0 rfl) ?_
      refine r_getr hx hb hts cfX0 hown hK hR (sk_64 hSk) 0 (by decide) rfl (sr_64_0 hSk) (hts _ q449) (fun _ h => h) dX0_of_45 ?_
      refine r_getrN hx hb hts cfX1 hown hK hR (sk_65 hSk) 8 (by decide) rfl (sr_65_8 hSk) (hW.nestF q181) (fun _ h => h) dX0_of_48 ?_
      refine lv_iload_n hx hb dX0_of_51 rfl (lv_at hl 1 rfl) ?_
      obtain ⟨v6, e5, h⟩ := obd h
      refine r_ldi hx hb hK hR (sk_70 hSk) e5 dX0_of_52 ?_
      obtain rfl := s1i h
      exact r_iret0 hx hb hr hlk hR hS (Nat.zero_le _) (Nat.zero_le _) dX0_of_53
    · replace h := ifn h c4
      by_cases c7 : a2 = 1
      · replace h := ifp h c7
        refine lv_tableIn (off := 43) (tgt := 54) hx hb dX0_of_11 (by rw [c7]; decide) (by rw [c7]; decide) (by rw [c7]; decide) (by decide) ?_
        refine lv_iconst (v := 1) hx hb dX0_of_54 ki_1 ?_
        refine lv_aload_n hx hb dX0_of_55 rfl (lv_at hl 0 rfl) ?_
        refine r_getr hx hb hts cfX0 hown hK hR (sk_64 hSk) 0 (by decide) rfl (sr_64_0 hSk) (hts _ q449) (fun _ h => h) dX0_of_56 ?_
        refine r_getrN hx hb hts cfX1 hown hK hR (sk_65 hSk) 9 (by decide) rfl (sr_65_9 hSk) (hW.nestF q183) (fun _ h => h) dX0_of_59 ?_
        refine lv_iload_n hx hb dX0_of_62 rfl (lv_at hl 1 rfl) ?_
        obtain ⟨v9, e8, h⟩ := obd h
        refine r_ldi hx hb hK hR (sk_71 hSk) e8 dX0_of_63 ?_
        refine lv_iadd hx hb dX0_of_64 ?_
        obtain rfl := s1i h
        exact r_iret0 hx hb hr hlk hR hS (Nat.zero_le _) (Nat.zero_le _) dX0_of_65
      · replace h := ifn h c7
        by_cases c10 : a2 = 2
        · replace h := ifp h c10
          refine lv_tableIn (off := 55) (tgt := 66) hx hb dX0_of_11 (by rw [c10]; decide) (by rw [c10]; decide) (by rw [c10]; decide) (by decide) ?_
          refine lv_aload_n hx hb dX0_of_66 rfl (lv_at hl 0 rfl) ?_
          refine r_getr hx hb hts cfX0 hown hK hR (sk_64 hSk) 0 (by decide) rfl (sr_64_0 hSk) (hts _ q449) (fun _ h => h) dX0_of_67 ?_
          refine r_getrN hx hb hts cfX1 hown hK hR (sk_65 hSk) 10 (by decide) rfl (sr_65_10 hSk) (hW.nestF q186) (fun _ h => h) dX0_of_70 ?_
          refine lv_iload_n hx hb dX0_of_73 rfl (lv_at hl 1 rfl) ?_
          obtain ⟨v12, e11, h⟩ := obd h
          refine r_ldi hx hb hK hR (sk_72 hSk) e11 dX0_of_74 ?_
          obtain rfl := s1i h
          exact r_iret0 hx hb hr hlk hR hS (Nat.zero_le _) (Nat.zero_le _) dX0_of_75
        · replace h := ifn h c10
          by_cases c13 : a2 = 3
          · replace h := ifp h c13
            refine lv_tableIn (off := 65) (tgt := 76) hx hb dX0_of_11 (by rw [c13]; decide) (by rw [c13]; decide) (by rw [c13]; decide) (by decide) ?_
            refine lv_aload_n hx hb dX0_of_76 rfl (lv_at hl 0 rfl) ?_
            refine r_getr hx hb hts cfX0 hown hK hR (sk_64 hSk) 0 (by decide) rfl (sr_64_0 hSk) (hts _ q449) (fun _ h => h) dX0_of_77 ?_
            refine lv_iload_n hx hb dX0_of_80 rfl (lv_at hl 1 rfl) ?_
            obtain ⟨r15, e14, h⟩ := obd h
            refine rc_V0 (rest := []) (st1 := [.int r15]) hF (w_X1_isHung hSk 65 a1 (isMl_65) e14) (cwV 1 hts (lw_V q719 q720 q721 q101 q722) rfl rfl rfl hd_X1_isHung ⟨Nat.le_of_ble_eq_true rfl, Nat.le_of_ble_eq_true rfl⟩) cfX1 (sk_65 hSk) hK hW hR hS rfl hl.1 rfl (Nat.le_of_ble_eq_true rfl) rfl dX0_of_81 ⟨rfl, rfl⟩ ⟨Nat.zero_le _, Nat.zero_le _⟩ (fun H locs hR hS => ?_)
            have J92 : ∀ (x16 : Int32) (H : Heap) (locs : List Loc) (ls : Array Slot), Rep G sh g gl gr n H → va_S (own G) s.heap H locs → lv_has ls 3 [] → j_X0_of_92  x16 = some r → W p l e rm_X0_of s m ([.ref (adr G 64), .int a1, .int a2] : List Value).toArray below meth c H locs 0 0 (MQ below (QR G (some (.int r)) sh g gl gr n) ([.ref (adr G 64), .int a1, .int a2] : List Value).toArray s rm_X0_of.cells rm_X0_of.slots (own G)) (F0 m 92 ls [.int x16]) := by
              intro x16 H locs ls hR hS hl h
              unfold j_X0_of_92 at h
              obtain rfl := s1i h
              exact r_iret0 hx hb hr hlk hR hS (Nat.zero_le _) (Nat.zero_le _) dX0_of_92
            refine lv_if_eq (tgt := 91) hx hb dX0_of_84 (by decide) (fun c17 => ?_) (fun c17 => ?_)
            · replace h := ifp h c17
              refine lv_iconst (v := 0) hx hb dX0_of_91 ki_0 ?_
              exact J92 0 _ _ _ hR hS (lv_sub hl [] rfl) h
            · replace h := ifn h c17
              refine lv_iconst (v := 1) hx hb dX0_of_87 ki_1 ?_
              refine lv_goto (tgt := 92) hx hb dX0_of_88 (by decide) ?_
              exact J92 1 _ _ _ hR hS (lv_sub hl [] rfl) h
          · replace h := ifn h c13
            by_cases c18 : a2 = 4
            · replace h := ifp h c18
              refine lv_tableIn (off := 82) (tgt := 93) hx hb dX0_of_11 (by rw [c18]; decide) (by rw [c18]; decide) (by rw [c18]; decide) (by decide) ?_
              refine lv_aload_n hx hb dX0_of_93 rfl (lv_at hl 0 rfl) ?_
              refine r_getr hx hb hts cfX0 hown hK hR (sk_64 hSk) 0 (by decide) rfl (sr_64_0 hSk) (hts _ q449) (fun _ h => h) dX0_of_94 ?_
              refine r_getrN hx hb hts cfX1 hown hK hR (sk_65 hSk) 11 (by decide) rfl (sr_65_11 hSk) (hW.nestF q189) (fun _ h => h) dX0_of_97 ?_
              refine lv_iload_n hx hb dX0_of_100 rfl (lv_at hl 1 rfl) ?_
              obtain ⟨v20, e19, h⟩ := obd h
              refine r_ldi hx hb hK hR (sk_73 hSk) e19 dX0_of_101 ?_
              obtain rfl := s1i h
              exact r_iret0 hx hb hr hlk hR hS (Nat.zero_le _) (Nat.zero_le _) dX0_of_102
            · replace h := ifn h c18
              have dc4 : Int32.toInt a2 ≠ 0 := ne32 c4 (by decide)
              have dc7 : Int32.toInt a2 ≠ 1 := ne32 c7 (by decide)
              have dc10 : Int32.toInt a2 ≠ 2 := ne32 c10 (by decide)
              have dc13 : Int32.toInt a2 ≠ 3 := ne32 c13 (by decide)
              have dc18 : Int32.toInt a2 ≠ 4 := ne32 c18 (by decide)
              refine lv_tableOut (tgt := 103) hx hb dX0_of_11 (by omega) (by decide) ?_
              refine lv_iconst (v := (-1)) hx hb dX0_of_103 ki_m1 ?_
              obtain rfl := s1i h
              exact r_iret0 hx hb hr hlk hR hS (Nat.zero_le _) (Nat.zero_le _) dX0_of_104
  · replace h := ifp h c3
    refine lv_iconst (v := (-1)) hx hb dX0_of_8 ki_m1 ?_
    obtain rfl := s1i h
    exact r_iret0 hx hb hr hlk hR hS (Nat.zero_le _) (Nat.zero_le _) dX0_of_9
def rm_X0_wayOf : Room := { frames := 1, cells := 0, slots := 0, locals := 12 }
theorem hd_X0_wayOf : yX0_wayOf.cls = "IntentVats" ∧ yX0_wayOf.cls ≠ "java/lang/invoke/MethodHandle" ∧ yX0_wayOf.cls ≠ "java/lang/invoke/VarHandle" ∧ (parseMethodDescriptor yX0_wayOf.desc).map (fun d => d.parameters.length) = some 2 := by decide +kernel
theorem he_X0_wayOf : yX0_wayOf.cls ≠ "java/lang/invoke/MethodHandle" ∧ yX0_wayOf.cls ≠ "java/lang/invoke/VarHandle" ∧ (parseMethodDescriptor yX0_wayOf.desc).map (fun d => d.parameters.length) = some 2 := hd_X0_wayOf.2

set_option maxHeartbeats 4000000 in
set_option maxRecDepth 100000 in
theorem w_X0_wayOf {l : Launch} {G : Gx} {sh : SM} {g : GM} {gl : LM} {gr : RM} {n : Nat} (hSk : Sk sh gr) (b1 : Nat) (a2 : Int32) (hm_b1 : isMl b1) {r : Nat} (h : f_X0_wayOf g b1 a2 = some r) : MetI l G yX0_wayOf (ws_ yX0_wayOf cX0_wayOf 3 (Option.some (Jvm.ClassFile.FieldType.object "IntentVats$Plain"))) rm_X0_wayOf [.ref (adr G 64), .ref (adr G b1), .int a2] sh g gl gr n (some (.ref (adr G r))) sh g gl gr n := by
  refine MetI.of (by decide) (Nat.le_of_ble_eq_true rfl) ?_
  intro p e s m below meth c ls hx hb hr hml hown hts hlk hnm hW hK hR hS hl
  have hown : s.vm.findClass RX0 = some m.cls := hown
  have hF : CallFix p m c cX0_wayOf 3 s ([.ref (adr G 64), .ref (adr G b1), .int a2] : List Value).toArray lw_all RX0 := ⟨hx, hb, hml, hown, hts⟩
  have hl : lv_has ls 3 [(0, .ref (adr G 64)), (1, .ref (adr G b1)), (2, .int a2)] := hl
  unfold f_X0_wayOf at h
  refine lv_aload_n hx hb dX0_wayOf_0 rfl (lv_at hl 0 rfl) ?_
  refine r_getr hx hb hts cfX0 hown hK hR (sk_64 hSk) 5 (by decide) rfl (sr_64_5 hSk) (hts _ q454) (fun _ h => h) dX0_wayOf_1 ?_
  refine lv_aload_n hx hb dX0_wayOf_4 rfl (lv_at hl 1 rfl) ?_
  refine r_getrN hx hb hts cfX1 hown hK hR (mls_0 hSk hm_b1) 8 (by decide) rfl (mlr_8 hSk hm_b1) (hW.nestF q181) (fun _ h => h) dX0_wayOf_5 ?_
  refine lv_iload_n hx hb dX0_wayOf_8 rfl (lv_at hl 2 rfl) ?_
  obtain ⟨v2, e1, h⟩ := obd h
  refine r_ldi hx hb hK hR (mls_5 hSk hm_b1) e1 dX0_wayOf_9 ?_
  obtain ⟨j4, e3, h⟩ := obd h
  have qj4 := (chk_s e3).2.2
  refine r_ldr hx hb hK hR (sk_101 hSk) (by decide) (by decide) 4 rfl e3 (sra_101 hSk qj4) dX0_wayOf_10 ?_
  obtain rfl := s1i h
  exact r_aret0 (v := some (adr G (102 + j4))) hx hb hr (Or.inl ⟨_, rfl⟩) hlk hR hS (Nat.zero_le _) (Nat.zero_le _) dX0_wayOf_11
def rm_X0_does : Room := { frames := 7, cells := 0, slots := 0, locals := 300 }
theorem hd_X0_does : yX0_does.cls = "IntentVats" ∧ yX0_does.cls ≠ "java/lang/invoke/MethodHandle" ∧ yX0_does.cls ≠ "java/lang/invoke/VarHandle" ∧ (parseMethodDescriptor yX0_does.desc).map (fun d => d.parameters.length) = some 3 := by decide +kernel
theorem he_X0_does : yX0_does.cls ≠ "java/lang/invoke/MethodHandle" ∧ yX0_does.cls ≠ "java/lang/invoke/VarHandle" ∧ (parseMethodDescriptor yX0_does.desc).map (fun d => d.parameters.length) = some 3 := hd_X0_does.2

set_option maxHeartbeats 4000000 in
set_option maxRecDepth 100000 in
theorem w_X0_does {l : Launch} {G : Gx} {sh : SM} {g : GM} {gl : LM} {gr : RM} {n : Nat} (hSk : Sk sh gr) (a1 : Int32) (a2 : Int32) (a3 : Int32)  {r : Int32} (h : f_X0_does g a1 a2 a3 = some r) : MetI l G yX0_does (ws_ yX0_does cX0_does 5 (Option.some Jvm.ClassFile.FieldType.int)) rm_X0_does [.ref (adr G 64), .int a1, .int a2, .int a3] sh g gl gr n (some (.int r)) sh g gl gr n := by
  refine MetI.of (by decide) (Nat.le_of_ble_eq_true rfl) ?_
  intro p e s m below meth c ls hx hb hr hml hown hts hlk hnm hW hK hR hS hl
  have hown : s.vm.findClass RX0 = some m.cls := hown
  have hF : CallFix p m c cX0_does 5 s ([.ref (adr G 64), .int a1, .int a2, .int a3] : List Value).toArray lw_all RX0 := ⟨hx, hb, hml, hown, hts⟩
  have hl : lv_has ls 5 [(0, .ref (adr G 64)), (1, .int a1), (2, .int a2), (3, .int a3)] := hl
  unfold f_X0_does at h
  refine lv_aload_n hx hb dX0_does_0 rfl (lv_at hl 0 rfl) ?_
  refine lv_iload_n hx hb dX0_does_1 rfl (lv_at hl 1 rfl) ?_
  obtain ⟨r2, e1, h⟩ := obd h
  refine rc_V0 (rest := []) (st1 := [.int r2]) hF (w_X0_isCloth hSk a1 e1) (cwV 1 hts (lw_V q715 q717 qs15 q100 q718) rfl rfl rfl hd_X0_isCloth ⟨Nat.le_of_ble_eq_true rfl, Nat.le_of_ble_eq_true rfl⟩) cfX0 (sk_64 hSk) hK hW hR hS rfl hl.1 rfl (Nat.le_of_ble_eq_true rfl) rfl dX0_does_2 ⟨rfl, rfl⟩ ⟨Nat.zero_le _, Nat.zero_le _⟩ (fun H locs hR hS => ?_)
  have J24 : ∀  (H : Heap) (locs : List Loc) (ls : Array Slot), Rep G sh g gl gr n H → va_S (own G) s.heap H locs → lv_has ls 5 [] → j_X0_does_24   = some r → W p l e rm_X0_does s m ([.ref (adr G 64), .int a1, .int a2, .int a3] : List Value).toArray below meth c H locs 0 0 (MQ below (QR G (some (.int r)) sh g gl gr n) ([.ref (adr G 64), .int a1, .int a2, .int a3] : List Value).toArray s rm_X0_does.cells rm_X0_does.slots (own G)) (F0 m 24 ls []) := by
    intro  H locs ls hR hS hl h
    unfold j_X0_does_24 at h
    refine lv_iconst (v := (-1)) hx hb dX0_does_24 ki_m1 ?_
    obtain rfl := s1i h
    exact r_iret0 hx hb hr hlk hR hS (Nat.zero_le _) (Nat.zero_le _) dX0_does_25
  refine lv_if_eq (tgt := 24) hx hb dX0_does_5 (by decide) (fun c3 => ?_) (fun c3 => ?_)
  · replace h := ifp h c3
    exact J24  _ _ _ hR hS (lv_sub hl [] rfl) h
  · replace h := ifn h c3
    refine lv_iload_n hx hb dX0_does_8 rfl (lv_at hl 2 rfl) ?_
    obtain ⟨r5, e4, h⟩ := obd h
    refine rc_S0 (rest := []) (st1 := [.int r5]) hF (w_X0_isVat hSk a2 e4) (va_cwS 1 hts (lw_S q682 q683 q100 q684) rfl rfl rfl he_X0_isVat ⟨Nat.le_of_ble_eq_true rfl, Nat.le_of_ble_eq_true rfl⟩) hW hR hS rfl hl.1 rfl (Nat.le_of_ble_eq_true rfl) rfl dX0_does_9 ⟨rfl, rfl⟩ ⟨Nat.zero_le _, Nat.zero_le _⟩ (fun H locs hR hS => ?_)
    refine lv_if_eq (tgt := 24) hx hb dX0_does_12 (by decide) (fun c6 => ?_) (fun c6 => ?_)
    · replace h := ifp h c6
      exact J24  _ _ _ hR hS (lv_sub hl [] rfl) h
    · replace h := ifn h c6
      refine lv_iload_n hx hb dX0_does_15 rfl (lv_at hl 3 rfl) ?_
      refine lv_iconst (v := 0) hx hb dX0_does_16 ki_0 ?_
      refine lv_iconst (v := 2) hx hb dX0_does_17 ki_2 ?_
      obtain ⟨r8, e7, h⟩ := obd h
      refine rc_S0 (rest := []) (st1 := [.int r8]) hF (w_X0_in hSk a3 0 2 e7) (va_cwS 3 hts (lw_S q508 q509 q100 q510) rfl rfl rfl he_X0_in ⟨Nat.le_of_ble_eq_true rfl, Nat.le_of_ble_eq_true rfl⟩) hW hR hS rfl hl.1 rfl (Nat.le_of_ble_eq_true rfl) rfl dX0_does_18 ⟨rfl, rfl⟩ ⟨Nat.zero_le _, Nat.zero_le _⟩ (fun H locs hR hS => ?_)
      refine lv_if_ne (tgt := 26) hx hb dX0_does_21 (by decide) (fun c9 => ?_) (fun c9 => ?_)
      · replace h := ifn h c9
        refine lv_aload_n hx hb dX0_does_26 rfl (lv_at hl 0 rfl) ?_
        refine lv_aload_n hx hb dX0_does_27 rfl (lv_at hl 0 rfl) ?_
        refine r_getr hx hb hts cfX0 hown hK hR (sk_64 hSk) 0 (by decide) rfl (sr_64_0 hSk) (hts _ q449) (fun _ h => h) dX0_does_28 ?_
        refine lv_iload_n hx hb dX0_does_31 rfl (lv_at hl 1 rfl) ?_
        obtain ⟨r11, e10, h⟩ := obd h
        refine rc_V0 (rest := []) (st1 := [.ref (adr G r11)]) hF (w_X0_wayOf hSk 65 a1 (isMl_65) e10) (cwV 2 hts (lw_V q730 q732 qs16 q100 q733) rfl rfl rfl hd_X0_wayOf ⟨Nat.le_of_ble_eq_true rfl, Nat.le_of_ble_eq_true rfl⟩) cfX0 (sk_64 hSk) hK hW hR hS rfl hl.1 rfl (Nat.le_of_ble_eq_true rfl) rfl dX0_does_32 ⟨rfl, rfl⟩ ⟨Nat.zero_le _, Nat.zero_le _⟩ (fun H locs hR hS => ?_)
        refine lv_astore (lv' := [(4, .ref (adr G r11)), (0, .ref (adr G 64)), (1, .int a1), (2, .int a2), (3, .int a3)]) hx hb dX0_does_35 hl (by decide) rfl (fun ls hl => ?_)
        refine lv_sipush (v := 1000) hx hb dX0_does_37 ks_1000 ?_
        refine lv_iload_n hx hb dX0_does_40 rfl (lv_at hl 4 rfl) ?_
        have J84 : ∀ (x12 : Int32) (H : Heap) (locs : List Loc) (ls : Array Slot), Rep G sh g gl gr n H → va_S (own G) s.heap H locs → lv_has ls 5 [] → j_X0_does_84  x12 = some r → W p l e rm_X0_does s m ([.ref (adr G 64), .int a1, .int a2, .int a3] : List Value).toArray below meth c H locs 0 0 (MQ below (QR G (some (.int r)) sh g gl gr n) ([.ref (adr G 64), .int a1, .int a2, .int a3] : List Value).toArray s rm_X0_does.cells rm_X0_does.slots (own G)) (F0 m 84 ls [.int x12, .int 1000]) := by
          intro x12 H locs ls hR hS hl h
          unfold j_X0_does_84 at h
          refine lv_iadd hx hb dX0_does_84 ?_
          obtain rfl := s1i h
          exact r_iret0 hx hb hr hlk hR hS (Nat.zero_le _) (Nat.zero_le _) dX0_does_85
        refine lv_if_ne (tgt := 57) hx hb dX0_does_41 (by decide) (fun c13 => ?_) (fun c13 => ?_)
        · replace h := ifn h c13
          refine lv_iload_n hx hb dX0_does_57 rfl (lv_at hl 4 rfl) ?_
          refine lv_iconst (v := 1) hx hb dX0_does_58 ki_1 ?_
          refine lv_icmp_ne (tgt := 75) hx hb dX0_does_59 (by decide) (fun c14 => ?_) (fun c14 => ?_)
          · replace h := ifn h c14
            refine lv_aload hx hb dX0_does_75 (lv_at hl 0 rfl) ?_
            refine lv_aload_n hx hb dX0_does_77 rfl (lv_at hl 1 rfl) ?_
            refine r_getr hx hb hts cfX0 hown hK hR (sk_64 hSk) 0 (by decide) rfl (sr_64_0 hSk) (hts _ q449) (fun _ h => h) dX0_does_78 ?_
            obtain ⟨r16, e15, h⟩ := obd h
            refine r_W_fades (rest := [.int 1000]) hF  hSk  (isMl_65) e15 (Nat.le_of_ble_eq_true rfl) (Nat.le_of_ble_eq_true rfl) hK hW hR hS hl.1 (Nat.le_of_ble_eq_true rfl) dX0_does_81 ⟨Nat.zero_le _, Nat.zero_le _⟩ (fun H locs hR hS => ?_)
            exact J84 r16 _ _ _ hR hS (lv_sub hl [] rfl) h
          · replace h := ifp h c14
            refine lv_aload hx hb dX0_does_62 (lv_at hl 0 rfl) ?_
            refine lv_aload_n hx hb dX0_does_64 rfl (lv_at hl 1 rfl) ?_
            refine r_getr hx hb hts cfX0 hown hK hR (sk_64 hSk) 0 (by decide) rfl (sr_64_0 hSk) (hts _ q449) (fun _ h => h) dX0_does_65 ?_
            refine lv_iload_n hx hb dX0_does_68 rfl (lv_at hl 3 rfl) ?_
            obtain ⟨r18, e17, h⟩ := obd h
            refine r_W_fights (rest := [.int 1000]) hF q759 hSk a2 (isMl_65) e17 (Nat.le_of_ble_eq_true rfl) (Nat.le_of_ble_eq_true rfl) hK hW hR hS hl.1 (Nat.le_of_ble_eq_true rfl) dX0_does_69 ⟨Nat.zero_le _, Nat.zero_le _⟩ (fun H locs hR hS => ?_)
            refine lv_goto (tgt := 84) hx hb dX0_does_72 (by decide) ?_
            exact J84 r18 _ _ _ hR hS (lv_sub hl [] rfl) h
        · replace h := ifp h c13
          refine lv_aload hx hb dX0_does_44 (lv_at hl 0 rfl) ?_
          refine lv_aload_n hx hb dX0_does_46 rfl (lv_at hl 1 rfl) ?_
          refine r_getr hx hb hts cfX0 hown hK hR (sk_64 hSk) 0 (by decide) rfl (sr_64_0 hSk) (hts _ q449) (fun _ h => h) dX0_does_47 ?_
          refine lv_iload_n hx hb dX0_does_50 rfl (lv_at hl 3 rfl) ?_
          obtain ⟨r20, e19, h⟩ := obd h
          refine r_W_takes (rest := [.int 1000]) hF q734 hSk a2 (isMl_65) e19 (Nat.le_of_ble_eq_true rfl) (Nat.le_of_ble_eq_true rfl) hK hW hR hS hl.1 (Nat.le_of_ble_eq_true rfl) dX0_does_51 ⟨Nat.zero_le _, Nat.zero_le _⟩ (fun H locs hR hS => ?_)
          refine lv_goto (tgt := 84) hx hb dX0_does_54 (by decide) ?_
          exact J84 r20 _ _ _ hR hS (lv_sub hl [] rfl) h
      · replace h := ifp h c9
        exact J24  _ _ _ hR hS (lv_sub hl [] rfl) h
def rm_X0_mind : Room := { frames := 3, cells := 0, slots := 0, locals := 55 }
theorem hd_X0_mind : yX0_mind.cls = "IntentVats" ∧ yX0_mind.cls ≠ "java/lang/invoke/MethodHandle" ∧ yX0_mind.cls ≠ "java/lang/invoke/VarHandle" ∧ (parseMethodDescriptor yX0_mind.desc).map (fun d => d.parameters.length) = some 2 := by decide +kernel
theorem he_X0_mind : yX0_mind.cls ≠ "java/lang/invoke/MethodHandle" ∧ yX0_mind.cls ≠ "java/lang/invoke/VarHandle" ∧ (parseMethodDescriptor yX0_mind.desc).map (fun d => d.parameters.length) = some 2 := hd_X0_mind.2

set_option maxHeartbeats 4000000 in
set_option maxRecDepth 100000 in
theorem w_X0_mind {l : Launch} {G : Gx} {sh : SM} {g : GM} {gl : LM} {gr : RM} {n : Nat} (hSk : Sk sh gr) (a1 : Int32) (a2 : Int32)  {r : Int32} {go : GM} (h : f_X0_mind g a1 a2 = some (r, go)) : MetI l G yX0_mind (ws_ yX0_mind cX0_mind 3 (Option.some Jvm.ClassFile.FieldType.int)) rm_X0_mind [.ref (adr G 64), .int a1, .int a2] sh g gl gr n (some (.int r)) sh go gl gr n := by
  refine MetI.of (by decide) (Nat.le_of_ble_eq_true rfl) ?_
  intro p e s m below meth c ls hx hb hr hml hown hts hlk hnm hW hK hR hS hl
  have hown : s.vm.findClass RX0 = some m.cls := hown
  have hF : CallFix p m c cX0_mind 3 s ([.ref (adr G 64), .int a1, .int a2] : List Value).toArray lw_all RX0 := ⟨hx, hb, hml, hown, hts⟩
  have hl : lv_has ls 3 [(0, .ref (adr G 64)), (1, .int a1), (2, .int a2)] := hl
  unfold f_X0_mind at h
  refine lv_aload_n hx hb dX0_mind_0 rfl (lv_at hl 0 rfl) ?_
  refine lv_iload_n hx hb dX0_mind_1 rfl (lv_at hl 1 rfl) ?_
  obtain ⟨r2, e1, h⟩ := obd h
  refine rc_V0 (rest := []) (st1 := [.int r2]) hF (w_X0_isCloth hSk a1 e1) (cwV 1 hts (lw_V q715 q717 qs15 q100 q718) rfl rfl rfl hd_X0_isCloth ⟨Nat.le_of_ble_eq_true rfl, Nat.le_of_ble_eq_true rfl⟩) cfX0 (sk_64 hSk) hK hW hR hS rfl hl.1 rfl (Nat.le_of_ble_eq_true rfl) rfl dX0_mind_2 ⟨rfl, rfl⟩ ⟨Nat.zero_le _, Nat.zero_le _⟩ (fun H locs hR hS => ?_)
  have J31 : ∀ (x3 : Int32) (g4 : GM) (H : Heap) (locs : List Loc) (ls : Array Slot), Rep G sh g4 gl gr n H → va_S (own G) s.heap H locs → lv_has ls 3 [] → j_X0_mind_31  x3 g4 = some (r, go) → W p l e rm_X0_mind s m ([.ref (adr G 64), .int a1, .int a2] : List Value).toArray below meth c H locs 0 0 (MQ below (QR G (some (.int r)) sh go gl gr n) ([.ref (adr G 64), .int a1, .int a2] : List Value).toArray s rm_X0_mind.cells rm_X0_mind.slots (own G)) (F0 m 31 ls [.int x3]) := by
    intro x3 g4 H locs ls hR hS hl h
    unfold j_X0_mind_31 at h
    obtain ⟨rfl, rfl⟩ := s2i h
    exact r_iret0 hx hb hr hlk hR hS (Nat.zero_le _) (Nat.zero_le _) dX0_mind_31
  have J30 : ∀  (H : Heap) (locs : List Loc) (ls : Array Slot), Rep G sh g gl gr n H → va_S (own G) s.heap H locs → lv_has ls 3 [] → j_X0_mind_30 g  = some (r, go) → W p l e rm_X0_mind s m ([.ref (adr G 64), .int a1, .int a2] : List Value).toArray below meth c H locs 0 0 (MQ below (QR G (some (.int r)) sh go gl gr n) ([.ref (adr G 64), .int a1, .int a2] : List Value).toArray s rm_X0_mind.cells rm_X0_mind.slots (own G)) (F0 m 30 ls []) := by
    intro  H locs ls hR hS hl h
    unfold j_X0_mind_30 at h
    refine lv_iconst (v := (-1)) hx hb dX0_mind_30 ki_m1 ?_
    exact J31 (-1) g _ _ _ hR hS (lv_sub hl [] rfl) h
  refine lv_if_eq (tgt := 30) hx hb dX0_mind_5 (by decide) (fun c5 => ?_) (fun c5 => ?_)
  · replace h := ifp h c5
    exact J30  _ _ _ hR hS (lv_sub hl [] rfl) h
  · replace h := ifn h c5
    refine lv_iload_n hx hb dX0_mind_8 rfl (lv_at hl 2 rfl) ?_
    obtain ⟨r7, e6, h⟩ := obd h
    refine rc_S0 (rest := []) (st1 := [.int r7]) hF (w_X0_isKind hSk a2 e6) (va_cwS 1 hts (lw_S q707 q708 q100 q709) rfl rfl rfl he_X0_isKind ⟨Nat.le_of_ble_eq_true rfl, Nat.le_of_ble_eq_true rfl⟩) hW hR hS rfl hl.1 rfl (Nat.le_of_ble_eq_true rfl) rfl dX0_mind_9 ⟨rfl, rfl⟩ ⟨Nat.zero_le _, Nat.zero_le _⟩ (fun H locs hR hS => ?_)
    refine lv_if_eq (tgt := 30) hx hb dX0_mind_12 (by decide) (fun c8 => ?_) (fun c8 => ?_)
    · replace h := ifp h c8
      exact J30  _ _ _ hR hS (lv_sub hl [] rfl) h
    · replace h := ifn h c8
      refine lv_aload_n hx hb dX0_mind_15 rfl (lv_at hl 0 rfl) ?_
      refine r_getr hx hb hts cfX0 hown hK hR (sk_64 hSk) 0 (by decide) rfl (sr_64_0 hSk) (hts _ q449) (fun _ h => h) dX0_mind_16 ?_
      refine r_getrN hx hb hts cfX1 hown hK hR (sk_65 hSk) 8 (by decide) rfl (sr_65_8 hSk) (hW.nestF q181) (fun _ h => h) dX0_mind_19 ?_
      refine lv_iload_n hx hb dX0_mind_22 rfl (lv_at hl 1 rfl) ?_
      refine lv_iload_n hx hb dX0_mind_23 rfl (lv_at hl 2 rfl) ?_
      obtain ⟨r10, g11, e9, h⟩ := obd2 h
      refine rc_S0 (rest := []) (st1 := [.int r10]) hF (w_X0_becomes hSk 70 8 a1 a2 (sk_70 hSk) e9) (va_cwS 3 hts (lw_S q685 q686 q100 q687) rfl rfl rfl he_X0_becomes ⟨Nat.le_of_ble_eq_true rfl, Nat.le_of_ble_eq_true rfl⟩) hW hR hS rfl hl.1 rfl (Nat.le_of_ble_eq_true rfl) rfl dX0_mind_24 ⟨rfl, rfl⟩ ⟨Nat.zero_le _, Nat.zero_le _⟩ (fun H locs hR hS => ?_)
      refine lv_goto (tgt := 31) hx hb dX0_mind_27 (by decide) ?_
      exact J31 r10 g11 _ _ _ hR hS (lv_sub hl [] rfl) h
def rm_X0_isPurpose : Room := { frames := 2, cells := 0, slots := 0, locals := 34 }
theorem he_X0_isPurpose : yX0_isPurpose.cls ≠ "java/lang/invoke/MethodHandle" ∧ yX0_isPurpose.cls ≠ "java/lang/invoke/VarHandle" ∧ (parseMethodDescriptor yX0_isPurpose.desc).map (fun d => d.parameters.length) = some 1 := by decide +kernel

set_option maxHeartbeats 4000000 in
set_option maxRecDepth 100000 in
theorem w_X0_isPurpose {l : Launch} {G : Gx} {sh : SM} {g : GM} {gl : LM} {gr : RM} {n : Nat} (hSk : Sk sh gr) (a0 : Int32)  {r : Int32} (h : f_X0_isPurpose  a0 = some r) : MetI l G yX0_isPurpose (ws_ yX0_isPurpose cX0_isPurpose 1 (Option.some Jvm.ClassFile.FieldType.boolean)) rm_X0_isPurpose [.int a0] sh g gl gr n (some (.int r)) sh g gl gr n := by
  refine MetI.of (by decide) (Nat.le_of_ble_eq_true rfl) ?_
  intro p e s m below meth c ls hx hb hr hml hown hts hlk hnm hW hK hR hS hl
  have hown : s.vm.findClass RX0 = some m.cls := hown
  have hF : CallFix p m c cX0_isPurpose 1 s ([.int a0] : List Value).toArray lw_all RX0 := ⟨hx, hb, hml, hown, hts⟩
  have hl : lv_has ls 1 [(0, .int a0)] := hl
  unfold f_X0_isPurpose at h
  refine lv_iload_n hx hb dX0_isPurpose_0 rfl (lv_at hl 0 rfl) ?_
  refine lv_iconst (v := 0) hx hb dX0_isPurpose_1 ki_0 ?_
  refine lv_bipush (v := 9) hx hb dX0_isPurpose_2 kb_9 ?_
  obtain ⟨r2, e1, h⟩ := obd h
  refine rc_S0 (rest := []) (st1 := [.int r2]) hF (w_X0_in hSk a0 0 9 e1) (va_cwS 3 hts (lw_S q508 q509 q100 q510) rfl rfl rfl he_X0_in ⟨Nat.le_of_ble_eq_true rfl, Nat.le_of_ble_eq_true rfl⟩) hW hR hS rfl hl.1 rfl (Nat.le_of_ble_eq_true rfl) rfl dX0_isPurpose_4 ⟨rfl, rfl⟩ ⟨Nat.zero_le _, Nat.zero_le _⟩ (fun H locs hR hS => ?_)
  obtain ⟨c3, h⟩ := ogrd h
  obtain rfl := s1i h
  exact r_zret0 hx hb hr hlk hR hS (Nat.zero_le _) (Nat.zero_le _) (nb01 c3) dX0_isPurpose_7
def rm_X0_steep : Room := { frames := 3, cells := 0, slots := 0, locals := 55 }
theorem hd_X0_steep : yX0_steep.cls = "IntentVats" ∧ yX0_steep.cls ≠ "java/lang/invoke/MethodHandle" ∧ yX0_steep.cls ≠ "java/lang/invoke/VarHandle" ∧ (parseMethodDescriptor yX0_steep.desc).map (fun d => d.parameters.length) = some 3 := by decide +kernel
theorem he_X0_steep : yX0_steep.cls ≠ "java/lang/invoke/MethodHandle" ∧ yX0_steep.cls ≠ "java/lang/invoke/VarHandle" ∧ (parseMethodDescriptor yX0_steep.desc).map (fun d => d.parameters.length) = some 3 := hd_X0_steep.2

set_option maxHeartbeats 4000000 in
set_option maxRecDepth 100000 in
theorem w_X0_steep {l : Launch} {G : Gx} {sh : SM} {g : GM} {gl : LM} {gr : RM} {n : Nat} (hSk : Sk sh gr) (a1 : Int32) (a2 : Int32) (a3 : Int32)  {r : Int32} {go : GM} (h : f_X0_steep g a1 a2 a3 = some (r, go)) : MetI l G yX0_steep (ws_ yX0_steep cX0_steep 5 (Option.some Jvm.ClassFile.FieldType.int)) rm_X0_steep [.ref (adr G 64), .int a1, .int a2, .int a3] sh g gl gr n (some (.int r)) sh go gl gr n := by
  refine MetI.of (by decide) (Nat.le_of_ble_eq_true rfl) ?_
  intro p e s m below meth c ls hx hb hr hml hown hts hlk hnm hW hK hR hS hl
  have hown : s.vm.findClass RX0 = some m.cls := hown
  have hF : CallFix p m c cX0_steep 5 s ([.ref (adr G 64), .int a1, .int a2, .int a3] : List Value).toArray lw_all RX0 := ⟨hx, hb, hml, hown, hts⟩
  have hl : lv_has ls 5 [(0, .ref (adr G 64)), (1, .int a1), (2, .int a2), (3, .int a3)] := hl
  unfold f_X0_steep at h
  refine lv_iload_n hx hb dX0_steep_0 rfl (lv_at hl 2 rfl) ?_
  refine lv_iconst (v := (-1)) hx hb dX0_steep_1 ki_m1 ?_
  have J39 : ∀ (x1 : Int32) (H : Heap) (locs : List Loc) (ls : Array Slot), Rep G sh g gl gr n H → va_S (own G) s.heap H locs → lv_has ls 5 [(0, .ref (adr G 64)), (1, .int a1), (2, .int a2), (3, .int a3)] → j_X0_steep_39 g a1 a2 a3 x1 = some (r, go) → W p l e rm_X0_steep s m ([.ref (adr G 64), .int a1, .int a2, .int a3] : List Value).toArray below meth c H locs 0 0 (MQ below (QR G (some (.int r)) sh go gl gr n) ([.ref (adr G 64), .int a1, .int a2, .int a3] : List Value).toArray s rm_X0_steep.cells rm_X0_steep.slots (own G)) (F0 m 39 ls [.int x1]) := by
    intro x1 H locs ls hR hS hl h
    unfold j_X0_steep_39 at h
    refine lv_istore (lv' := [(4, .int x1), (0, .ref (adr G 64)), (1, .int a1), (2, .int a2), (3, .int a3)]) hx hb dX0_steep_39 hl (by decide) rfl (fun ls hl => ?_)
    refine lv_aload_n hx hb dX0_steep_41 rfl (lv_at hl 1 rfl) ?_
    refine lv_iload_n hx hb dX0_steep_42 rfl (lv_at hl 2 rfl) ?_
    obtain ⟨r3, e2, h⟩ := obd h
    refine rc_V0 (rest := []) (st1 := [.int r3]) hF (w_X0_isCloth hSk a1 e2) (cwV 1 hts (lw_V q715 q717 qs15 q100 q718) rfl rfl rfl hd_X0_isCloth ⟨Nat.le_of_ble_eq_true rfl, Nat.le_of_ble_eq_true rfl⟩) cfX0 (sk_64 hSk) hK hW hR hS rfl hl.1 rfl (Nat.le_of_ble_eq_true rfl) rfl dX0_steep_43 ⟨rfl, rfl⟩ ⟨Nat.zero_le _, Nat.zero_le _⟩ (fun H locs hR hS => ?_)
    have J54 : ∀  (H : Heap) (locs : List Loc) (ls : Array Slot), Rep G sh g gl gr n H → va_S (own G) s.heap H locs → lv_has ls 5 [] → j_X0_steep_54 g  = some (r, go) → W p l e rm_X0_steep s m ([.ref (adr G 64), .int a1, .int a2, .int a3] : List Value).toArray below meth c H locs 0 0 (MQ below (QR G (some (.int r)) sh go gl gr n) ([.ref (adr G 64), .int a1, .int a2, .int a3] : List Value).toArray s rm_X0_steep.cells rm_X0_steep.slots (own G)) (F0 m 54 ls []) := by
      intro  H locs ls hR hS hl h
      unfold j_X0_steep_54 at h
      refine lv_iconst (v := (-1)) hx hb dX0_steep_54 ki_m1 ?_
      obtain ⟨rfl, rfl⟩ := s2i h
      exact r_iret0 hx hb hr hlk hR hS (Nat.zero_le _) (Nat.zero_le _) dX0_steep_55
    refine lv_if_eq (tgt := 54) hx hb dX0_steep_46 (by decide) (fun c4 => ?_) (fun c4 => ?_)
    · replace h := ifp h c4
      exact J54  _ _ _ hR hS (lv_sub hl [] rfl) h
    · replace h := ifn h c4
      refine lv_iload hx hb dX0_steep_49 (lv_at hl 0 rfl) ?_
      refine lv_if_ne (tgt := 56) hx hb dX0_steep_51 (by decide) (fun c5 => ?_) (fun c5 => ?_)
      · replace h := ifn h c5
        refine lv_aload_n hx hb dX0_steep_56 rfl (lv_at hl 1 rfl) ?_
        refine r_getr hx hb hts cfX0 hown hK hR (sk_64 hSk) 0 (by decide) rfl (sr_64_0 hSk) (hts _ q449) (fun _ h => h) dX0_steep_57 ?_
        refine r_getrN hx hb hts cfX1 hown hK hR (sk_65 hSk) 10 (by decide) rfl (sr_65_10 hSk) (hW.nestF q186) (fun _ h => h) dX0_steep_60 ?_
        refine lv_iload_n hx hb dX0_steep_63 rfl (lv_at hl 2 rfl) ?_
        refine lv_iload_n hx hb dX0_steep_64 rfl (lv_at hl 4 rfl) ?_
        obtain ⟨g7, e6, h⟩ := obd h
        refine r_sti hx hb hK hR hS (sk_72 hSk) e6 dX0_steep_65 (fun H locs hR hS => ?_)
        refine lv_iconst (v := 1) hx hb dX0_steep_66 ki_1 ?_
        refine lv_aload_n hx hb dX0_steep_67 rfl (lv_at hl 1 rfl) ?_
        refine r_getr hx hb hts cfX0 hown hK hR (sk_64 hSk) 0 (by decide) rfl (sr_64_0 hSk) (hts _ q449) (fun _ h => h) dX0_steep_68 ?_
        refine r_getrN hx hb hts cfX1 hown hK hR (sk_65 hSk) 9 (by decide) rfl (sr_65_9 hSk) (hW.nestF q183) (fun _ h => h) dX0_steep_71 ?_
        refine lv_iload_n hx hb dX0_steep_74 rfl (lv_at hl 2 rfl) ?_
        refine lv_iload_n hx hb dX0_steep_75 rfl (lv_at hl 3 rfl) ?_
        obtain ⟨r9, g10, e8, h⟩ := obd2 h
        refine rc_S0 (rest := [.int 1]) (st1 := [.int r9, .int 1]) hF (w_X0_becomes hSk 71 8 a1 a2 (sk_71 hSk) e8) (va_cwS 3 hts (lw_S q685 q686 q100 q687) rfl rfl rfl he_X0_becomes ⟨Nat.le_of_ble_eq_true rfl, Nat.le_of_ble_eq_true rfl⟩) hW hR hS rfl hl.1 rfl (Nat.le_of_ble_eq_true rfl) rfl dX0_steep_76 ⟨rfl, rfl⟩ ⟨Nat.zero_le _, Nat.zero_le _⟩ (fun H locs hR hS => ?_)
        refine lv_iadd hx hb dX0_steep_79 ?_
        obtain ⟨rfl, rfl⟩ := s2i h
        exact r_iret0 hx hb hr hlk hR hS (Nat.zero_le _) (Nat.zero_le _) dX0_steep_80
      · replace h := ifp h c5
        exact J54  _ _ _ hR hS (lv_sub hl [] rfl) h
  refine lv_icmp_ne (tgt := 17) hx hb dX0_steep_2 (by decide) (fun c11 => ?_) (fun c11 => ?_)
  · replace h := ifn h c11
    refine lv_iload_n hx hb dX0_steep_17 rfl (lv_at hl 2 rfl) ?_
    obtain ⟨r13, e12, h⟩ := obd h
    refine rc_S0 (rest := []) (st1 := [.int r13]) hF (w_X0_isPurpose hSk a2 e12) (va_cwS 1 hts (lw_S q813 q814 q100 q815) rfl rfl rfl he_X0_isPurpose ⟨Nat.le_of_ble_eq_true rfl, Nat.le_of_ble_eq_true rfl⟩) hW hR hS rfl hl.1 rfl (Nat.le_of_ble_eq_true rfl) rfl dX0_steep_18 ⟨rfl, rfl⟩ ⟨Nat.zero_le _, Nat.zero_le _⟩ (fun H locs hR hS => ?_)
    have J38 : ∀  (H : Heap) (locs : List Loc) (ls : Array Slot), Rep G sh g gl gr n H → va_S (own G) s.heap H locs → lv_has ls 5 [(0, .ref (adr G 64)), (1, .int a1), (2, .int a2), (3, .int a3)] → j_X0_steep_38 g a1 a2 a3  = some (r, go) → W p l e rm_X0_steep s m ([.ref (adr G 64), .int a1, .int a2, .int a3] : List Value).toArray below meth c H locs 0 0 (MQ below (QR G (some (.int r)) sh go gl gr n) ([.ref (adr G 64), .int a1, .int a2, .int a3] : List Value).toArray s rm_X0_steep.cells rm_X0_steep.slots (own G)) (F0 m 38 ls []) := by
      intro  H locs ls hR hS hl h
      unfold j_X0_steep_38 at h
      refine lv_iconst (v := 0) hx hb dX0_steep_38 ki_0 ?_
      exact J39 0 _ _ _ hR hS (lv_sub hl [0, 1, 2, 3] rfl) h
    refine lv_if_eq (tgt := 38) hx hb dX0_steep_21 (by decide) (fun c14 => ?_) (fun c14 => ?_)
    · replace h := ifp h c14
      exact J38  _ _ _ hR hS (lv_sub hl [0, 1, 2, 3] rfl) h
    · replace h := ifn h c14
      refine lv_iload_n hx hb dX0_steep_24 rfl (lv_at hl 3 rfl) ?_
      refine lv_iconst (v := 1) hx hb dX0_steep_25 ki_1 ?_
      refine lv_bipush (v := 99) hx hb dX0_steep_26 kb_99 ?_
      obtain ⟨r16, e15, h⟩ := obd h
      refine rc_S0 (rest := []) (st1 := [.int r16]) hF (w_X0_in hSk a3 1 99 e15) (va_cwS 3 hts (lw_S q508 q509 q100 q510) rfl rfl rfl he_X0_in ⟨Nat.le_of_ble_eq_true rfl, Nat.le_of_ble_eq_true rfl⟩) hW hR hS rfl hl.1 rfl (Nat.le_of_ble_eq_true rfl) rfl dX0_steep_28 ⟨rfl, rfl⟩ ⟨Nat.zero_le _, Nat.zero_le _⟩ (fun H locs hR hS => ?_)
      refine lv_if_eq (tgt := 38) hx hb dX0_steep_31 (by decide) (fun c17 => ?_) (fun c17 => ?_)
      · replace h := ifp h c17
        exact J38  _ _ _ hR hS (lv_sub hl [0, 1, 2, 3] rfl) h
      · replace h := ifn h c17
        refine lv_iconst (v := 1) hx hb dX0_steep_34 ki_1 ?_
        refine lv_goto (tgt := 39) hx hb dX0_steep_35 (by decide) ?_
        exact J39 1 _ _ _ hR hS (lv_sub hl [0, 1, 2, 3] rfl) h
  · replace h := ifp h c11
    refine lv_iload_n hx hb dX0_steep_5 rfl (lv_at hl 3 rfl) ?_
    refine lv_if_ne (tgt := 13) hx hb dX0_steep_6 (by decide) (fun c18 => ?_) (fun c18 => ?_)
    · replace h := ifn h c18
      refine lv_iconst (v := 0) hx hb dX0_steep_13 ki_0 ?_
      refine lv_goto (tgt := 39) hx hb dX0_steep_14 (by decide) ?_
      exact J39 0 _ _ _ hR hS (lv_sub hl [0, 1, 2, 3] rfl) h
    · replace h := ifp h c18
      refine lv_iconst (v := 1) hx hb dX0_steep_9 ki_1 ?_
      refine lv_goto (tgt := 39) hx hb dX0_steep_10 (by decide) ?_
      exact J39 1 _ _ _ hR hS (lv_sub hl [0, 1, 2, 3] rfl) h
