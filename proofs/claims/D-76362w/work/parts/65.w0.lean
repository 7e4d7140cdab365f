/-! walks: X0_shelf, X0_rowAs, X0_ran, X0_trace, X0_many, X0_keep, X0_again -/
def rm_X0_shelf : Room := { frames := 3, cells := 0, slots := 0, locals := 55 }
theorem hd_X0_shelf : yX0_shelf.cls = "IntentVats" ∧ yX0_shelf.cls ≠ "java/lang/invoke/MethodHandle" ∧ yX0_shelf.cls ≠ "java/lang/invoke/VarHandle" ∧ (parseMethodDescriptor yX0_shelf.desc).map (fun d => d.parameters.length) = some 3 := by decide +kernel
theorem he_X0_shelf : yX0_shelf.cls ≠ "java/lang/invoke/MethodHandle" ∧ yX0_shelf.cls ≠ "java/lang/invoke/VarHandle" ∧ (parseMethodDescriptor yX0_shelf.desc).map (fun d => d.parameters.length) = some 3 := hd_X0_shelf.2

set_option maxHeartbeats 4000000 in
set_option maxRecDepth 100000 in
theorem w_X0_shelf {l : Launch} {G : Gx} {sh : SM} {g : GM} {gl : LM} {gr : RM} {n : Nat} (hSk : Sk sh gr) (a1 : Int32) (a2 : Int32) (a3 : Int32)  {r : Int32} {go : GM} {gro : RM} (h : f_X0_shelf sh g gr a1 a2 a3 = some (r, go, gro)) : MetI l G yX0_shelf (ws_ yX0_shelf cX0_shelf 4 (Option.some Jvm.ClassFile.FieldType.int)) rm_X0_shelf [.ref (adr G 64), .int a1, .int a2, .int a3] sh g gl gr n (some (.int r)) sh go gl gro n := by
  refine MetI.of (by decide) (Nat.le_of_ble_eq_true rfl) ?_
  intro p e s m below meth c ls hx hb hr hml hown hts hlk hnm hW hK hR hS hl
  have hown : s.vm.findClass RX0 = some m.cls := hown
  have hF : CallFix p m c cX0_shelf 4 s ([.ref (adr G 64), .int a1, .int a2, .int a3] : List Value).toArray lw_all RX0 := ⟨hx, hb, hml, hown, hts⟩
  have hl : lv_has ls 4 [(0, .ref (adr G 64)), (1, .int a1), (2, .int a2), (3, .int a3)] := hl
  unfold f_X0_shelf at h
  refine lv_iload_n hx hb dX0_shelf_0 rfl (lv_at hl 1 rfl) ?_
  obtain ⟨r2, e1, h⟩ := obd h
  refine rc_S0 (rest := []) (st1 := [.int r2]) hF (w_X0_isShelf hSk a1 e1) (va_cwS 1 hts (lw_S q1160 q1161 q100 q1162) rfl rfl rfl he_X0_isShelf ⟨Nat.le_of_ble_eq_true rfl, Nat.le_of_ble_eq_true rfl⟩) hW hR hS rfl hl.1 rfl (Nat.le_of_ble_eq_true rfl) rfl dX0_shelf_1 ⟨rfl, rfl⟩ ⟨Nat.zero_le _, Nat.zero_le _⟩ (fun H locs hR hS => ?_)
  have J40 : ∀  (H : Heap) (locs : List Loc) (ls : Array Slot), Rep G sh g gl gr n H → va_S (own G) s.heap H locs → lv_has ls 4 [] → j_X0_shelf_40 g gr  = some (r, go, gro) → W p l e rm_X0_shelf s m ([.ref (adr G 64), .int a1, .int a2, .int a3] : List Value).toArray below meth c H locs 0 0 (MQ below (QR G (some (.int r)) sh go gl gro n) ([.ref (adr G 64), .int a1, .int a2, .int a3] : List Value).toArray s rm_X0_shelf.cells rm_X0_shelf.slots (own G)) (F0 m 40 ls []) := by
    intro  H locs ls hR hS hl h
    unfold j_X0_shelf_40 at h
    refine lv_iconst (v := (-1)) hx hb dX0_shelf_40 ki_m1 ?_
    obtain ⟨rfl, rfl, rfl⟩ := s3i h
    exact r_iret0 hx hb hr hlk hR hS (Nat.zero_le _) (Nat.zero_le _) dX0_shelf_41
  refine lv_if_eq (tgt := 40) hx hb dX0_shelf_4 (by decide) (fun c3 => ?_) (fun c3 => ?_)
  · replace h := ifp h c3
    exact J40  _ _ _ hR hS (lv_sub hl [] rfl) h
  · replace h := ifn h c3
    refine lv_iload_n hx hb dX0_shelf_7 rfl (lv_at hl 2 rfl) ?_
    refine lv_iconst (v := 0) hx hb dX0_shelf_8 ki_0 ?_
    refine lv_iconst (v := 2) hx hb dX0_shelf_9 ki_2 ?_
    obtain ⟨r5, e4, h⟩ := obd h
    refine rc_S0 (rest := []) (st1 := [.int r5]) hF (w_X0_in hSk a2 0 2 e4) (va_cwS 3 hts (lw_S q508 q509 q100 q510) rfl rfl rfl he_X0_in ⟨Nat.le_of_ble_eq_true rfl, Nat.le_of_ble_eq_true rfl⟩) hW hR hS rfl hl.1 rfl (Nat.le_of_ble_eq_true rfl) rfl dX0_shelf_10 ⟨rfl, rfl⟩ ⟨Nat.zero_le _, Nat.zero_le _⟩ (fun H locs hR hS => ?_)
    refine lv_if_eq (tgt := 40) hx hb dX0_shelf_13 (by decide) (fun c6 => ?_) (fun c6 => ?_)
    · replace h := ifp h c6
      exact J40  _ _ _ hR hS (lv_sub hl [] rfl) h
    · replace h := ifn h c6
      refine lv_iload_n hx hb dX0_shelf_16 rfl (lv_at hl 2 rfl) ?_
      have J28 : ∀  (H : Heap) (locs : List Loc) (ls : Array Slot), Rep G sh g gl gr n H → va_S (own G) s.heap H locs → lv_has ls 4 [(0, .ref (adr G 64)), (1, .int a1), (2, .int a2), (3, .int a3)] → j_X0_shelf_28 sh g gr a1 a2 a3  = some (r, go, gro) → W p l e rm_X0_shelf s m ([.ref (adr G 64), .int a1, .int a2, .int a3] : List Value).toArray below meth c H locs 0 0 (MQ below (QR G (some (.int r)) sh go gl gro n) ([.ref (adr G 64), .int a1, .int a2, .int a3] : List Value).toArray s rm_X0_shelf.cells rm_X0_shelf.slots (own G)) (F0 m 28 ls []) := by
        intro  H locs ls hR hS hl h
        unfold j_X0_shelf_28 at h
        refine lv_iload_n hx hb dX0_shelf_28 rfl (lv_at hl 2 rfl) ?_
        refine lv_iconst (v := 1) hx hb dX0_shelf_29 ki_1 ?_
        have J42 : ∀  (H : Heap) (locs : List Loc) (ls : Array Slot), Rep G sh g gl gr n H → va_S (own G) s.heap H locs → lv_has ls 4 [(0, .ref (adr G 64)), (1, .int a1), (2, .int a2), (3, .int a3)] → j_X0_shelf_42 sh g gr a1 a2 a3  = some (r, go, gro) → W p l e rm_X0_shelf s m ([.ref (adr G 64), .int a1, .int a2, .int a3] : List Value).toArray below meth c H locs 0 0 (MQ below (QR G (some (.int r)) sh go gl gro n) ([.ref (adr G 64), .int a1, .int a2, .int a3] : List Value).toArray s rm_X0_shelf.cells rm_X0_shelf.slots (own G)) (F0 m 42 ls []) := by
          intro  H locs ls hR hS hl h
          unfold j_X0_shelf_42 at h
          refine lv_aload_n hx hb dX0_shelf_42 rfl (lv_at hl 0 rfl) ?_
          refine r_getr hx hb hts cfX0 hown hK hR (sk_64 hSk) 17 (by decide) rfl (sr_64_17 hSk) (hts _ q466) (fun _ h => h) dX0_shelf_43 ?_
          refine lv_iload_n hx hb dX0_shelf_46 rfl (lv_at hl 1 rfl) ?_
          obtain ⟨j8, e7, h⟩ := obd h
          have qj8 := (chk_s e7).2.2
          refine r_ldr hx hb hK hR (sk_123 hSk) (by decide) (by decide) 8 rfl e7 (sra_123 hSk qj8) dX0_shelf_47 ?_
          refine lv_iload_n hx hb dX0_shelf_48 rfl (lv_at hl 2 rfl) ?_
          obtain ⟨g10, e9, h⟩ := obd h
          refine r_putiN hx hb hts cfX13 hown hK hR hS (shs_123 hSk qj8) 0 (by decide) rfl (hW.nestF q439) (fun _ h => h) rfl rfl rfl e9 dX0_shelf_49 (fun H locs hR hS => ?_)
          refine lv_aload_n hx hb dX0_shelf_52 rfl (lv_at hl 0 rfl) ?_
          refine r_getr hx hb hts cfX0 hown hK hR (sk_64 hSk) 17 (by decide) rfl (sr_64_17 hSk) (hts _ q466) (fun _ h => h) dX0_shelf_53 ?_
          refine lv_iload_n hx hb dX0_shelf_56 rfl (lv_at hl 1 rfl) ?_
          obtain ⟨j12, e11, h⟩ := obd h
          have qj12 := (chk_s e11).2.2
          refine r_ldr hx hb hK hR (sk_123 hSk) (by decide) (by decide) 8 rfl e11 (sra_123 hSk qj12) dX0_shelf_57 ?_
          refine lv_iload_n hx hb dX0_shelf_58 rfl (lv_at hl 2 rfl) ?_
          have J67 : ∀ (x13 : Int32) (H : Heap) (locs : List Loc) (ls : Array Slot), Rep G sh g10 gl gr n H → va_S (own G) s.heap H locs → lv_has ls 4 [(0, .ref (adr G 64)), (1, .int a1), (2, .int a2), (3, .int a3)] → j_X0_shelf_67 sh gr a1 a2 a3 g10 j12 x13 = some (r, go, gro) → W p l e rm_X0_shelf s m ([.ref (adr G 64), .int a1, .int a2, .int a3] : List Value).toArray below meth c H locs 0 0 (MQ below (QR G (some (.int r)) sh go gl gro n) ([.ref (adr G 64), .int a1, .int a2, .int a3] : List Value).toArray s rm_X0_shelf.cells rm_X0_shelf.slots (own G)) (F0 m 67 ls [.int x13, .ref (adr G (124 + j12))]) := by
            intro x13 H locs ls hR hS hl h
            unfold j_X0_shelf_67 at h
            obtain ⟨g15, e14, h⟩ := obd h
            refine r_putiN hx hb hts cfX13 hown hK hR hS (shs_123 hSk qj12) 1 (by decide) rfl (hW.nestF q440) (fun _ h => h) rfl rfl rfl e14 dX0_shelf_67 (fun H locs hR hS => ?_)
            refine lv_aload_n hx hb dX0_shelf_70 rfl (lv_at hl 0 rfl) ?_
            refine r_getr hx hb hts cfX0 hown hK hR (sk_64 hSk) 17 (by decide) rfl (sr_64_17 hSk) (hts _ q466) (fun _ h => h) dX0_shelf_71 ?_
            refine lv_iload_n hx hb dX0_shelf_74 rfl (lv_at hl 1 rfl) ?_
            obtain ⟨j17, e16, h⟩ := obd h
            have qj17 := (chk_s e16).2.2
            refine r_ldr hx hb hK hR (sk_123 hSk) (by decide) (by decide) 8 rfl e16 (sra_123 hSk qj17) dX0_shelf_75 ?_
            refine lv_iload_n hx hb dX0_shelf_76 rfl (lv_at hl 2 rfl) ?_
            refine lv_iconst (v := 1) hx hb dX0_shelf_77 ki_1 ?_
            have J94 : ∀ (x18 : Option Nat) (H : Heap) (locs : List Loc) (ls : Array Slot), Rep G sh g15 gl gr n H → va_S (own G) s.heap H locs → lv_has ls 4 [] → j_X0_shelf_94 gr g15 j17 x18 = some (r, go, gro) → W p l e rm_X0_shelf s m ([.ref (adr G 64), .int a1, .int a2, .int a3] : List Value).toArray below meth c H locs 0 0 (MQ below (QR G (some (.int r)) sh go gl gro n) ([.ref (adr G 64), .int a1, .int a2, .int a3] : List Value).toArray s rm_X0_shelf.cells rm_X0_shelf.slots (own G)) (F0 m 94 ls [va_rf (Option.map (adr G) x18), .ref (adr G (124 + j17))]) := by
              intro x18 H locs ls hR hS hl h
              unfold j_X0_shelf_94 at h
              obtain ⟨gr20, e19, h⟩ := obd h
              refine r_putRN hx hb hts cfX13 hown hK hR hS (shs_123 hSk qj17) 2 (by decide) rfl (hW.nestF q441) (fun _ h => h) rfl x18 rfl (nrf _) (frf _) e19 dX0_shelf_94 (fun H locs hR hS => ?_)
              have hSk := hSk.pr (skn_H (qj17) 2) e19
              refine lv_iconst (v := 1) hx hb dX0_shelf_97 ki_1 ?_
              obtain ⟨rfl, rfl, rfl⟩ := s3i h
              exact r_iret0 hx hb hr hlk hR hS (Nat.zero_le _) (Nat.zero_le _) dX0_shelf_98
            refine lv_icmp_ne (tgt := 93) hx hb dX0_shelf_78 (by decide) (fun c21 => ?_) (fun c21 => ?_)
            · replace h := ifn h c21
              refine lv_null hx hb dX0_shelf_93 ?_
              exact J94 none _ _ _ hR hS (lv_sub hl [] rfl) h
            · replace h := ifp h c21
              refine lv_aload_n hx hb dX0_shelf_81 rfl (lv_at hl 0 rfl) ?_
              refine r_getr hx hb hts cfX0 hown hK hR (sk_64 hSk) 12 (by decide) rfl (sr_64_12 hSk) (hts _ q461) (fun _ h => h) dX0_shelf_82 ?_
              refine lv_iload_n hx hb dX0_shelf_85 rfl (lv_at hl 3 rfl) ?_
              obtain ⟨j23, e22, h⟩ := obd h
              have qj23 := (chk_s e22).2.2
              refine r_ldr hx hb hK hR (sk_115 hSk) (by decide) (by decide) 7 rfl e22 (sra_115 hSk qj23) dX0_shelf_86 ?_
              obtain ⟨r25, e24, h⟩ := obd h
              refine rc_V0 (rest := [.ref (adr G (124 + j17))]) (st1 := [va_rf (Option.map (adr G) r25), .ref (adr G (124 + j17))]) hF (w_X10_row hSk (116 + j23) e24) (cwV 0 hts (lw_V q969 q970 q971 q113 q972) rfl rfl rfl hd_X10_row ⟨Nat.le_of_ble_eq_true rfl, Nat.le_of_ble_eq_true rfl⟩) cfX10 (shs_115 hSk qj23) hK hW hR hS rfl hl.1 rfl (Nat.le_of_ble_eq_true rfl) rfl dX0_shelf_87 ⟨rfl, rfl⟩ ⟨Nat.zero_le _, Nat.zero_le _⟩ (fun H locs hR hS => ?_)
              refine lv_goto (tgt := 94) hx hb dX0_shelf_90 (by decide) ?_
              exact J94 r25 _ _ _ hR hS (lv_sub hl [] rfl) h
          refine lv_if_ne (tgt := 66) hx hb dX0_shelf_59 (by decide) (fun c26 => ?_) (fun c26 => ?_)
          · replace h := ifn h c26
            refine lv_iconst (v := 0) hx hb dX0_shelf_66 ki_0 ?_
            exact J67 0 _ _ _ hR hS (lv_sub hl [0, 1, 2, 3] rfl) h
          · replace h := ifp h c26
            refine lv_iload_n hx hb dX0_shelf_62 rfl (lv_at hl 3 rfl) ?_
            refine lv_goto (tgt := 67) hx hb dX0_shelf_63 (by decide) ?_
            exact J67 a3 _ _ _ hR hS (lv_sub hl [0, 1, 2, 3] rfl) h
        refine lv_icmp_ne (tgt := 42) hx hb dX0_shelf_30 (by decide) (fun c27 => ?_) (fun c27 => ?_)
        · replace h := ifn h c27
          exact J42  _ _ _ hR hS (lv_sub hl [0, 1, 2, 3] rfl) h
        · replace h := ifp h c27
          refine lv_iload_n hx hb dX0_shelf_33 rfl (lv_at hl 3 rfl) ?_
          obtain ⟨r29, e28, h⟩ := obd h
          refine rc_S0 (rest := []) (st1 := [.int r29]) hF (w_X0_isSheet hSk a3 e28) (va_cwS 1 hts (lw_S q966 q967 q100 q968) rfl rfl rfl he_X0_isSheet ⟨Nat.le_of_ble_eq_true rfl, Nat.le_of_ble_eq_true rfl⟩) hW hR hS rfl hl.1 rfl (Nat.le_of_ble_eq_true rfl) rfl dX0_shelf_34 ⟨rfl, rfl⟩ ⟨Nat.zero_le _, Nat.zero_le _⟩ (fun H locs hR hS => ?_)
          refine lv_if_ne (tgt := 42) hx hb dX0_shelf_37 (by decide) (fun c30 => ?_) (fun c30 => ?_)
          · replace h := ifn h c30
            exact J42  _ _ _ hR hS (lv_sub hl [0, 1, 2, 3] rfl) h
          · replace h := ifp h c30
            exact J40  _ _ _ hR hS (lv_sub hl [] rfl) h
      refine lv_if_ne (tgt := 28) hx hb dX0_shelf_17 (by decide) (fun c31 => ?_) (fun c31 => ?_)
      · replace h := ifn h c31
        exact J28  _ _ _ hR hS (lv_sub hl [0, 1, 2, 3] rfl) h
      · replace h := ifp h c31
        refine lv_aload_n hx hb dX0_shelf_20 rfl (lv_at hl 0 rfl) ?_
        refine lv_iload_n hx hb dX0_shelf_21 rfl (lv_at hl 3 rfl) ?_
        obtain ⟨r33, e32, h⟩ := obd h
        refine rc_V0 (rest := []) (st1 := [.int r33]) hF (w_X0_isCloth hSk a3 e32) (cwV 1 hts (lw_V q715 q717 qs15 q100 q718) rfl rfl rfl hd_X0_isCloth ⟨Nat.le_of_ble_eq_true rfl, Nat.le_of_ble_eq_true rfl⟩) cfX0 (sk_64 hSk) hK hW hR hS rfl hl.1 rfl (Nat.le_of_ble_eq_true rfl) rfl dX0_shelf_22 ⟨rfl, rfl⟩ ⟨Nat.zero_le _, Nat.zero_le _⟩ (fun H locs hR hS => ?_)
        refine lv_if_eq (tgt := 40) hx hb dX0_shelf_25 (by decide) (fun c34 => ?_) (fun c34 => ?_)
        · replace h := ifp h c34
          exact J40  _ _ _ hR hS (lv_sub hl [] rfl) h
        · replace h := ifn h c34
          exact J28  _ _ _ hR hS (lv_sub hl [0, 1, 2, 3] rfl) h
def rm_X0_rowAs : Room := { frames := 20, cells := 3, slots := 1010, locals := 10600 }
theorem he_X0_rowAs : yX0_rowAs.cls ≠ "java/lang/invoke/MethodHandle" ∧ yX0_rowAs.cls ≠ "java/lang/invoke/VarHandle" ∧ (parseMethodDescriptor yX0_rowAs.desc).map (fun d => d.parameters.length) = some 2 := by decide +kernel
set_option maxHeartbeats 4000000 in
set_option maxRecDepth 100000 in
theorem w_X0_rowAs {l : Launch} {G : Gx} {sh : SM} {g : GM} {gl : LM} {gr : RM} {n0 : Nat} (hSk : Sk sh gr) (a0 : Nat) (a1 : Int32)  {oo : (Int32 ⊕ Nat)} {o : XO} (h : f_X0_rowAs sh a0 a1 = some oo) (ho : o = (oo.elim (fun p => .inl (some (.int p), sh, g, gl, gr)) (fun q => .inr (q, sh, g, gl, gr)))) : MetX l G yX0_rowAs (ws_ yX0_rowAs cX0_rowAs 2 (Option.some Jvm.ClassFile.FieldType.int)) rm_X0_rowAs [.ref (adr G a0), .int a1] sh g gl gr n0 o := by
  refine MetX.of (by decide) (Nat.le_of_ble_eq_true rfl) ?_
  intro p e s m below meth c ls hx hb hr hml hown hts hlk htb hW hK hR hS hl
  have hn : n0 ≤ n0 := Nat.le_refl _
  have hown : s.vm.findClass RX0 = some m.cls := hown
  have hF : CallFix p m c cX0_rowAs 2 s ([.ref (adr G a0), .int a1] : List Value).toArray lw_all RX0 := ⟨hx, hb, hml, hown, hts⟩
  have hl : lv_has ls 2 [(0, .ref (adr G a0)), (1, .int a1)] := hl
  unfold f_X0_rowAs at h
  refine lv_iload_n hx hb dX0_rowAs_0 rfl (lv_at hl 1 rfl) ?_
  by_cases c1 : a1 = 10
  · replace h := ifp h c1
    refine lv_tableIn (off := 27) (tgt := 28) hx hb dX0_rowAs_1 (by rw [c1]; decide) (by rw [c1]; decide) (by rw [c1]; decide) (by decide) ?_
    refine lv_aload_n hx hb dX0_rowAs_28 rfl (lv_at hl 0 rfl) ?_
    obtain ⟨c2, h⟩ := ogrd h
    by_cases c3 : (sh a0).1 = 2
    · replace h := ifp h c3
      refine r_castY hx hb hown (hts _ q988) hK hR c2 ((thc_2 hW hK c2).1 (cst_arr c3)) dX0_rowAs_29 ?_
      refine r_alen hx hb hK hR (shp c3) (by decide) (by decide) 1 rfl dX0_rowAs_32 ?_
      obtain rfl := s1i h
      exact x_iret hx hb hr hlk hn hR hS (Nat.zero_le _) (Nat.zero_le _) ho dX0_rowAs_33
    · replace h := ifn h c3
      obtain rfl := s1i h
      exact x_cast hx hb hown (hts _ q988) hW hts hK c2 ((thc_2 hW hK c2).2 (cst_ne (by decide) c3)) (by decide) htb hlk hn hR hS (Nat.le_of_ble_eq_true rfl) (Nat.le_of_ble_eq_true rfl) (Nat.le_of_ble_eq_true rfl) (Nat.le_of_ble_eq_true rfl) (Nat.le_of_ble_eq_true rfl) (Nat.le_of_ble_eq_true rfl) (Nat.le_of_ble_eq_true rfl) (hml.trans hl.1.symm) ho dX0_rowAs_29
  · replace h := ifn h c1
    by_cases c4 : a1 = 11
    · replace h := ifp h c4
      refine lv_tableIn (off := 33) (tgt := 34) hx hb dX0_rowAs_1 (by rw [c4]; decide) (by rw [c4]; decide) (by rw [c4]; decide) (by decide) ?_
      refine lv_aload_n hx hb dX0_rowAs_34 rfl (lv_at hl 0 rfl) ?_
      obtain ⟨c5, h⟩ := ogrd h
      by_cases c6 : (sh a0).1 = 3
      · replace h := ifp h c6
        refine r_castY hx hb hown (hts _ q989) hK hR c5 ((thc_3 hW hK c5).1 (cst_arr c6)) dX0_rowAs_35 ?_
        refine r_alen hx hb hK hR (shp c6) (by decide) (by decide) 2 rfl dX0_rowAs_38 ?_
        obtain rfl := s1i h
        exact x_iret hx hb hr hlk hn hR hS (Nat.zero_le _) (Nat.zero_le _) ho dX0_rowAs_39
      · replace h := ifn h c6
        obtain rfl := s1i h
        exact x_cast hx hb hown (hts _ q989) hW hts hK c5 ((thc_3 hW hK c5).2 (cst_ne (by decide) c6)) (by decide) htb hlk hn hR hS (Nat.le_of_ble_eq_true rfl) (Nat.le_of_ble_eq_true rfl) (Nat.le_of_ble_eq_true rfl) (Nat.le_of_ble_eq_true rfl) (Nat.le_of_ble_eq_true rfl) (Nat.le_of_ble_eq_true rfl) (Nat.le_of_ble_eq_true rfl) (hml.trans hl.1.symm) ho dX0_rowAs_35
    · replace h := ifn h c4
      by_cases c7 : a1 = 12
      · replace h := ifp h c7
        refine lv_tableIn (off := 39) (tgt := 40) hx hb dX0_rowAs_1 (by rw [c7]; decide) (by rw [c7]; decide) (by rw [c7]; decide) (by decide) ?_
        refine lv_aload_n hx hb dX0_rowAs_40 rfl (lv_at hl 0 rfl) ?_
        obtain ⟨c8, h⟩ := ogrd h
        by_cases c9 : (sh a0).1 = 1
        · replace h := ifp h c9
          refine r_castY hx hb hown (hts _ q991) hK hR c8 ((thc_1 hW hK c8).1 (cst_arr c9)) dX0_rowAs_41 ?_
          refine r_alen hx hb hK hR (shp c9) (by decide) (by decide) 0 rfl dX0_rowAs_44 ?_
          obtain rfl := s1i h
          exact x_iret hx hb hr hlk hn hR hS (Nat.zero_le _) (Nat.zero_le _) ho dX0_rowAs_45
        · replace h := ifn h c9
          obtain rfl := s1i h
          exact x_cast hx hb hown (hts _ q991) hW hts hK c8 ((thc_1 hW hK c8).2 (cst_ne (by decide) c9)) (by decide) htb hlk hn hR hS (Nat.le_of_ble_eq_true rfl) (Nat.le_of_ble_eq_true rfl) (Nat.le_of_ble_eq_true rfl) (Nat.le_of_ble_eq_true rfl) (Nat.le_of_ble_eq_true rfl) (Nat.le_of_ble_eq_true rfl) (Nat.le_of_ble_eq_true rfl) (hml.trans hl.1.symm) ho dX0_rowAs_41
      · replace h := ifn h c7
        have dc1 : Int32.toInt a1 ≠ 10 := ne32 c1 (by decide)
        have dc4 : Int32.toInt a1 ≠ 11 := ne32 c4 (by decide)
        have dc7 : Int32.toInt a1 ≠ 12 := ne32 c7 (by decide)
        refine lv_tableOut (tgt := 46) hx hb dX0_rowAs_1 (by omega) (by decide) ?_
        refine lv_aload_n hx hb dX0_rowAs_46 rfl (lv_at hl 0 rfl) ?_
        obtain ⟨c10, h⟩ := ogrd h
        by_cases c11 : (sh a0).1 = 4
        · replace h := ifp h c11
          refine r_castY hx hb hown (hts _ q990) hK hR c10 ((thc_4 hW hK c10).1 (cst_arr c11)) dX0_rowAs_47 ?_
          refine r_alen hx hb hK hR (shp c11) (by decide) (by decide) 3 rfl dX0_rowAs_50 ?_
          obtain rfl := s1i h
          exact x_iret hx hb hr hlk hn hR hS (Nat.zero_le _) (Nat.zero_le _) ho dX0_rowAs_51
        · replace h := ifn h c11
          obtain rfl := s1i h
          exact x_cast hx hb hown (hts _ q990) hW hts hK c10 ((thc_4 hW hK c10).2 (cst_ne (by decide) c11)) (by decide) htb hlk hn hR hS (Nat.le_of_ble_eq_true rfl) (Nat.le_of_ble_eq_true rfl) (Nat.le_of_ble_eq_true rfl) (Nat.le_of_ble_eq_true rfl) (Nat.le_of_ble_eq_true rfl) (Nat.le_of_ble_eq_true rfl) (Nat.le_of_ble_eq_true rfl) (hml.trans hl.1.symm) ho dX0_rowAs_47
def rm_X0_ran : Room := { frames := 1, cells := 0, slots := 0, locals := 12 }
theorem hd_X0_ran : yX0_ran.cls = "IntentVats" ∧ yX0_ran.cls ≠ "java/lang/invoke/MethodHandle" ∧ yX0_ran.cls ≠ "java/lang/invoke/VarHandle" ∧ (parseMethodDescriptor yX0_ran.desc).map (fun d => d.parameters.length) = some 1 := by decide +kernel
theorem he_X0_ran : yX0_ran.cls ≠ "java/lang/invoke/MethodHandle" ∧ yX0_ran.cls ≠ "java/lang/invoke/VarHandle" ∧ (parseMethodDescriptor yX0_ran.desc).map (fun d => d.parameters.length) = some 1 := hd_X0_ran.2

set_option maxHeartbeats 4000000 in
set_option maxRecDepth 100000 in
theorem w_X0_ran {l : Launch} {G : Gx} {sh : SM} {g : GM} {gl : LM} {gr : RM} {n : Nat} (hSk : Sk sh gr) (a1 : Int32)  {go : GM} (h : f_X0_ran g a1 = some go) : MetI l G yX0_ran (ws_ yX0_ran cX0_ran 2 (Option.none : Option Jvm.ClassFile.FieldType)) rm_X0_ran [.ref (adr G 64), .int a1] sh g gl gr n none sh go gl gr n := by
  refine MetI.of (by decide) (Nat.le_of_ble_eq_true rfl) ?_
  intro p e s m below meth c ls hx hb hr hml hown hts hlk hnm hW hK hR hS hl
  have hown : s.vm.findClass RX0 = some m.cls := hown
  have hF : CallFix p m c cX0_ran 2 s ([.ref (adr G 64), .int a1] : List Value).toArray lw_all RX0 := ⟨hx, hb, hml, hown, hts⟩
  have hl : lv_has ls 2 [(0, .ref (adr G 64)), (1, .int a1)] := hl
  unfold f_X0_ran at h
  refine lv_aload_n hx hb dX0_ran_0 rfl (lv_at hl 0 rfl) ?_
  refine r_geti hx hb hts cfX0 hown hK hR (sk_64 hSk) 16 (by decide) rfl (hts _ q465) (fun _ h => h) dX0_ran_1 ?_
  refine lv_bipush (v := 30) hx hb dX0_ran_4 kb_30 ?_
  have J19 : ∀ (g1 : GM) (H : Heap) (locs : List Loc) (ls : Array Slot), Rep G sh g1 gl gr n H → va_S (own G) s.heap H locs → lv_has ls 2 [(0, .ref (adr G 64))] → j_X0_ran_19  g1 = some go → W p l e rm_X0_ran s m ([.ref (adr G 64), .int a1] : List Value).toArray below meth c H locs 0 0 (MQ below (QR G none sh go gl gr n) ([.ref (adr G 64), .int a1] : List Value).toArray s rm_X0_ran.cells rm_X0_ran.slots (own G)) (F0 m 19 ls []) := by
    intro g1 H locs ls hR hS hl h
    unfold j_X0_ran_19 at h
    refine lv_aload_n hx hb dX0_ran_19 rfl (lv_at hl 0 rfl) ?_
    refine lv_dup hx hb dX0_ran_20 rfl ?_
    refine r_geti hx hb hts cfX0 hown hK hR (sk_64 hSk) 16 (by decide) rfl (hts _ q465) (fun _ h => h) dX0_ran_21 ?_
    refine lv_iconst (v := 1) hx hb dX0_ran_24 ki_1 ?_
    refine lv_iadd hx hb dX0_ran_25 ?_
    obtain ⟨g3, e2, h⟩ := obd h
    refine r_puti hx hb hts cfX0 hown hK hR hS (sk_64 hSk) 16 (by decide) rfl (hts _ q465) (fun _ h => h) (Or.inl rfl) rfl rfl e2 dX0_ran_26 (fun H locs hR hS => ?_)
    obtain rfl := s1i h
    exact r_vret0 hx hb hr hlk hR hS (Nat.zero_le _) (Nat.zero_le _) dX0_ran_29
  refine lv_icmp_ge (tgt := 19) hx hb dX0_ran_6 (by decide) (fun c4 => ?_) (fun c4 => ?_)
  · replace h := ifp h c4
    exact J19 g _ _ _ hR hS (lv_sub hl [0] rfl) h
  · replace h := ifn h c4
    refine lv_aload_n hx hb dX0_ran_9 rfl (lv_at hl 0 rfl) ?_
    refine r_getr hx hb hts cfX0 hown hK hR (sk_64 hSk) 15 (by decide) rfl (sr_64_15 hSk) (hts _ q464) (fun _ h => h) dX0_ran_10 ?_
    refine lv_aload_n hx hb dX0_ran_13 rfl (lv_at hl 0 rfl) ?_
    refine r_geti hx hb hts cfX0 hown hK hR (sk_64 hSk) 16 (by decide) rfl (hts _ q465) (fun _ h => h) dX0_ran_14 ?_
    refine lv_iload_n hx hb dX0_ran_17 rfl (lv_at hl 1 rfl) ?_
    obtain ⟨g6, e5, h⟩ := obd h
    refine r_sti hx hb hK hR hS (sk_122 hSk) e5 dX0_ran_18 (fun H locs hR hS => ?_)
    exact J19 g6 _ _ _ hR hS (lv_sub hl [0] rfl) h
def rm_X0_trace : Room := { frames := 1, cells := 0, slots := 0, locals := 40 }
theorem hd_X0_trace : yX0_trace.cls = "IntentVats" ∧ yX0_trace.cls ≠ "java/lang/invoke/MethodHandle" ∧ yX0_trace.cls ≠ "java/lang/invoke/VarHandle" ∧ (parseMethodDescriptor yX0_trace.desc).map (fun d => d.parameters.length) = some 1 := by decide +kernel
theorem he_X0_trace : yX0_trace.cls ≠ "java/lang/invoke/MethodHandle" ∧ yX0_trace.cls ≠ "java/lang/invoke/VarHandle" ∧ (parseMethodDescriptor yX0_trace.desc).map (fun d => d.parameters.length) = some 1 := hd_X0_trace.2

set_option maxHeartbeats 4000000 in
set_option maxRecDepth 100000 in
theorem w_X0_trace {l : Launch} {G : Gx} {sh : SM} {g : GM} {gl : LM} {gr : RM} {n : Nat} (hSk : Sk sh gr) (a1 : Int32)  {r : Int32} (h : f_X0_trace g a1 = some r) : MetI l G yX0_trace (ws_ yX0_trace cX0_trace 2 (Option.some Jvm.ClassFile.FieldType.int)) rm_X0_trace [.ref (adr G 64), .int a1] sh g gl gr n (some (.int r)) sh g gl gr n := by
  refine MetI.of (by decide) (Nat.le_of_ble_eq_true rfl) ?_
  intro p e s m below meth c ls hx hb hr hml hown hts hlk hnm hW hK hR hS hl
  have hown : s.vm.findClass RX0 = some m.cls := hown
  have hF : CallFix p m c cX0_trace 2 s ([.ref (adr G 64), .int a1] : List Value).toArray lw_all RX0 := ⟨hx, hb, hml, hown, hts⟩
  have hl : lv_has ls 2 [(0, .ref (adr G 64)), (1, .int a1)] := hl
  unfold f_X0_trace at h
  refine lv_iload_n hx hb dX0_trace_0 rfl (lv_at hl 1 rfl) ?_
  have J28 : ∀ (x1 : Int32) (H : Heap) (locs : List Loc) (ls : Array Slot), Rep G sh g gl gr n H → va_S (own G) s.heap H locs → lv_has ls 2 [] → j_X0_trace_28  x1 = some r → W p l e rm_X0_trace s m ([.ref (adr G 64), .int a1] : List Value).toArray below meth c H locs 0 0 (MQ below (QR G (some (.int r)) sh g gl gr n) ([.ref (adr G 64), .int a1] : List Value).toArray s rm_X0_trace.cells rm_X0_trace.slots (own G)) (F0 m 28 ls [.int x1]) := by
    intro x1 H locs ls hR hS hl h
    unfold j_X0_trace_28 at h
    obtain rfl := s1i h
    exact r_iret0 hx hb hr hlk hR hS (Nat.zero_le _) (Nat.zero_le _) dX0_trace_28
  have J26 : ∀  (H : Heap) (locs : List Loc) (ls : Array Slot), Rep G sh g gl gr n H → va_S (own G) s.heap H locs → lv_has ls 2 [] → j_X0_trace_26   = some r → W p l e rm_X0_trace s m ([.ref (adr G 64), .int a1] : List Value).toArray below meth c H locs 0 0 (MQ below (QR G (some (.int r)) sh g gl gr n) ([.ref (adr G 64), .int a1] : List Value).toArray s rm_X0_trace.cells rm_X0_trace.slots (own G)) (F0 m 26 ls []) := by
    intro  H locs ls hR hS hl h
    unfold j_X0_trace_26 at h
    refine lv_bipush (v := (-3)) hx hb dX0_trace_26 kb_m3 ?_
    exact J28 (-3) _ _ _ hR hS (lv_sub hl [] rfl) h
  refine lv_if_lt (tgt := 26) hx hb dX0_trace_1 (by decide) (fun c2 => ?_) (fun c2 => ?_)
  · replace h := ifp h c2
    exact J26  _ _ _ hR hS (lv_sub hl [] rfl) h
  · replace h := ifn h c2
    refine lv_iload_n hx hb dX0_trace_4 rfl (lv_at hl 1 rfl) ?_
    refine lv_aload_n hx hb dX0_trace_5 rfl (lv_at hl 0 rfl) ?_
    refine r_geti hx hb hts cfX0 hown hK hR (sk_64 hSk) 16 (by decide) rfl (hts _ q465) (fun _ h => h) dX0_trace_6 ?_
    refine lv_bipush (v := 30) hx hb dX0_trace_9 kb_30 ?_
    refine va_mmin hx hb (hml.trans hl.1.symm) hown (hts _ q839) (hts _ q834) (hts _ q123) (hts _ q835) (Nat.le_of_ble_eq_true rfl) (Nat.le_of_ble_eq_true rfl) (Nat.zero_le _) (Nat.zero_le _) dX0_trace_11 ?_
    refine lv_icmp_ge (tgt := 26) hx hb dX0_trace_14 (by decide) (fun c3 => ?_) (fun c3 => ?_)
    · replace h := ifp h c3
      exact J26  _ _ _ hR hS (lv_sub hl [] rfl) h
    · replace h := ifn h c3
      refine lv_aload_n hx hb dX0_trace_17 rfl (lv_at hl 0 rfl) ?_
      refine r_getr hx hb hts cfX0 hown hK hR (sk_64 hSk) 15 (by decide) rfl (sr_64_15 hSk) (hts _ q464) (fun _ h => h) dX0_trace_18 ?_
      refine lv_iload_n hx hb dX0_trace_21 rfl (lv_at hl 1 rfl) ?_
      obtain ⟨v5, e4, h⟩ := obd h
      refine r_ldi hx hb hK hR (sk_122 hSk) e4 dX0_trace_22 ?_
      refine lv_goto (tgt := 28) hx hb dX0_trace_23 (by decide) ?_
      exact J28 v5 _ _ _ hR hS (lv_sub hl [] rfl) h
def rm_X0_many : Room := { frames := 2, cells := 0, slots := 0, locals := 40 }
theorem hd_X0_many : yX0_many.cls = "IntentVats" ∧ yX0_many.cls ≠ "java/lang/invoke/MethodHandle" ∧ yX0_many.cls ≠ "java/lang/invoke/VarHandle" ∧ (parseMethodDescriptor yX0_many.desc).map (fun d => d.parameters.length) = some 1 := by decide +kernel
theorem he_X0_many : yX0_many.cls ≠ "java/lang/invoke/MethodHandle" ∧ yX0_many.cls ≠ "java/lang/invoke/VarHandle" ∧ (parseMethodDescriptor yX0_many.desc).map (fun d => d.parameters.length) = some 1 := hd_X0_many.2

set_option maxHeartbeats 4000000 in
set_option maxRecDepth 100000 in
theorem w_X0_many {l : Launch} {G : Gx} {sh : SM} {g : GM} {gl : LM} {gr : RM} {n : Nat} (hSk : Sk sh gr) (a1 : Int32)  {r : Int32} (h : f_X0_many g a1 = some r) : MetI l G yX0_many (ws_ yX0_many cX0_many 2 (Option.some Jvm.ClassFile.FieldType.int)) rm_X0_many [.ref (adr G 64), .int a1] sh g gl gr n (some (.int r)) sh g gl gr n := by
  refine MetI.of (by decide) (Nat.le_of_ble_eq_true rfl) ?_
  intro p e s m below meth c ls hx hb hr hml hown hts hlk hnm hW hK hR hS hl
  have hown : s.vm.findClass RX0 = some m.cls := hown
  have hF : CallFix p m c cX0_many 2 s ([.ref (adr G 64), .int a1] : List Value).toArray lw_all RX0 := ⟨hx, hb, hml, hown, hts⟩
  have hl : lv_has ls 2 [(0, .ref (adr G 64)), (1, .int a1)] := hl
  unfold f_X0_many at h
  refine lv_iload_n hx hb dX0_many_0 rfl (lv_at hl 1 rfl) ?_
  by_cases c1 : a1 = 0
  · replace h := ifp h c1
    refine lv_tableIn (off := 43) (tgt := 44) hx hb dX0_many_1 (by rw [c1]; decide) (by rw [c1]; decide) (by rw [c1]; decide) (by decide) ?_
    refine lv_aload_n hx hb dX0_many_44 rfl (lv_at hl 0 rfl) ?_
    refine r_getr hx hb hts cfX0 hown hK hR (sk_64 hSk) 0 (by decide) rfl (sr_64_0 hSk) (hts _ q449) (fun _ h => h) dX0_many_45 ?_
    refine r_getiN hx hb hts cfX1 hown hK hR (sk_65 hSk) 0 (by decide) rfl (hW.nestF q153) (fun _ h => h) dX0_many_48 ?_
    obtain rfl := s1i h
    exact r_iret0 hx hb hr hlk hR hS (Nat.zero_le _) (Nat.zero_le _) dX0_many_51
  · replace h := ifn h c1
    by_cases c2 : a1 = 1
    · replace h := ifp h c2
      refine lv_tableIn (off := 51) (tgt := 52) hx hb dX0_many_1 (by rw [c2]; decide) (by rw [c2]; decide) (by rw [c2]; decide) (by decide) ?_
      refine lv_aload_n hx hb dX0_many_52 rfl (lv_at hl 0 rfl) ?_
      refine r_getr hx hb hts cfX0 hown hK hR (sk_64 hSk) 0 (by decide) rfl (sr_64_0 hSk) (hts _ q449) (fun _ h => h) dX0_many_53 ?_
      refine r_getiN hx hb hts cfX1 hown hK hR (sk_65 hSk) 2 (by decide) rfl (hW.nestF q158) (fun _ h => h) dX0_many_56 ?_
      obtain ⟨r4, e3, h⟩ := obd h
      refine rc_S0 (rest := []) (st1 := [.int r4]) hF (w_X0_ones hSk (g 65 2) e3) (va_cwS 1 hts (lw_S q959 q960 q100 q961) rfl rfl rfl he_X0_ones ⟨Nat.le_of_ble_eq_true rfl, Nat.le_of_ble_eq_true rfl⟩) hW hR hS rfl hl.1 rfl (Nat.le_of_ble_eq_true rfl) rfl dX0_many_59 ⟨rfl, rfl⟩ ⟨Nat.zero_le _, Nat.zero_le _⟩ (fun H locs hR hS => ?_)
      obtain rfl := s1i h
      exact r_iret0 hx hb hr hlk hR hS (Nat.zero_le _) (Nat.zero_le _) dX0_many_62
    · replace h := ifn h c2
      by_cases c5 : a1 = 2
      · replace h := ifp h c5
        refine lv_tableIn (off := 62) (tgt := 63) hx hb dX0_many_1 (by rw [c5]; decide) (by rw [c5]; decide) (by rw [c5]; decide) (by decide) ?_
        refine lv_aload_n hx hb dX0_many_63 rfl (lv_at hl 0 rfl) ?_
        refine r_getr hx hb hts cfX0 hown hK hR (sk_64 hSk) 0 (by decide) rfl (sr_64_0 hSk) (hts _ q449) (fun _ h => h) dX0_many_64 ?_
        obtain ⟨r7, e6, h⟩ := obd h
        refine rc_V0 (rest := []) (st1 := [.int r7]) hF (w_X1_aboutAny hSk 65 (isMl_65) e6) (cwV 0 hts (lw_V q886 q887 q888 q101 q889) rfl rfl rfl hd_X1_aboutAny ⟨Nat.le_of_ble_eq_true rfl, Nat.le_of_ble_eq_true rfl⟩) cfX1 (sk_65 hSk) hK hW hR hS rfl hl.1 rfl (Nat.le_of_ble_eq_true rfl) rfl dX0_many_67 ⟨rfl, rfl⟩ ⟨Nat.zero_le _, Nat.zero_le _⟩ (fun H locs hR hS => ?_)
        obtain ⟨r9, e8, h⟩ := obd h
        refine rc_S0 (rest := []) (st1 := [.int r9]) hF (w_X0_ones hSk r7 e8) (va_cwS 1 hts (lw_S q959 q960 q100 q961) rfl rfl rfl he_X0_ones ⟨Nat.le_of_ble_eq_true rfl, Nat.le_of_ble_eq_true rfl⟩) hW hR hS rfl hl.1 rfl (Nat.le_of_ble_eq_true rfl) rfl dX0_many_70 ⟨rfl, rfl⟩ ⟨Nat.zero_le _, Nat.zero_le _⟩ (fun H locs hR hS => ?_)
        obtain rfl := s1i h
        exact r_iret0 hx hb hr hlk hR hS (Nat.zero_le _) (Nat.zero_le _) dX0_many_73
      · replace h := ifn h c5
        by_cases c10 : a1 = 3
        · replace h := ifp h c10
          refine lv_tableIn (off := 73) (tgt := 74) hx hb dX0_many_1 (by rw [c10]; decide) (by rw [c10]; decide) (by rw [c10]; decide) (by decide) ?_
          refine lv_aload_n hx hb dX0_many_74 rfl (lv_at hl 0 rfl) ?_
          refine r_getr hx hb hts cfX0 hown hK hR (sk_64 hSk) 0 (by decide) rfl (sr_64_0 hSk) (hts _ q449) (fun _ h => h) dX0_many_75 ?_
          obtain ⟨r12, e11, h⟩ := obd h
          refine rc_V0 (rest := []) (st1 := [.int r12]) hF (w_X1_purposes hSk 65 (isMl_65) e11) (cwV 0 hts (lw_V q1499 q1500 q1501 q101 q1502) rfl rfl rfl hd_X1_purposes ⟨Nat.le_of_ble_eq_true rfl, Nat.le_of_ble_eq_true rfl⟩) cfX1 (sk_65 hSk) hK hW hR hS rfl hl.1 rfl (Nat.le_of_ble_eq_true rfl) rfl dX0_many_78 ⟨rfl, rfl⟩ ⟨Nat.zero_le _, Nat.zero_le _⟩ (fun H locs hR hS => ?_)
          obtain ⟨r14, e13, h⟩ := obd h
          refine rc_S0 (rest := []) (st1 := [.int r14]) hF (w_X0_ones hSk r12 e13) (va_cwS 1 hts (lw_S q959 q960 q100 q961) rfl rfl rfl he_X0_ones ⟨Nat.le_of_ble_eq_true rfl, Nat.le_of_ble_eq_true rfl⟩) hW hR hS rfl hl.1 rfl (Nat.le_of_ble_eq_true rfl) rfl dX0_many_81 ⟨rfl, rfl⟩ ⟨Nat.zero_le _, Nat.zero_le _⟩ (fun H locs hR hS => ?_)
          obtain rfl := s1i h
          exact r_iret0 hx hb hr hlk hR hS (Nat.zero_le _) (Nat.zero_le _) dX0_many_84
        · replace h := ifn h c10
          by_cases c15 : a1 = 4
          · replace h := ifp h c15
            refine lv_tableIn (off := 84) (tgt := 85) hx hb dX0_many_1 (by rw [c15]; decide) (by rw [c15]; decide) (by rw [c15]; decide) (by decide) ?_
            refine lv_aload_n hx hb dX0_many_85 rfl (lv_at hl 0 rfl) ?_
            refine r_geti hx hb hts cfX0 hown hK hR (sk_64 hSk) 10 (by decide) rfl (hts _ q459) (fun _ h => h) dX0_many_86 ?_
            obtain rfl := s1i h
            exact r_iret0 hx hb hr hlk hR hS (Nat.zero_le _) (Nat.zero_le _) dX0_many_89
          · replace h := ifn h c15
            by_cases c16 : a1 = 5
            · replace h := ifp h c16
              refine lv_tableIn (off := 89) (tgt := 90) hx hb dX0_many_1 (by rw [c16]; decide) (by rw [c16]; decide) (by rw [c16]; decide) (by decide) ?_
              refine lv_aload_n hx hb dX0_many_90 rfl (lv_at hl 0 rfl) ?_
              refine r_geti hx hb hts cfX0 hown hK hR (sk_64 hSk) 7 (by decide) rfl (hts _ q456) (fun _ h => h) dX0_many_91 ?_
              obtain rfl := s1i h
              exact r_iret0 hx hb hr hlk hR hS (Nat.zero_le _) (Nat.zero_le _) dX0_many_94
            · replace h := ifn h c16
              by_cases c17 : a1 = 6
              · replace h := ifp h c17
                refine lv_tableIn (off := 94) (tgt := 95) hx hb dX0_many_1 (by rw [c17]; decide) (by rw [c17]; decide) (by rw [c17]; decide) (by decide) ?_
                refine lv_aload_n hx hb dX0_many_95 rfl (lv_at hl 0 rfl) ?_
                refine r_geti hx hb hts cfX0 hown hK hR (sk_64 hSk) 16 (by decide) rfl (hts _ q465) (fun _ h => h) dX0_many_96 ?_
                refine lv_bipush (v := 30) hx hb dX0_many_99 kb_30 ?_
                refine va_mmin hx hb (hml.trans hl.1.symm) hown (hts _ q839) (hts _ q834) (hts _ q123) (hts _ q835) (Nat.le_of_ble_eq_true rfl) (Nat.le_of_ble_eq_true rfl) (Nat.zero_le _) (Nat.zero_le _) dX0_many_101 ?_
                obtain rfl := s1i h
                exact r_iret0 hx hb hr hlk hR hS (Nat.zero_le _) (Nat.zero_le _) dX0_many_104
              · replace h := ifn h c17
                have dc1 : Int32.toInt a1 ≠ 0 := ne32 c1 (by decide)
                have dc2 : Int32.toInt a1 ≠ 1 := ne32 c2 (by decide)
                have dc5 : Int32.toInt a1 ≠ 2 := ne32 c5 (by decide)
                have dc10 : Int32.toInt a1 ≠ 3 := ne32 c10 (by decide)
                have dc15 : Int32.toInt a1 ≠ 4 := ne32 c15 (by decide)
                have dc16 : Int32.toInt a1 ≠ 5 := ne32 c16 (by decide)
                have dc17 : Int32.toInt a1 ≠ 6 := ne32 c17 (by decide)
                refine lv_tableOut (tgt := 105) hx hb dX0_many_1 (by omega) (by decide) ?_
                refine lv_iconst (v := (-1)) hx hb dX0_many_105 ki_m1 ?_
                obtain rfl := s1i h
                exact r_iret0 hx hb hr hlk hR hS (Nat.zero_le _) (Nat.zero_le _) dX0_many_106
def rm_X0_keep : Room := { frames := 3, cells := 0, slots := 0, locals := 142 }
theorem hd_X0_keep : yX0_keep.cls = "IntentVats" ∧ yX0_keep.cls ≠ "java/lang/invoke/MethodHandle" ∧ yX0_keep.cls ≠ "java/lang/invoke/VarHandle" ∧ (parseMethodDescriptor yX0_keep.desc).map (fun d => d.parameters.length) = some 0 := by decide +kernel
theorem he_X0_keep : yX0_keep.cls ≠ "java/lang/invoke/MethodHandle" ∧ yX0_keep.cls ≠ "java/lang/invoke/VarHandle" ∧ (parseMethodDescriptor yX0_keep.desc).map (fun d => d.parameters.length) = some 0 := hd_X0_keep.2

set_option maxHeartbeats 4000000 in
set_option maxRecDepth 100000 in
theorem w_X0_keep {l : Launch} {G : Gx} {sh : SM} {g : GM} {gl : LM} {gr : RM} {n : Nat} (hSk : Sk sh gr)   {r : Int32} {go : GM} (h : f_X0_keep g  = some (r, go)) : MetI l G yX0_keep (ws_ yX0_keep cX0_keep 1 (Option.some Jvm.ClassFile.FieldType.int)) rm_X0_keep [.ref (adr G 64)] sh g gl gr n (some (.int r)) sh go gl gr n := by
  refine MetI.of (by decide) (Nat.le_of_ble_eq_true rfl) ?_
  intro p e s m below meth c ls hx hb hr hml hown hts hlk hnm hW hK hR hS hl
  have hown : s.vm.findClass RX0 = some m.cls := hown
  have hF : CallFix p m c cX0_keep 1 s ([.ref (adr G 64)] : List Value).toArray lw_all RX0 := ⟨hx, hb, hml, hown, hts⟩
  have hl : lv_has ls 1 [(0, .ref (adr G 64))] := hl
  unfold f_X0_keep at h
  refine lv_aload_n hx hb dX0_keep_0 rfl (lv_at hl 0 rfl) ?_
  refine r_getr hx hb hts cfX0 hown hK hR (sk_64 hSk) 1 (by decide) rfl (sr_64_1 hSk) (hts _ q450) (fun _ h => h) dX0_keep_1 ?_
  refine lv_aload_n hx hb dX0_keep_4 rfl (lv_at hl 0 rfl) ?_
  refine r_getr hx hb hts cfX0 hown hK hR (sk_64 hSk) 0 (by decide) rfl (sr_64_0 hSk) (hts _ q449) (fun _ h => h) dX0_keep_5 ?_
  obtain ⟨g2, e1, h⟩ := obd h
  refine rc_V0 (rest := []) (st1 := []) hF (w_X1_become hSk 74 65 (isMl_74) (isMl_65) e1) (cwV 1 hts (lw_V q516 q517 q518 q101 q519) rfl rfl rfl hd_X1_become ⟨Nat.le_of_ble_eq_true rfl, Nat.le_of_ble_eq_true rfl⟩) cfX1 (sk_74 hSk) hK hW hR hS rfl hl.1 rfl (Nat.le_of_ble_eq_true rfl) rfl dX0_keep_8 ⟨rfl, rfl⟩ ⟨Nat.zero_le _, Nat.zero_le _⟩ (fun H locs hR hS => ?_)
  refine lv_aload_n hx hb dX0_keep_11 rfl (lv_at hl 0 rfl) ?_
  refine lv_iconst (v := 1) hx hb dX0_keep_12 ki_1 ?_
  obtain ⟨g4, e3, h⟩ := obd h
  refine r_puti hx hb hts cfX0 hown hK hR hS (sk_64 hSk) 4 (by decide) rfl (hts _ q453) (fun _ h => h) (Or.inl rfl) (by decide) (by decide) e3 dX0_keep_13 (fun H locs hR hS => ?_)
  refine lv_iconst (v := 1) hx hb dX0_keep_16 ki_1 ?_
  obtain ⟨rfl, rfl⟩ := s2i h
  exact r_iret0 hx hb hr hlk hR hS (Nat.zero_le _) (Nat.zero_le _) dX0_keep_17
def rm_X0_again : Room := { frames := 3, cells := 0, slots := 0, locals := 142 }
theorem hd_X0_again : yX0_again.cls = "IntentVats" ∧ yX0_again.cls ≠ "java/lang/invoke/MethodHandle" ∧ yX0_again.cls ≠ "java/lang/invoke/VarHandle" ∧ (parseMethodDescriptor yX0_again.desc).map (fun d => d.parameters.length) = some 0 := by decide +kernel
theorem he_X0_again : yX0_again.cls ≠ "java/lang/invoke/MethodHandle" ∧ yX0_again.cls ≠ "java/lang/invoke/VarHandle" ∧ (parseMethodDescriptor yX0_again.desc).map (fun d => d.parameters.length) = some 0 := hd_X0_again.2

set_option maxHeartbeats 4000000 in
set_option maxRecDepth 100000 in
theorem w_X0_again {l : Launch} {G : Gx} {sh : SM} {g : GM} {gl : LM} {gr : RM} {n : Nat} (hSk : Sk sh gr)   {r : Int32} {go : GM} (h : f_X0_again g  = some (r, go)) : MetI l G yX0_again (ws_ yX0_again cX0_again 1 (Option.some Jvm.ClassFile.FieldType.int)) rm_X0_again [.ref (adr G 64)] sh g gl gr n (some (.int r)) sh go gl gr n := by
  refine MetI.of (by decide) (Nat.le_of_ble_eq_true rfl) ?_
  intro p e s m below meth c ls hx hb hr hml hown hts hlk hnm hW hK hR hS hl
  have hown : s.vm.findClass RX0 = some m.cls := hown
  have hF : CallFix p m c cX0_again 1 s ([.ref (adr G 64)] : List Value).toArray lw_all RX0 := ⟨hx, hb, hml, hown, hts⟩
  have hl : lv_has ls 1 [(0, .ref (adr G 64))] := hl
  unfold f_X0_again at h
  refine lv_aload_n hx hb dX0_again_0 rfl (lv_at hl 0 rfl) ?_
  refine r_geti hx hb hts cfX0 hown hK hR (sk_64 hSk) 4 (by decide) rfl (hts _ q453) (fun _ h => h) dX0_again_1 ?_
  refine lv_if_ne (tgt := 10) hx hb dX0_again_4 (by decide) (fun c1 => ?_) (fun c1 => ?_)
  · replace h := ifn h c1
    refine lv_aload_n hx hb dX0_again_10 rfl (lv_at hl 0 rfl) ?_
    refine r_getr hx hb hts cfX0 hown hK hR (sk_64 hSk) 0 (by decide) rfl (sr_64_0 hSk) (hts _ q449) (fun _ h => h) dX0_again_11 ?_
    refine lv_aload_n hx hb dX0_again_14 rfl (lv_at hl 0 rfl) ?_
    refine r_getr hx hb hts cfX0 hown hK hR (sk_64 hSk) 1 (by decide) rfl (sr_64_1 hSk) (hts _ q450) (fun _ h => h) dX0_again_15 ?_
    obtain ⟨g3, e2, h⟩ := obd h
    refine rc_V0 (rest := []) (st1 := []) hF (w_X1_become hSk 65 74 (isMl_65) (isMl_74) e2) (cwV 1 hts (lw_V q516 q517 q518 q101 q519) rfl rfl rfl hd_X1_become ⟨Nat.le_of_ble_eq_true rfl, Nat.le_of_ble_eq_true rfl⟩) cfX1 (sk_65 hSk) hK hW hR hS rfl hl.1 rfl (Nat.le_of_ble_eq_true rfl) rfl dX0_again_18 ⟨rfl, rfl⟩ ⟨Nat.zero_le _, Nat.zero_le _⟩ (fun H locs hR hS => ?_)
    refine lv_aload_n hx hb dX0_again_21 rfl (lv_at hl 0 rfl) ?_
    refine r_getr hx hb hts cfX0 hown hK hR (sk_64 hSk) 0 (by decide) rfl (sr_64_0 hSk) (hts _ q449) (fun _ h => h) dX0_again_22 ?_
    refine r_getiN hx hb hts cfX1 hown hK hR (sk_65 hSk) 0 (by decide) rfl (hW.nestF q153) (fun _ h => h) dX0_again_25 ?_
    obtain ⟨rfl, rfl⟩ := s2i h
    exact r_iret0 hx hb hr hlk hR hS (Nat.zero_le _) (Nat.zero_le _) dX0_again_28
  · replace h := ifp h c1
    refine lv_bipush (v := (-3)) hx hb dX0_again_7 kb_m3 ?_
    obtain ⟨rfl, rfl⟩ := s2i h
    exact r_iret0 hx hb hr hlk hR hS (Nat.zero_le _) (Nat.zero_le _) dX0_again_9
