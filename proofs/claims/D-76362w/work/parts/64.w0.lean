/-! walks: X0_mindsOf, X0_minds, X0_set_2, X0_put, X0_byteAt, X0_shortAt, X0_intAt, X0_longAt, X0_itemOf, X0_item, X0_isShelf -/
def rm_X0_mindsOf : Room := { frames := 4, cells := 0, slots := 0, locals := 61 }
theorem hd_X0_mindsOf : yX0_mindsOf.cls = "IntentVats" ∧ yX0_mindsOf.cls ≠ "java/lang/invoke/MethodHandle" ∧ yX0_mindsOf.cls ≠ "java/lang/invoke/VarHandle" ∧ (parseMethodDescriptor yX0_mindsOf.desc).map (fun d => d.parameters.length) = some 4 := by decide +kernel
theorem he_X0_mindsOf : yX0_mindsOf.cls ≠ "java/lang/invoke/MethodHandle" ∧ yX0_mindsOf.cls ≠ "java/lang/invoke/VarHandle" ∧ (parseMethodDescriptor yX0_mindsOf.desc).map (fun d => d.parameters.length) = some 4 := hd_X0_mindsOf.2
set_option maxHeartbeats 4000000 in
set_option maxRecDepth 100000 in
theorem w_X0_mindsOf {l : Launch} {G : Gx} {sh : SM} {g : GM} {gl : LM} {gr : RM} {n0 : Nat} (hSk : Sk sh gr) (a1 : Nat) (La1 : Nat) (a2 : Int32) (a3 : Int32) (a4 : Int32) (hs_a1 : sh a1 = (2, La1)) {oo : (GM ⊕ (Nat × GM))} {o : XO} (h : f_X0_mindsOf g a1 La1 a2 a3 a4 = some oo) (ho : o = (oo.elim (fun p => .inl (none, sh, p, gl, gr)) (fun q => .inr (q.1, sh, q.2, gl, gr)))) : MetX l G yX0_mindsOf (ws_ yX0_mindsOf cX0_mindsOf 6 (Option.none : Option Jvm.ClassFile.FieldType)) rm_X0_mindsOf [.ref (adr G 64), .ref (adr G a1), .int a2, .int a3, .int a4] sh g gl gr n0 o := by
  refine MetX.of (by decide) (Nat.le_of_ble_eq_true rfl) ?_
  intro p e s m below meth c ls hx hb hr hml hown hts hlk htb hW hK hR hS hl
  have hn : n0 ≤ n0 := Nat.le_refl _
  have hown : s.vm.findClass RX0 = some m.cls := hown
  have hF : CallFix p m c cX0_mindsOf 6 s ([.ref (adr G 64), .ref (adr G a1), .int a2, .int a3, .int a4] : List Value).toArray lw_all RX0 := ⟨hx, hb, hml, hown, hts⟩
  have hl : lv_has ls 6 [(0, .ref (adr G 64)), (1, .ref (adr G a1)), (2, .int a2), (3, .int a3), (4, .int a4)] := hl
  unfold f_X0_mindsOf at h
  refine lv_aload_n hx hb dX0_mindsOf_0 rfl (lv_at hl 0 rfl) ?_
  refine lv_iload_n hx hb dX0_mindsOf_1 rfl (lv_at hl 2 rfl) ?_
  refine lv_aload_n hx hb dX0_mindsOf_2 rfl (lv_at hl 1 rfl) ?_
  refine r_alen hx hb hK hR hs_a1 (by decide) (by decide) 1 rfl dX0_mindsOf_3 ?_
  refine lv_iconst (v := 1) hx hb dX0_mindsOf_4 ki_1 ?_
  refine lv_iadd hx hb dX0_mindsOf_5 ?_
  rcases obx11 h with ⟨ec2, e1, h⟩ | ⟨u_e1, e1, h⟩
  · refine xc_x (xr_V (ox := (.inr (ec2, sh, g, gl, gr))) (rest := []) hF (w_X0_within hSk a2 ((nI La1) + 1) e1 rfl) (cwV 2 hts (lw_V q1096 q1098 qs33 q100 q1099) rfl rfl rfl hd_X0_within ⟨Nat.le_of_ble_eq_true rfl, Nat.le_of_ble_eq_true rfl⟩) cfX0 (sk_64 hSk) hK hW hR rfl hl.1 rfl (Nat.le_of_ble_eq_true rfl) dX0_mindsOf_6 ⟨Nat.le_of_ble_eq_true rfl, Nat.le_of_ble_eq_true rfl⟩) hS (fun n H locs q9 ce9 hn2 hR hS hq9 hce9 hcv9 hcl9 => ?_)
    obtain rfl := s1i h
    exact x_out htb hlk (Nat.le_trans hn hn2) hR hS (Nat.le_of_ble_eq_true rfl) (Nat.le_of_ble_eq_true rfl) ho hq9 hce9 hcv9 hcl9
  refine xc_r (xr_V (ox := (.inl (none, sh, g, gl, gr))) (rest := []) hF (w_X0_within hSk a2 ((nI La1) + 1) e1 rfl) (cwV 2 hts (lw_V q1096 q1098 qs33 q100 q1099) rfl rfl rfl hd_X0_within ⟨Nat.le_of_ble_eq_true rfl, Nat.le_of_ble_eq_true rfl⟩) cfX0 (sk_64 hSk) hK hW hR rfl hl.1 rfl (Nat.le_of_ble_eq_true rfl) dX0_mindsOf_6 ⟨Nat.le_of_ble_eq_true rfl, Nat.le_of_ble_eq_true rfl⟩) hS (fun n H locs hn2 hR hS => ?_)
  replace hn := Nat.le_trans hn hn2
  refine W.widen (k := 0) (n := 0) (Nat.le_of_ble_eq_true rfl) (Nat.le_of_ble_eq_true rfl) ?_
  refine lv_aload_n hx hb dX0_mindsOf_9 rfl (lv_at hl 0 rfl) ?_
  refine lv_iload hx hb dX0_mindsOf_10 (lv_at hl 4 rfl) ?_
  refine lv_aload_n hx hb dX0_mindsOf_12 rfl (lv_at hl 1 rfl) ?_
  refine r_alen hx hb hK hR hs_a1 (by decide) (by decide) 1 rfl dX0_mindsOf_13 ?_
  refine lv_iload_n hx hb dX0_mindsOf_14 rfl (lv_at hl 2 rfl) ?_
  refine lv_isub hx hb dX0_mindsOf_15 ?_
  refine lv_iconst (v := 1) hx hb dX0_mindsOf_16 ki_1 ?_
  refine lv_iadd hx hb dX0_mindsOf_17 ?_
  rcases obx11 h with ⟨ec4, e3, h⟩ | ⟨u_e3, e3, h⟩
  · refine xc_x (xr_V (ox := (.inr (ec4, sh, g, gl, gr))) (rest := []) hF (w_X0_within hSk a4 (((nI La1) - a2) + 1) e3 rfl) (cwV 2 hts (lw_V q1096 q1098 qs33 q100 q1099) rfl rfl rfl hd_X0_within ⟨Nat.le_of_ble_eq_true rfl, Nat.le_of_ble_eq_true rfl⟩) cfX0 (sk_64 hSk) hK hW hR rfl hl.1 rfl (Nat.le_of_ble_eq_true rfl) dX0_mindsOf_18 ⟨Nat.le_of_ble_eq_true rfl, Nat.le_of_ble_eq_true rfl⟩) hS (fun n H locs q9 ce9 hn2 hR hS hq9 hce9 hcv9 hcl9 => ?_)
    obtain rfl := s1i h
    exact x_out htb hlk (Nat.le_trans hn hn2) hR hS (Nat.le_of_ble_eq_true rfl) (Nat.le_of_ble_eq_true rfl) ho hq9 hce9 hcv9 hcl9
  refine xc_r (xr_V (ox := (.inl (none, sh, g, gl, gr))) (rest := []) hF (w_X0_within hSk a4 (((nI La1) - a2) + 1) e3 rfl) (cwV 2 hts (lw_V q1096 q1098 qs33 q100 q1099) rfl rfl rfl hd_X0_within ⟨Nat.le_of_ble_eq_true rfl, Nat.le_of_ble_eq_true rfl⟩) cfX0 (sk_64 hSk) hK hW hR rfl hl.1 rfl (Nat.le_of_ble_eq_true rfl) dX0_mindsOf_18 ⟨Nat.le_of_ble_eq_true rfl, Nat.le_of_ble_eq_true rfl⟩) hS (fun n H locs hn2 hR hS => ?_)
  replace hn := Nat.le_trans hn hn2
  refine W.widen (k := 0) (n := 0) (Nat.le_of_ble_eq_true rfl) (Nat.le_of_ble_eq_true rfl) ?_
  refine lv_iconst (v := 0) hx hb dX0_mindsOf_21 ki_0 ?_
  refine lv_istore (lv' := [(5, .int 0), (0, .ref (adr G 64)), (1, .ref (adr G a1)), (2, .int a2), (3, .int a3), (4, .int a4)]) hx hb dX0_mindsOf_22 hl (by decide) rfl (fun ls hl => ?_)
  have J24 : ∀ (k24 : Nat) (x5 : Int32) (g6 : GM) (n : Nat) (H : Heap) (locs : List Loc) (ls : Array Slot), n0 ≤ n → Rep G sh g6 gl gr n H → va_S (own G) s.heap H locs → lv_has ls 6 [(0, .ref (adr G 64)), (1, .ref (adr G a1)), (2, .int a2), (3, .int a3), (4, .int a4), (5, .int x5)] → l_X0_mindsOf_24 a1 La1 a2 a3 a4 k24 x5 g6 = some oo → W p l e rm_X0_mindsOf s m ([.ref (adr G 64), .ref (adr G a1), .int a2, .int a3, .int a4] : List Value).toArray below meth c H locs 0 0 (XQ G below n0 o ([.ref (adr G 64), .ref (adr G a1), .int a2, .int a3, .int a4] : List Value).toArray s rm_X0_mindsOf) (F0 m 24 ls []) := by
    intro k24
    induction k24 with
    | zero => intro _ _ _ _ _ _ _ _ _ _; exact nofun
    | succ k24 ih24 =>
      intro x5 g6 n H locs ls hn hR hS hl h
      unfold l_X0_mindsOf_24 b_X0_mindsOf_24 at h
      refine lv_iload hx hb dX0_mindsOf_24 (lv_at hl 5 rfl) ?_
      refine lv_iload hx hb dX0_mindsOf_26 (lv_at hl 4 rfl) ?_
      refine lv_icmp_ge (tgt := 86) hx hb dX0_mindsOf_28 (by decide) (fun c7 => ?_) (fun c7 => ?_)
      · replace h := ifp h c7
        obtain rfl := s1i h
        exact x_vret hx hb hr hlk hn hR hS (Nat.zero_le _) (Nat.zero_le _) ho dX0_mindsOf_86
      · replace h := ifn h c7
        refine lv_aload_n hx hb dX0_mindsOf_31 rfl (lv_at hl 0 rfl) ?_
        refine r_getr hx hb hts cfX0 hown hK hR (sk_64 hSk) 0 (by decide) rfl (sr_64_0 hSk) (hts _ q449) (fun _ h => h) dX0_mindsOf_32 ?_
        refine r_getrN hx hb hts cfX1 hown hK hR (sk_65 hSk) 10 (by decide) rfl (sr_65_10 hSk) (hW.nestF q186) (fun _ h => h) dX0_mindsOf_35 ?_
        refine lv_iload_n hx hb dX0_mindsOf_38 rfl (lv_at hl 3 rfl) ?_
        refine lv_iload hx hb dX0_mindsOf_39 (lv_at hl 5 rfl) ?_
        refine lv_iadd hx hb dX0_mindsOf_41 ?_
        refine lv_aload_n hx hb dX0_mindsOf_42 rfl (lv_at hl 0 rfl) ?_
        refine r_getr hx hb hts cfX0 hown hK hR (sk_64 hSk) 0 (by decide) rfl (sr_64_0 hSk) (hts _ q449) (fun _ h => h) dX0_mindsOf_43 ?_
        refine r_getrN hx hb hts cfX1 hown hK hR (sk_65 hSk) 9 (by decide) rfl (sr_65_9 hSk) (hW.nestF q183) (fun _ h => h) dX0_mindsOf_46 ?_
        refine lv_iload_n hx hb dX0_mindsOf_49 rfl (lv_at hl 3 rfl) ?_
        refine lv_iload hx hb dX0_mindsOf_50 (lv_at hl 5 rfl) ?_
        refine lv_iadd hx hb dX0_mindsOf_52 ?_
        obtain ⟨v9, e8, h⟩ := obd h
        refine r_ldi hx hb hK hR (sk_71 hSk) e8 dX0_mindsOf_53 ?_
        refine lv_iconst (v := (-1)) hx hb dX0_mindsOf_54 ki_m1 ?_
        have J68 : ∀ (x10 : Int32) (n : Nat) (H : Heap) (locs : List Loc) (ls : Array Slot), n0 ≤ n → Rep G sh g6 gl gr n H → va_S (own G) s.heap H locs → lv_has ls 6 [(0, .ref (adr G 64)), (1, .ref (adr G a1)), (2, .int a2), (3, .int a3), (4, .int a4), (5, .int x5)] → j_X0_mindsOf_68 a3 x5 g6 (l_X0_mindsOf_24 a1 La1 a2 a3 a4 k24) x10 = some oo → W p l e rm_X0_mindsOf s m ([.ref (adr G 64), .ref (adr G a1), .int a2, .int a3, .int a4] : List Value).toArray below meth c H locs 0 0 (XQ G below n0 o ([.ref (adr G 64), .ref (adr G a1), .int a2, .int a3, .int a4] : List Value).toArray s rm_X0_mindsOf) (F0 m 68 ls [.int x10, .int (a3 + x5), .ref (adr G 72)]) := by
          intro x10 n H locs ls hn hR hS hl h
          unfold j_X0_mindsOf_68 at h
          obtain ⟨g12, e11, h⟩ := obd h
          refine r_sti hx hb hK hR hS (sk_72 hSk) e11 dX0_mindsOf_68 (fun H locs hR hS => ?_)
          refine lv_aload_n hx hb dX0_mindsOf_69 rfl (lv_at hl 0 rfl) ?_
          refine r_getr hx hb hts cfX0 hown hK hR (sk_64 hSk) 0 (by decide) rfl (sr_64_0 hSk) (hts _ q449) (fun _ h => h) dX0_mindsOf_70 ?_
          refine lv_iload_n hx hb dX0_mindsOf_73 rfl (lv_at hl 3 rfl) ?_
          refine lv_iload hx hb dX0_mindsOf_74 (lv_at hl 5 rfl) ?_
          refine lv_iadd hx hb dX0_mindsOf_76 ?_
          obtain ⟨g14, e13, h⟩ := obd h
          refine rc_V0 (rest := []) (st1 := []) hF (w_X1_settles hSk 65 (a3 + x5) (isMl_65) e13) (cwV 1 hts (lw_V q829 q830 q831 q101 q832) rfl rfl rfl hd_X1_settles ⟨Nat.le_of_ble_eq_true rfl, Nat.le_of_ble_eq_true rfl⟩) cfX1 (sk_65 hSk) hK hW hR hS rfl hl.1 rfl (Nat.le_of_ble_eq_true rfl) rfl dX0_mindsOf_77 ⟨rfl, rfl⟩ ⟨Nat.zero_le _, Nat.zero_le _⟩ (fun H locs hR hS => ?_)
          refine lv_iinc (v := x5 + 1) (lv' := [(5, .int (x5 + 1)), (0, .ref (adr G 64)), (1, .ref (adr G a1)), (2, .int a2), (3, .int a3), (4, .int a4)]) hx hb dX0_mindsOf_80 hl (k := 5) rfl rfl (by decide) rfl (fun ls hl => ?_)
          refine lv_goto (tgt := 24) hx hb dX0_mindsOf_83 (by decide) ?_
          exact ih24 (x5 + 1) g14 _ _ _ _ hn hR hS (lv_sub hl [1, 2, 3, 4, 5, 0] rfl) h
        refine lv_icmp_ne (tgt := 62) hx hb dX0_mindsOf_55 (by decide) (fun c15 => ?_) (fun c15 => ?_)
        · replace h := ifn h c15
          refine lv_aload_n hx hb dX0_mindsOf_62 rfl (lv_at hl 1 rfl) ?_
          refine lv_iload_n hx hb dX0_mindsOf_63 rfl (lv_at hl 2 rfl) ?_
          refine lv_iload hx hb dX0_mindsOf_64 (lv_at hl 5 rfl) ?_
          refine lv_iadd hx hb dX0_mindsOf_66 ?_
          obtain ⟨v17, e16, h⟩ := obd h
          refine r_ldb hx hb hK hR hs_a1 e16 dX0_mindsOf_67 ?_
          exact J68 v17 _ _ _ _ hn hR hS (lv_sub hl [0, 1, 2, 3, 4, 5] rfl) h
        · replace h := ifp h c15
          refine lv_iconst (v := 0) hx hb dX0_mindsOf_58 ki_0 ?_
          refine lv_goto (tgt := 68) hx hb dX0_mindsOf_59 (by decide) ?_
          exact J68 0 _ _ _ _ hn hR hS (lv_sub hl [0, 1, 2, 3, 4, 5] rfl) h
  exact J24 fuel 0 g _ _ _ _ hn hR hS (lv_sub hl [1, 2, 3, 4, 5, 0] rfl) h
def rm_X0_minds : Room := { frames := 21, cells := 3, slots := 1010, locals := 10620 }
theorem hd_X0_minds : yX0_minds.cls = "IntentVats" ∧ yX0_minds.cls ≠ "java/lang/invoke/MethodHandle" ∧ yX0_minds.cls ≠ "java/lang/invoke/VarHandle" ∧ (parseMethodDescriptor yX0_minds.desc).map (fun d => d.parameters.length) = some 4 := by decide +kernel
theorem he_X0_minds : yX0_minds.cls ≠ "java/lang/invoke/MethodHandle" ∧ yX0_minds.cls ≠ "java/lang/invoke/VarHandle" ∧ (parseMethodDescriptor yX0_minds.desc).map (fun d => d.parameters.length) = some 4 := hd_X0_minds.2
set_option maxHeartbeats 4000000 in
set_option maxRecDepth 100000 in
theorem w_X0_minds {l : Launch} {G : Gx} {sh : SM} {g : GM} {gl : LM} {gr : RM} {n0 : Nat} (hSk : Sk sh gr) (a1 : Int32) (a2 : Int32) (a3 : Int32) (a4 : Int32)  {oo : ((Int32 × GM) ⊕ (Nat × GM))} {o : XO} (h : f_X0_minds sh g gr a1 a2 a3 a4 = some oo) (ho : o = (oo.elim (fun p => .inl (some (.int p.1), sh, p.2, gl, gr)) (fun q => .inr (q.1, sh, q.2, gl, gr)))) : MetX l G yX0_minds (wsW_ yX0_minds cX0_minds 6 (Option.some Jvm.ClassFile.FieldType.int) [(35, 61, 62, 94), (35, 61, 67, 375), (35, 61, 72, 87)]) rm_X0_minds [.ref (adr G 64), .int a1, .int a2, .int a3, .int a4] sh g gl gr n0 o := by
  refine MetX.ofW (by decide) (Nat.le_of_ble_eq_true rfl) ?_
  intro p e s m below meth c ls hx hb hr hml hown hts hlk htb hW hK hR hS hl
  have hn : n0 ≤ n0 := Nat.le_refl _
  have hown : s.vm.findClass RX0 = some m.cls := hown
  have hF : CallFix p m c cX0_minds 6 s ([.ref (adr G 64), .int a1, .int a2, .int a3, .int a4] : List Value).toArray lw_all RX0 := ⟨hx, hb, hml, hown, hts⟩
  have hl : lv_has ls 6 [(0, .ref (adr G 64)), (1, .int a1), (2, .int a2), (3, .int a3), (4, .int a4)] := hl
  unfold f_X0_minds at h
  refine lv_iload_n hx hb dX0_minds_0 rfl (lv_at hl 1 rfl) ?_
  obtain ⟨r2, e1, h⟩ := obd h
  refine rc_S0 (rest := []) (st1 := [.int r2]) hF (w_X0_isSheet hSk a1 e1) (va_cwS 1 hts (lw_S q966 q967 q100 q968) rfl rfl rfl he_X0_isSheet ⟨Nat.le_of_ble_eq_true rfl, Nat.le_of_ble_eq_true rfl⟩) hW hR hS rfl hl.1 rfl (Nat.le_of_ble_eq_true rfl) rfl dX0_minds_1 ⟨rfl, rfl⟩ ⟨Nat.zero_le _, Nat.zero_le _⟩ (fun H locs hR hS => ?_)
  have J33 : ∀  (n : Nat) (H : Heap) (locs : List Loc) (ls : Array Slot), n0 ≤ n → Rep G sh g gl gr n H → va_S (own G) s.heap H locs → lv_has ls 6 [] → j_X0_minds_33 g  = some oo → W p l e rm_X0_minds s m ([.ref (adr G 64), .int a1, .int a2, .int a3, .int a4] : List Value).toArray below meth c H locs 0 0 (XQ G below n0 o ([.ref (adr G 64), .int a1, .int a2, .int a3, .int a4] : List Value).toArray s rm_X0_minds) (F0 m 33 ls []) := by
    intro  n H locs ls hn hR hS hl h
    unfold j_X0_minds_33 at h
    refine lv_iconst (v := (-1)) hx hb dX0_minds_33 ki_m1 ?_
    obtain rfl := s1i h
    exact x_iret hx hb hr hlk hn hR hS (Nat.zero_le _) (Nat.zero_le _) ho dX0_minds_34
  refine lv_if_eq (tgt := 33) hx hb dX0_minds_4 (by decide) (fun c3 => ?_) (fun c3 => ?_)
  · replace h := ifp h c3
    exact J33  _ _ _ _ hn hR hS (lv_sub hl [] rfl) h
  · replace h := ifn h c3
    refine lv_aload_n hx hb dX0_minds_7 rfl (lv_at hl 0 rfl) ?_
    refine lv_iload_n hx hb dX0_minds_8 rfl (lv_at hl 3 rfl) ?_
    obtain ⟨r5, e4, h⟩ := obd h
    refine rc_V0 (rest := []) (st1 := [.int r5]) hF (w_X0_isCloth hSk a3 e4) (cwV 1 hts (lw_V q715 q717 qs15 q100 q718) rfl rfl rfl hd_X0_isCloth ⟨Nat.le_of_ble_eq_true rfl, Nat.le_of_ble_eq_true rfl⟩) cfX0 (sk_64 hSk) hK hW hR hS rfl hl.1 rfl (Nat.le_of_ble_eq_true rfl) rfl dX0_minds_9 ⟨rfl, rfl⟩ ⟨Nat.zero_le _, Nat.zero_le _⟩ (fun H locs hR hS => ?_)
    refine lv_if_eq (tgt := 33) hx hb dX0_minds_12 (by decide) (fun c6 => ?_) (fun c6 => ?_)
    · replace h := ifp h c6
      exact J33  _ _ _ _ hn hR hS (lv_sub hl [] rfl) h
    · replace h := ifn h c6
      refine lv_iload hx hb dX0_minds_15 (lv_at hl 4 rfl) ?_
      refine lv_iconst (v := 0) hx hb dX0_minds_17 ki_0 ?_
      refine lv_aload_n hx hb dX0_minds_18 rfl (lv_at hl 0 rfl) ?_
      refine r_getr hx hb hts cfX0 hown hK hR (sk_64 hSk) 0 (by decide) rfl (sr_64_0 hSk) (hts _ q449) (fun _ h => h) dX0_minds_19 ?_
      refine r_getiN hx hb hts cfX1 hown hK hR (sk_65 hSk) 0 (by decide) rfl (hW.nestF q153) (fun _ h => h) dX0_minds_22 ?_
      refine lv_iload_n hx hb dX0_minds_25 rfl (lv_at hl 3 rfl) ?_
      refine lv_isub hx hb dX0_minds_26 ?_
      obtain ⟨r8, e7, h⟩ := obd h
      refine rc_S0 (rest := []) (st1 := [.int r8]) hF (w_X0_in hSk a4 0 ((g 65 0) - a3) e7) (va_cwS 3 hts (lw_S q508 q509 q100 q510) rfl rfl rfl he_X0_in ⟨Nat.le_of_ble_eq_true rfl, Nat.le_of_ble_eq_true rfl⟩) hW hR hS rfl hl.1 rfl (Nat.le_of_ble_eq_true rfl) rfl dX0_minds_27 ⟨rfl, rfl⟩ ⟨Nat.zero_le _, Nat.zero_le _⟩ (fun H locs hR hS => ?_)
      refine lv_if_ne (tgt := 35) hx hb dX0_minds_30 (by decide) (fun c9 => ?_) (fun c9 => ?_)
      · replace h := ifn h c9
        refine lv_aload_n hx hb dX0_minds_35 rfl (lv_at hl 0 rfl) ?_
        refine lv_aload_n hx hb dX0_minds_36 rfl (lv_at hl 0 rfl) ?_
        refine lv_aload_n hx hb dX0_minds_37 rfl (lv_at hl 0 rfl) ?_
        refine r_getr hx hb hts cfX0 hown hK hR (sk_64 hSk) 12 (by decide) rfl (sr_64_12 hSk) (hts _ q461) (fun _ h => h) dX0_minds_38 ?_
        refine lv_iload_n hx hb dX0_minds_41 rfl (lv_at hl 1 rfl) ?_
        obtain ⟨j11, e10, h⟩ := obd h
        have qj11 := (chk_s e10).2.2
        refine r_ldr hx hb hK hR (sk_115 hSk) (by decide) (by decide) 7 rfl e10 (sra_115 hSk qj11) dX0_minds_42 ?_
        obtain ⟨r13, e12, h⟩ := obd h
        refine rc_V0 (rest := [.ref (adr G 64), .ref (adr G 64)]) (st1 := [va_rf (Option.map (adr G) r13), .ref (adr G 64), .ref (adr G 64)]) hF (w_X10_row hSk (116 + j11) e12) (cwV 0 hts (lw_V q969 q970 q971 q113 q972) rfl rfl rfl hd_X10_row ⟨Nat.le_of_ble_eq_true rfl, Nat.le_of_ble_eq_true rfl⟩) cfX10 (shs_115 hSk qj11) hK hW hR hS rfl hl.1 rfl (Nat.le_of_ble_eq_true rfl) rfl dX0_minds_43 ⟨rfl, rfl⟩ ⟨Nat.zero_le _, Nat.zero_le _⟩ (fun H locs hR hS => ?_)
        rcases obx11 h with ⟨ec16, e14, h⟩ | ⟨r15, e14, h⟩
        · refine xc_x (xr_V (ox := (.inr (ec16, sh, g, gl, gr))) (rest := [.ref (adr G 64)]) hF (w_X0_there hSk r13 e14 rfl) (cwV 1 hts (lw_V q973 q975 qs26 q100 q976) rfl rfl rfl hd_X0_there ⟨Nat.le_of_ble_eq_true rfl, Nat.le_of_ble_eq_true rfl⟩) cfX0 (sk_64 hSk) hK hW hR rfl hl.1 rfl (Nat.le_of_ble_eq_true rfl) dX0_minds_46 ⟨Nat.le_of_ble_eq_true rfl, Nat.le_of_ble_eq_true rfl⟩) hS (fun n H locs q9 ce9 hn2 hR hS hq9 hce9 hcv9 hcl9 => ?_)
          replace hn := Nat.le_trans hn hn2
          by_cases c19 : ec16 = 12
          · replace h := ifp h c19
            subst c19
            obtain rfl := hq9 121 rfl
            refine vx_catch (E := "IntentVats$Nothing") (name := "IntentVats$Nothing") hown [] ⟨35, 61, 62, 94⟩ [⟨35, 61, 67, 375⟩, ⟨35, 61, 72, 87⟩] (htb.trans rfl) (fun _ hz => nomatch hz) rfl (by decide) (hts _ q416) (hW.cab q418) hce9 hcv9 hcl9 ?_
            refine lv_astore (lv' := [(5, .ref (adr G 121)), (0, .ref (adr G 64)), (1, .int a1), (2, .int a2), (3, .int a3), (4, .int a4)]) hx hb dX0_minds_62 hl (by decide) rfl (fun ls hl => ?_)
            refine lv_bipush (v := (-11)) hx hb dX0_minds_64 kb_m11 ?_
            obtain rfl := s1i h
            exact x_iret hx hb hr hlk hn hR hS (Nat.zero_le _) (Nat.zero_le _) ho dX0_minds_66
          · replace h := ifn h c19
            by_cases c18 : ec16 = 1
            · replace h := ifp h c18
              subst c18
              refine vx_catch (E := "java/lang/ClassCastException") (name := "java/lang/ClassCastException") hown [⟨35, 61, 62, 94⟩] ⟨35, 61, 67, 375⟩ [⟨35, 61, 72, 87⟩] (htb.trans rfl) (List.forall_mem_cons.mpr ⟨Or.inr ⟨by decide, "IntentVats$Nothing", hts _ q416, hW.nas [true, true, true, true, false, false, true, false, true, false] rfl⟩, (fun _ hz => nomatch hz)⟩) rfl (by decide) (hts _ q1062) (hW.cab q1082) hce9 hcv9 hcl9 ?_
              refine lv_astore (lv' := [(5, .ref q9), (0, .ref (adr G 64)), (1, .int a1), (2, .int a2), (3, .int a3), (4, .int a4)]) hx hb dX0_minds_67 hl (by decide) rfl (fun ls hl => ?_)
              refine lv_bipush (v := (-13)) hx hb dX0_minds_69 kb_m13 ?_
              obtain rfl := s1i h
              exact x_iret hx hb hr hlk hn hR hS (Nat.zero_le _) (Nat.zero_le _) ho dX0_minds_71
            · replace h := ifn h c18
              by_cases c17 : ec16 = 11
              · replace h := ifp h c17
                subst c17
                obtain rfl := hq9 120 rfl
                refine vx_catch (E := "IntentVats$Beyond") (name := "IntentVats$Beyond") hown [⟨35, 61, 62, 94⟩, ⟨35, 61, 67, 375⟩] ⟨35, 61, 72, 87⟩ [] (htb.trans rfl) (List.forall_mem_cons.mpr ⟨Or.inr ⟨by decide, "IntentVats$Nothing", hts _ q416, hW.nas [true, true, true, true, false, false, true, true, true] rfl⟩, (List.forall_mem_cons.mpr ⟨Or.inr ⟨by decide, "java/lang/ClassCastException", hts _ q1062, hW.nas [true, true, true, false, true, true, false, true, false, true] rfl⟩, (fun _ hz => nomatch hz)⟩)⟩) rfl (by decide) (hts _ q401) (hW.cab q403) hce9 hcv9 hcl9 ?_
                refine lv_astore (lv' := [(5, .ref (adr G 120)), (0, .ref (adr G 64)), (1, .int a1), (2, .int a2), (3, .int a3), (4, .int a4)]) hx hb dX0_minds_72 hl (by decide) rfl (fun ls hl => ?_)
                refine lv_bipush (v := (-12)) hx hb dX0_minds_74 kb_m12 ?_
                obtain rfl := s1i h
                exact x_iret hx hb hr hlk hn hR hS (Nat.zero_le _) (Nat.zero_le _) ho dX0_minds_76
              · replace h := ifn h c17
                cases h
        refine xc_r (xr_V (ox := (.inl (some (.ref (adr G r15)), sh, g, gl, gr))) (rest := [.ref (adr G 64)]) hF (w_X0_there hSk r13 e14 rfl) (cwV 1 hts (lw_V q973 q975 qs26 q100 q976) rfl rfl rfl hd_X0_there ⟨Nat.le_of_ble_eq_true rfl, Nat.le_of_ble_eq_true rfl⟩) cfX0 (sk_64 hSk) hK hW hR rfl hl.1 rfl (Nat.le_of_ble_eq_true rfl) dX0_minds_46 ⟨Nat.le_of_ble_eq_true rfl, Nat.le_of_ble_eq_true rfl⟩) hS (fun n H locs hn2 hR hS => ?_)
        replace hn := Nat.le_trans hn hn2
        refine W.widen (k := 0) (n := 0) (Nat.le_of_ble_eq_true rfl) (Nat.le_of_ble_eq_true rfl) ?_
        rcases obx11 h with ⟨ec22, e20, h⟩ | ⟨r21, e20, h⟩
        · refine xc_x (xr_S (ox := (.inr (ec22, sh, g, gl, gr))) (rest := [.ref (adr G 64)]) hF (w_X0_bytes hSk r15 e20 rfl) (va_cwS 1 hts (lw_S q1089 q1090 q100 q1091) rfl rfl rfl he_X0_bytes ⟨Nat.le_of_ble_eq_true rfl, Nat.le_of_ble_eq_true rfl⟩) hW hR rfl hl.1 rfl (Nat.le_of_ble_eq_true rfl) dX0_minds_49 ⟨Nat.le_of_ble_eq_true rfl, Nat.le_of_ble_eq_true rfl⟩) hS (fun n H locs q9 ce9 hn2 hR hS hq9 hce9 hcv9 hcl9 => ?_)
          replace hn := Nat.le_trans hn hn2
          by_cases c25 : ec22 = 12
          · replace h := ifp h c25
            subst c25
            obtain rfl := hq9 121 rfl
            refine vx_catch (E := "IntentVats$Nothing") (name := "IntentVats$Nothing") hown [] ⟨35, 61, 62, 94⟩ [⟨35, 61, 67, 375⟩, ⟨35, 61, 72, 87⟩] (htb.trans rfl) (fun _ hz => nomatch hz) rfl (by decide) (hts _ q416) (hW.cab q418) hce9 hcv9 hcl9 ?_
            refine W.widen (k := 3) (n := 1010) (Nat.le_of_ble_eq_true rfl) (Nat.le_of_ble_eq_true rfl) ?_
            refine lv_astore (lv' := [(5, .ref (adr G 121)), (0, .ref (adr G 64)), (1, .int a1), (2, .int a2), (3, .int a3), (4, .int a4)]) hx hb dX0_minds_62 hl (by decide) rfl (fun ls hl => ?_)
            refine lv_bipush (v := (-11)) hx hb dX0_minds_64 kb_m11 ?_
            obtain rfl := s1i h
            exact x_iret hx hb hr hlk hn hR hS (Nat.le_of_ble_eq_true rfl) (Nat.le_of_ble_eq_true rfl) ho dX0_minds_66
          · replace h := ifn h c25
            by_cases c24 : ec22 = 1
            · replace h := ifp h c24
              subst c24
              refine vx_catch (E := "java/lang/ClassCastException") (name := "java/lang/ClassCastException") hown [⟨35, 61, 62, 94⟩] ⟨35, 61, 67, 375⟩ [⟨35, 61, 72, 87⟩] (htb.trans rfl) (List.forall_mem_cons.mpr ⟨Or.inr ⟨by decide, "IntentVats$Nothing", hts _ q416, hW.nas [true, true, true, true, false, false, true, false, true, false] rfl⟩, (fun _ hz => nomatch hz)⟩) rfl (by decide) (hts _ q1062) (hW.cab q1082) hce9 hcv9 hcl9 ?_
              refine W.widen (k := 3) (n := 1010) (Nat.le_of_ble_eq_true rfl) (Nat.le_of_ble_eq_true rfl) ?_
              refine lv_astore (lv' := [(5, .ref q9), (0, .ref (adr G 64)), (1, .int a1), (2, .int a2), (3, .int a3), (4, .int a4)]) hx hb dX0_minds_67 hl (by decide) rfl (fun ls hl => ?_)
              refine lv_bipush (v := (-13)) hx hb dX0_minds_69 kb_m13 ?_
              obtain rfl := s1i h
              exact x_iret hx hb hr hlk hn hR hS (Nat.le_of_ble_eq_true rfl) (Nat.le_of_ble_eq_true rfl) ho dX0_minds_71
            · replace h := ifn h c24
              by_cases c23 : ec22 = 11
              · replace h := ifp h c23
                subst c23
                obtain rfl := hq9 120 rfl
                refine vx_catch (E := "IntentVats$Beyond") (name := "IntentVats$Beyond") hown [⟨35, 61, 62, 94⟩, ⟨35, 61, 67, 375⟩] ⟨35, 61, 72, 87⟩ [] (htb.trans rfl) (List.forall_mem_cons.mpr ⟨Or.inr ⟨by decide, "IntentVats$Nothing", hts _ q416, hW.nas [true, true, true, true, false, false, true, true, true] rfl⟩, (List.forall_mem_cons.mpr ⟨Or.inr ⟨by decide, "java/lang/ClassCastException", hts _ q1062, hW.nas [true, true, true, false, true, true, false, true, false, true] rfl⟩, (fun _ hz => nomatch hz)⟩)⟩) rfl (by decide) (hts _ q401) (hW.cab q403) hce9 hcv9 hcl9 ?_
                refine W.widen (k := 3) (n := 1010) (Nat.le_of_ble_eq_true rfl) (Nat.le_of_ble_eq_true rfl) ?_
                refine lv_astore (lv' := [(5, .ref (adr G 120)), (0, .ref (adr G 64)), (1, .int a1), (2, .int a2), (3, .int a3), (4, .int a4)]) hx hb dX0_minds_72 hl (by decide) rfl (fun ls hl => ?_)
                refine lv_bipush (v := (-12)) hx hb dX0_minds_74 kb_m12 ?_
                obtain rfl := s1i h
                exact x_iret hx hb hr hlk hn hR hS (Nat.le_of_ble_eq_true rfl) (Nat.le_of_ble_eq_true rfl) ho dX0_minds_76
              · replace h := ifn h c23
                cases h
        refine xc_r (xr_S (ox := (.inl (some (.ref (adr G r21)), sh, g, gl, gr))) (rest := [.ref (adr G 64)]) hF (w_X0_bytes hSk r15 e20 rfl) (va_cwS 1 hts (lw_S q1089 q1090 q100 q1091) rfl rfl rfl he_X0_bytes ⟨Nat.le_of_ble_eq_true rfl, Nat.le_of_ble_eq_true rfl⟩) hW hR rfl hl.1 rfl (Nat.le_of_ble_eq_true rfl) dX0_minds_49 ⟨Nat.le_of_ble_eq_true rfl, Nat.le_of_ble_eq_true rfl⟩) hS (fun n H locs hn2 hR hS => ?_)
        replace hn := Nat.le_trans hn hn2
        refine W.widen (k := 3) (n := 1010) (Nat.le_of_ble_eq_true rfl) (Nat.le_of_ble_eq_true rfl) ?_
        refine lv_iload_n hx hb dX0_minds_52 rfl (lv_at hl 2 rfl) ?_
        refine lv_iload_n hx hb dX0_minds_53 rfl (lv_at hl 3 rfl) ?_
        refine lv_iload hx hb dX0_minds_54 (lv_at hl 4 rfl) ?_
        obtain ⟨c26, h⟩ := ogrd h
        rcases obx12 h with ⟨ec28, g30, e27, h⟩ | ⟨g29, e27, h⟩
        · refine xc_x (xr_V (ox := (.inr (ec28, sh, g30, gl, gr))) (rest := []) hF (w_X0_mindsOf hSk r21 ((sh r21).2) a2 a3 a4 (shp c26) e27 rfl) (cwV 4 hts (lw_V q1092 q1094 qs32 q100 q1095) rfl rfl rfl hd_X0_mindsOf ⟨Nat.le_of_ble_eq_true rfl, Nat.le_of_ble_eq_true rfl⟩) cfX0 (sk_64 hSk) hK hW hR rfl hl.1 rfl (Nat.le_of_ble_eq_true rfl) dX0_minds_56 ⟨Nat.le_of_ble_eq_true rfl, Nat.le_of_ble_eq_true rfl⟩) hS (fun n H locs q9 ce9 hn2 hR hS hq9 hce9 hcv9 hcl9 => ?_)
          replace hn := Nat.le_trans hn hn2
          by_cases c33 : ec28 = 12
          · replace h := ifp h c33
            subst c33
            obtain rfl := hq9 121 rfl
            refine vx_catch (E := "IntentVats$Nothing") (name := "IntentVats$Nothing") hown [] ⟨35, 61, 62, 94⟩ [⟨35, 61, 67, 375⟩, ⟨35, 61, 72, 87⟩] (htb.trans rfl) (fun _ hz => nomatch hz) rfl (by decide) (hts _ q416) (hW.cab q418) hce9 hcv9 hcl9 ?_
            refine lv_astore (lv' := [(5, .ref (adr G 121)), (0, .ref (adr G 64)), (1, .int a1), (2, .int a2), (3, .int a3), (4, .int a4)]) hx hb dX0_minds_62 hl (by decide) rfl (fun ls hl => ?_)
            refine lv_bipush (v := (-11)) hx hb dX0_minds_64 kb_m11 ?_
            obtain rfl := s1i h
            exact x_iret hx hb hr hlk hn hR hS (Nat.le_of_ble_eq_true rfl) (Nat.le_of_ble_eq_true rfl) ho dX0_minds_66
          · replace h := ifn h c33
            by_cases c32 : ec28 = 1
            · replace h := ifp h c32
              subst c32
              refine vx_catch (E := "java/lang/ClassCastException") (name := "java/lang/ClassCastException") hown [⟨35, 61, 62, 94⟩] ⟨35, 61, 67, 375⟩ [⟨35, 61, 72, 87⟩] (htb.trans rfl) (List.forall_mem_cons.mpr ⟨Or.inr ⟨by decide, "IntentVats$Nothing", hts _ q416, hW.nas [true, true, true, true, false, false, true, false, true, false] rfl⟩, (fun _ hz => nomatch hz)⟩) rfl (by decide) (hts _ q1062) (hW.cab q1082) hce9 hcv9 hcl9 ?_
              refine lv_astore (lv' := [(5, .ref q9), (0, .ref (adr G 64)), (1, .int a1), (2, .int a2), (3, .int a3), (4, .int a4)]) hx hb dX0_minds_67 hl (by decide) rfl (fun ls hl => ?_)
              refine lv_bipush (v := (-13)) hx hb dX0_minds_69 kb_m13 ?_
              obtain rfl := s1i h
              exact x_iret hx hb hr hlk hn hR hS (Nat.le_of_ble_eq_true rfl) (Nat.le_of_ble_eq_true rfl) ho dX0_minds_71
            · replace h := ifn h c32
              by_cases c31 : ec28 = 11
              · replace h := ifp h c31
                subst c31
                obtain rfl := hq9 120 rfl
                refine vx_catch (E := "IntentVats$Beyond") (name := "IntentVats$Beyond") hown [⟨35, 61, 62, 94⟩, ⟨35, 61, 67, 375⟩] ⟨35, 61, 72, 87⟩ [] (htb.trans rfl) (List.forall_mem_cons.mpr ⟨Or.inr ⟨by decide, "IntentVats$Nothing", hts _ q416, hW.nas [true, true, true, true, false, false, true, true, true] rfl⟩, (List.forall_mem_cons.mpr ⟨Or.inr ⟨by decide, "java/lang/ClassCastException", hts _ q1062, hW.nas [true, true, true, false, true, true, false, true, false, true] rfl⟩, (fun _ hz => nomatch hz)⟩)⟩) rfl (by decide) (hts _ q401) (hW.cab q403) hce9 hcv9 hcl9 ?_
                refine lv_astore (lv' := [(5, .ref (adr G 120)), (0, .ref (adr G 64)), (1, .int a1), (2, .int a2), (3, .int a3), (4, .int a4)]) hx hb dX0_minds_72 hl (by decide) rfl (fun ls hl => ?_)
                refine lv_bipush (v := (-12)) hx hb dX0_minds_74 kb_m12 ?_
                obtain rfl := s1i h
                exact x_iret hx hb hr hlk hn hR hS (Nat.le_of_ble_eq_true rfl) (Nat.le_of_ble_eq_true rfl) ho dX0_minds_76
              · replace h := ifn h c31
                cases h
        refine xc_r (xr_V (ox := (.inl (none, sh, g29, gl, gr))) (rest := []) hF (w_X0_mindsOf hSk r21 ((sh r21).2) a2 a3 a4 (shp c26) e27 rfl) (cwV 4 hts (lw_V q1092 q1094 qs32 q100 q1095) rfl rfl rfl hd_X0_mindsOf ⟨Nat.le_of_ble_eq_true rfl, Nat.le_of_ble_eq_true rfl⟩) cfX0 (sk_64 hSk) hK hW hR rfl hl.1 rfl (Nat.le_of_ble_eq_true rfl) dX0_minds_56 ⟨Nat.le_of_ble_eq_true rfl, Nat.le_of_ble_eq_true rfl⟩) hS (fun n H locs hn2 hR hS => ?_)
        replace hn := Nat.le_trans hn hn2
        refine W.widen (k := 3) (n := 1010) (Nat.le_of_ble_eq_true rfl) (Nat.le_of_ble_eq_true rfl) ?_
        refine lv_iload hx hb dX0_minds_59 (lv_at hl 4 rfl) ?_
        obtain rfl := s1i h
        exact x_iret hx hb hr hlk hn hR hS (Nat.le_of_ble_eq_true rfl) (Nat.le_of_ble_eq_true rfl) ho dX0_minds_61
      · replace h := ifp h c9
        exact J33  _ _ _ _ hn hR hS (lv_sub hl [] rfl) h
def rm_X0_set_2 : Room := { frames := 4, cells := 0, slots := 0, locals := 34 }
theorem hd_X0_set_2 : yX0_set_2.cls = "IntentVats" ∧ yX0_set_2.cls ≠ "java/lang/invoke/MethodHandle" ∧ yX0_set_2.cls ≠ "java/lang/invoke/VarHandle" ∧ (parseMethodDescriptor yX0_set_2.desc).map (fun d => d.parameters.length) = some 3 := by decide +kernel
theorem he_X0_set_2 : yX0_set_2.cls ≠ "java/lang/invoke/MethodHandle" ∧ yX0_set_2.cls ≠ "java/lang/invoke/VarHandle" ∧ (parseMethodDescriptor yX0_set_2.desc).map (fun d => d.parameters.length) = some 3 := hd_X0_set_2.2
set_option maxHeartbeats 4000000 in
set_option maxRecDepth 100000 in
theorem w_X0_set_2 {l : Launch} {G : Gx} {sh : SM} {g : GM} {gl : LM} {gr : RM} {n0 : Nat} (hSk : Sk sh gr) (a1 : Nat) (a2 : Int32) (a3 : Int32)  {oo : ((GM × LM) ⊕ (Nat × GM × LM))} {o : XO} (h : f_X0_set_2 sh g gl a1 a2 a3 = some oo) (ho : o = (oo.elim (fun p => .inl (none, sh, p.1, p.2, gr)) (fun q => .inr (q.1, sh, q.2.1, q.2.2, gr)))) : MetX l G yX0_set_2 (ws_ yX0_set_2 cX0_set_2 4 (Option.none : Option Jvm.ClassFile.FieldType)) rm_X0_set_2 [.ref (adr G 64), .ref (adr G a1), .int a2, .int a3] sh g gl gr n0 o := by
  refine MetX.of (by decide) (Nat.le_of_ble_eq_true rfl) ?_
  intro p e s m below meth c ls hx hb hr hml hown hts hlk htb hW hK hR hS hl
  have hn : n0 ≤ n0 := Nat.le_refl _
  have hown : s.vm.findClass RX0 = some m.cls := hown
  have hF : CallFix p m c cX0_set_2 4 s ([.ref (adr G 64), .ref (adr G a1), .int a2, .int a3] : List Value).toArray lw_all RX0 := ⟨hx, hb, hml, hown, hts⟩
  have hl : lv_has ls 4 [(0, .ref (adr G 64)), (1, .ref (adr G a1)), (2, .int a2), (3, .int a3)] := hl
  unfold f_X0_set_2 at h
  refine lv_aload_n hx hb dX0_set_2_0 rfl (lv_at hl 0 rfl) ?_
  refine lv_iload_n hx hb dX0_set_2_1 rfl (lv_at hl 2 rfl) ?_
  refine lv_aload_n hx hb dX0_set_2_2 rfl (lv_at hl 1 rfl) ?_
  obtain ⟨r2, e1, h⟩ := obd h
  refine rc_S0 (rest := [.int a2, .ref (adr G 64)]) (st1 := [.int r2, .int a2, .ref (adr G 64)]) hF (w_X0_lengthOf hSk a1 e1) (va_cwS 1 hts (lw_S q985 q986 q100 q987) rfl rfl rfl he_X0_lengthOf ⟨Nat.le_of_ble_eq_true rfl, Nat.le_of_ble_eq_true rfl⟩) hW hR hS rfl hl.1 rfl (Nat.le_of_ble_eq_true rfl) rfl dX0_set_2_3 ⟨rfl, rfl⟩ ⟨Nat.zero_le _, Nat.zero_le _⟩ (fun H locs hR hS => ?_)
  rcases obx11 h with ⟨ec4, e3, h⟩ | ⟨u_e3, e3, h⟩
  · refine xc_x (xr_V (ox := (.inr (ec4, sh, g, gl, gr))) (rest := []) hF (w_X0_within hSk a2 r2 e3 rfl) (cwV 2 hts (lw_V q1096 q1098 qs33 q100 q1099) rfl rfl rfl hd_X0_within ⟨Nat.le_of_ble_eq_true rfl, Nat.le_of_ble_eq_true rfl⟩) cfX0 (sk_64 hSk) hK hW hR rfl hl.1 rfl (Nat.le_of_ble_eq_true rfl) dX0_set_2_6 ⟨Nat.le_of_ble_eq_true rfl, Nat.le_of_ble_eq_true rfl⟩) hS (fun n H locs q9 ce9 hn2 hR hS hq9 hce9 hcv9 hcl9 => ?_)
    obtain rfl := s1i h
    exact x_out htb hlk (Nat.le_trans hn hn2) hR hS (Nat.le_of_ble_eq_true rfl) (Nat.le_of_ble_eq_true rfl) ho hq9 hce9 hcv9 hcl9
  refine xc_r (xr_V (ox := (.inl (none, sh, g, gl, gr))) (rest := []) hF (w_X0_within hSk a2 r2 e3 rfl) (cwV 2 hts (lw_V q1096 q1098 qs33 q100 q1099) rfl rfl rfl hd_X0_within ⟨Nat.le_of_ble_eq_true rfl, Nat.le_of_ble_eq_true rfl⟩) cfX0 (sk_64 hSk) hK hW hR rfl hl.1 rfl (Nat.le_of_ble_eq_true rfl) dX0_set_2_6 ⟨Nat.le_of_ble_eq_true rfl, Nat.le_of_ble_eq_true rfl⟩) hS (fun n H locs hn2 hR hS => ?_)
  replace hn := Nat.le_trans hn hn2
  refine W.widen (k := 0) (n := 0) (Nat.le_of_ble_eq_true rfl) (Nat.le_of_ble_eq_true rfl) ?_
  refine lv_aload_n hx hb dX0_set_2_9 rfl (lv_at hl 1 rfl) ?_
  have J70 : ∀ (g5 : GM) (gl6 : LM) (n : Nat) (H : Heap) (locs : List Loc) (ls : Array Slot), n0 ≤ n → Rep G sh g5 gl6 gr n H → va_S (own G) s.heap H locs → lv_has ls 4 [] → j_X0_set_2_70  g5 gl6 = some oo → W p l e rm_X0_set_2 s m ([.ref (adr G 64), .ref (adr G a1), .int a2, .int a3] : List Value).toArray below meth c H locs 0 0 (XQ G below n0 o ([.ref (adr G 64), .ref (adr G a1), .int a2, .int a3] : List Value).toArray s rm_X0_set_2) (F0 m 70 ls []) := by
    intro g5 gl6 n H locs ls hn hR hS hl h
    unfold j_X0_set_2_70 at h
    obtain rfl := s1i h
    exact x_vret hx hb hr hlk hn hR hS (Nat.zero_le _) (Nat.zero_le _) ho dX0_set_2_70
  obtain ⟨c7, h⟩ := ogrd h
  by_cases c8 : (sh a1).1 = 2
  · replace h := ifp h c8
    refine r_instY hx hb hown (hts _ q988) hK hR c7 ((thc_2 hW hK c7).1 (cst_arr c8)) dX0_set_2_10 ?_
    refine lv_if_eq (tgt := 27) hx hb dX0_set_2_13 (by decide) (fun cc => absurd cc (by decide)) (fun _ => ?_)
    refine lv_aload_n hx hb dX0_set_2_16 rfl (lv_at hl 1 rfl) ?_
    refine r_castY hx hb hown (hts _ q988) hK hR c7 ((thc_2 hW hK c7).1 (cst_arr c8)) dX0_set_2_17 ?_
    refine lv_iload_n hx hb dX0_set_2_20 rfl (lv_at hl 2 rfl) ?_
    refine lv_iload_n hx hb dX0_set_2_21 rfl (lv_at hl 3 rfl) ?_
    refine lv_i2b hx hb dX0_set_2_22 rfl ?_
    obtain ⟨g10, e9, h⟩ := obd h
    refine r_stb hx hb hK hR hS (shp c8) e9 dX0_set_2_23 (fun H locs hR hS => ?_)
    refine lv_goto (tgt := 70) hx hb dX0_set_2_24 (by decide) ?_
    exact J70 g10 gl _ _ _ _ hn hR hS (lv_sub hl [] rfl) h
  · replace h := ifn h c8
    refine r_instN hx hb hown (hts _ q988) hK hR c7 ((thc_2 hW hK c7).2 (cst_ne (by decide) c8)) dX0_set_2_10 ?_
    refine lv_if_eq (tgt := 27) hx hb dX0_set_2_13 (by decide) (fun _ => ?_) (fun cc => absurd rfl cc)
    refine lv_aload_n hx hb dX0_set_2_27 rfl (lv_at hl 1 rfl) ?_
    by_cases c11 : (sh a1).1 = 3
    · replace h := ifp h c11
      refine r_instY hx hb hown (hts _ q989) hK hR c7 ((thc_3 hW hK c7).1 (cst_arr c11)) dX0_set_2_28 ?_
      refine lv_if_eq (tgt := 45) hx hb dX0_set_2_31 (by decide) (fun cc => absurd cc (by decide)) (fun _ => ?_)
      refine lv_aload_n hx hb dX0_set_2_34 rfl (lv_at hl 1 rfl) ?_
      refine r_castY hx hb hown (hts _ q989) hK hR c7 ((thc_3 hW hK c7).1 (cst_arr c11)) dX0_set_2_35 ?_
      refine lv_iload_n hx hb dX0_set_2_38 rfl (lv_at hl 2 rfl) ?_
      refine lv_iload_n hx hb dX0_set_2_39 rfl (lv_at hl 3 rfl) ?_
      refine lv_i2s hx hb dX0_set_2_40 rfl ?_
      obtain ⟨g13, e12, h⟩ := obd h
      refine r_sts hx hb hK hR hS (shp c11) e12 dX0_set_2_41 (fun H locs hR hS => ?_)
      refine lv_goto (tgt := 70) hx hb dX0_set_2_42 (by decide) ?_
      exact J70 g13 gl _ _ _ _ hn hR hS (lv_sub hl [] rfl) h
    · replace h := ifn h c11
      refine r_instN hx hb hown (hts _ q989) hK hR c7 ((thc_3 hW hK c7).2 (cst_ne (by decide) c11)) dX0_set_2_28 ?_
      refine lv_if_eq (tgt := 45) hx hb dX0_set_2_31 (by decide) (fun _ => ?_) (fun cc => absurd rfl cc)
      refine lv_aload_n hx hb dX0_set_2_45 rfl (lv_at hl 1 rfl) ?_
      by_cases c14 : (sh a1).1 = 4
      · replace h := ifp h c14
        refine r_instY hx hb hown (hts _ q990) hK hR c7 ((thc_4 hW hK c7).1 (cst_arr c14)) dX0_set_2_46 ?_
        refine lv_if_eq (tgt := 63) hx hb dX0_set_2_49 (by decide) (fun cc => absurd cc (by decide)) (fun _ => ?_)
        refine lv_aload_n hx hb dX0_set_2_52 rfl (lv_at hl 1 rfl) ?_
        refine r_castY hx hb hown (hts _ q990) hK hR c7 ((thc_4 hW hK c7).1 (cst_arr c14)) dX0_set_2_53 ?_
        refine lv_iload_n hx hb dX0_set_2_56 rfl (lv_at hl 2 rfl) ?_
        refine lv_iload_n hx hb dX0_set_2_57 rfl (lv_at hl 3 rfl) ?_
        refine lv_i2l hx hb dX0_set_2_58 rfl ?_
        obtain ⟨gl16, e15, h⟩ := obd h
        refine r_stl hx hb hK hR hS (shp c14) e15 dX0_set_2_59 (fun H locs hR hS => ?_)
        refine lv_goto (tgt := 70) hx hb dX0_set_2_60 (by decide) ?_
        exact J70 g gl16 _ _ _ _ hn hR hS (lv_sub hl [] rfl) h
      · replace h := ifn h c14
        refine r_instN hx hb hown (hts _ q990) hK hR c7 ((thc_4 hW hK c7).2 (cst_ne (by decide) c14)) dX0_set_2_46 ?_
        refine lv_if_eq (tgt := 63) hx hb dX0_set_2_49 (by decide) (fun _ => ?_) (fun cc => absurd rfl cc)
        refine lv_aload_n hx hb dX0_set_2_63 rfl (lv_at hl 1 rfl) ?_
        obtain ⟨c17, h⟩ := ogrd h
        refine r_castY hx hb hown (hts _ q991) hK hR c7 ((thc_1 hW hK c7).1 (cst_arr c17)) dX0_set_2_64 ?_
        refine lv_iload_n hx hb dX0_set_2_67 rfl (lv_at hl 2 rfl) ?_
        refine lv_iload_n hx hb dX0_set_2_68 rfl (lv_at hl 3 rfl) ?_
        obtain ⟨g19, e18, h⟩ := obd h
        refine r_sti hx hb hK hR hS (shp c17) e18 dX0_set_2_69 (fun H locs hR hS => ?_)
        exact J70 g19 gl _ _ _ _ hn hR hS (lv_sub hl [] rfl) h
def rm_X0_put : Room := { frames := 5, cells := 0, slots := 0, locals := 57 }
theorem hd_X0_put : yX0_put.cls = "IntentVats" ∧ yX0_put.cls ≠ "java/lang/invoke/MethodHandle" ∧ yX0_put.cls ≠ "java/lang/invoke/VarHandle" ∧ (parseMethodDescriptor yX0_put.desc).map (fun d => d.parameters.length) = some 3 := by decide +kernel
theorem he_X0_put : yX0_put.cls ≠ "java/lang/invoke/MethodHandle" ∧ yX0_put.cls ≠ "java/lang/invoke/VarHandle" ∧ (parseMethodDescriptor yX0_put.desc).map (fun d => d.parameters.length) = some 3 := hd_X0_put.2
set_option maxHeartbeats 4000000 in
set_option maxRecDepth 100000 in
theorem w_X0_put {l : Launch} {G : Gx} {sh : SM} {g : GM} {gl : LM} {gr : RM} {n0 : Nat} (hSk : Sk sh gr) (a1 : Int32) (a2 : Int32) (a3 : Int32)  {oo : ((Int32 × GM × LM) ⊕ (Nat × GM × LM))} {o : XO} (h : f_X0_put sh g gl gr a1 a2 a3 = some oo) (ho : o = (oo.elim (fun p => .inl (some (.int p.1), sh, p.2.1, p.2.2, gr)) (fun q => .inr (q.1, sh, q.2.1, q.2.2, gr)))) : MetX l G yX0_put (wsW_ yX0_put cX0_put 5 (Option.some Jvm.ClassFile.FieldType.int) [(9, 29, 30, 94), (9, 29, 35, 87)]) rm_X0_put [.ref (adr G 64), .int a1, .int a2, .int a3] sh g gl gr n0 o := by
  refine MetX.ofW (by decide) (Nat.le_of_ble_eq_true rfl) ?_
  intro p e s m below meth c ls hx hb hr hml hown hts hlk htb hW hK hR hS hl
  have hn : n0 ≤ n0 := Nat.le_refl _
  have hown : s.vm.findClass RX0 = some m.cls := hown
  have hF : CallFix p m c cX0_put 5 s ([.ref (adr G 64), .int a1, .int a2, .int a3] : List Value).toArray lw_all RX0 := ⟨hx, hb, hml, hown, hts⟩
  have hl : lv_has ls 5 [(0, .ref (adr G 64)), (1, .int a1), (2, .int a2), (3, .int a3)] := hl
  unfold f_X0_put at h
  refine lv_iload_n hx hb dX0_put_0 rfl (lv_at hl 1 rfl) ?_
  obtain ⟨r2, e1, h⟩ := obd h
  refine rc_S0 (rest := []) (st1 := [.int r2]) hF (w_X0_isSheet hSk a1 e1) (va_cwS 1 hts (lw_S q966 q967 q100 q968) rfl rfl rfl he_X0_isSheet ⟨Nat.le_of_ble_eq_true rfl, Nat.le_of_ble_eq_true rfl⟩) hW hR hS rfl hl.1 rfl (Nat.le_of_ble_eq_true rfl) rfl dX0_put_1 ⟨rfl, rfl⟩ ⟨Nat.zero_le _, Nat.zero_le _⟩ (fun H locs hR hS => ?_)
  refine lv_if_ne (tgt := 9) hx hb dX0_put_4 (by decide) (fun c3 => ?_) (fun c3 => ?_)
  · replace h := ifn h c3
    refine lv_aload_n hx hb dX0_put_9 rfl (lv_at hl 0 rfl) ?_
    refine lv_aload_n hx hb dX0_put_10 rfl (lv_at hl 0 rfl) ?_
    refine lv_aload_n hx hb dX0_put_11 rfl (lv_at hl 0 rfl) ?_
    refine r_getr hx hb hts cfX0 hown hK hR (sk_64 hSk) 12 (by decide) rfl (sr_64_12 hSk) (hts _ q461) (fun _ h => h) dX0_put_12 ?_
    refine lv_iload_n hx hb dX0_put_15 rfl (lv_at hl 1 rfl) ?_
    obtain ⟨j5, e4, h⟩ := obd h
    have qj5 := (chk_s e4).2.2
    refine r_ldr hx hb hK hR (sk_115 hSk) (by decide) (by decide) 7 rfl e4 (sra_115 hSk qj5) dX0_put_16 ?_
    obtain ⟨r7, e6, h⟩ := obd h
    refine rc_V0 (rest := [.ref (adr G 64), .ref (adr G 64)]) (st1 := [va_rf (Option.map (adr G) r7), .ref (adr G 64), .ref (adr G 64)]) hF (w_X10_row hSk (116 + j5) e6) (cwV 0 hts (lw_V q969 q970 q971 q113 q972) rfl rfl rfl hd_X10_row ⟨Nat.le_of_ble_eq_true rfl, Nat.le_of_ble_eq_true rfl⟩) cfX10 (shs_115 hSk qj5) hK hW hR hS rfl hl.1 rfl (Nat.le_of_ble_eq_true rfl) rfl dX0_put_17 ⟨rfl, rfl⟩ ⟨Nat.zero_le _, Nat.zero_le _⟩ (fun H locs hR hS => ?_)
    rcases obx11 h with ⟨ec10, e8, h⟩ | ⟨r9, e8, h⟩
    · refine xc_x (xr_V (ox := (.inr (ec10, sh, g, gl, gr))) (rest := [.ref (adr G 64)]) hF (w_X0_there hSk r7 e8 rfl) (cwV 1 hts (lw_V q973 q975 qs26 q100 q976) rfl rfl rfl hd_X0_there ⟨Nat.le_of_ble_eq_true rfl, Nat.le_of_ble_eq_true rfl⟩) cfX0 (sk_64 hSk) hK hW hR rfl hl.1 rfl (Nat.le_of_ble_eq_true rfl) dX0_put_20 ⟨Nat.le_of_ble_eq_true rfl, Nat.le_of_ble_eq_true rfl⟩) hS (fun n H locs q9 ce9 hn2 hR hS hq9 hce9 hcv9 hcl9 => ?_)
      replace hn := Nat.le_trans hn hn2
      by_cases c12 : ec10 = 12
      · replace h := ifp h c12
        subst c12
        obtain rfl := hq9 121 rfl
        refine vx_catch (E := "IntentVats$Nothing") (name := "IntentVats$Nothing") hown [] ⟨9, 29, 30, 94⟩ [⟨9, 29, 35, 87⟩] (htb.trans rfl) (fun _ hz => nomatch hz) rfl (by decide) (hts _ q416) (hW.cab q418) hce9 hcv9 hcl9 ?_
        refine lv_astore (lv' := [(4, .ref (adr G 121)), (0, .ref (adr G 64)), (1, .int a1), (2, .int a2), (3, .int a3)]) hx hb dX0_put_30 hl (by decide) rfl (fun ls hl => ?_)
        refine lv_bipush (v := (-11)) hx hb dX0_put_32 kb_m11 ?_
        obtain rfl := s1i h
        exact x_iret hx hb hr hlk hn hR hS (Nat.zero_le _) (Nat.zero_le _) ho dX0_put_34
      · replace h := ifn h c12
        by_cases c11 : ec10 = 11
        · replace h := ifp h c11
          subst c11
          obtain rfl := hq9 120 rfl
          refine vx_catch (E := "IntentVats$Beyond") (name := "IntentVats$Beyond") hown [⟨9, 29, 30, 94⟩] ⟨9, 29, 35, 87⟩ [] (htb.trans rfl) (List.forall_mem_cons.mpr ⟨Or.inr ⟨by decide, "IntentVats$Nothing", hts _ q416, hW.nas [true, true, true, true, false, false, true, true, true] rfl⟩, (fun _ hz => nomatch hz)⟩) rfl (by decide) (hts _ q401) (hW.cab q403) hce9 hcv9 hcl9 ?_
          refine lv_astore (lv' := [(4, .ref (adr G 120)), (0, .ref (adr G 64)), (1, .int a1), (2, .int a2), (3, .int a3)]) hx hb dX0_put_35 hl (by decide) rfl (fun ls hl => ?_)
          refine lv_bipush (v := (-12)) hx hb dX0_put_37 kb_m12 ?_
          obtain rfl := s1i h
          exact x_iret hx hb hr hlk hn hR hS (Nat.zero_le _) (Nat.zero_le _) ho dX0_put_39
        · replace h := ifn h c11
          cases h
    refine xc_r (xr_V (ox := (.inl (some (.ref (adr G r9)), sh, g, gl, gr))) (rest := [.ref (adr G 64)]) hF (w_X0_there hSk r7 e8 rfl) (cwV 1 hts (lw_V q973 q975 qs26 q100 q976) rfl rfl rfl hd_X0_there ⟨Nat.le_of_ble_eq_true rfl, Nat.le_of_ble_eq_true rfl⟩) cfX0 (sk_64 hSk) hK hW hR rfl hl.1 rfl (Nat.le_of_ble_eq_true rfl) dX0_put_20 ⟨Nat.le_of_ble_eq_true rfl, Nat.le_of_ble_eq_true rfl⟩) hS (fun n H locs hn2 hR hS => ?_)
    replace hn := Nat.le_trans hn hn2
    refine W.widen (k := 0) (n := 0) (Nat.le_of_ble_eq_true rfl) (Nat.le_of_ble_eq_true rfl) ?_
    refine lv_iload_n hx hb dX0_put_23 rfl (lv_at hl 2 rfl) ?_
    refine lv_iload_n hx hb dX0_put_24 rfl (lv_at hl 3 rfl) ?_
    rcases obx23 h with ⟨ec14, g16, gl18, e13, h⟩ | ⟨g15, gl17, e13, h⟩
    · refine xc_x (xr_V (ox := (.inr (ec14, sh, g16, gl18, gr))) (rest := []) hF (w_X0_set_2 hSk r9 a2 a3 e13 rfl) (cwV 3 hts (lw_V q1128 q1130 qs34 q100 q1131) rfl rfl rfl hd_X0_set_2 ⟨Nat.le_of_ble_eq_true rfl, Nat.le_of_ble_eq_true rfl⟩) cfX0 (sk_64 hSk) hK hW hR rfl hl.1 rfl (Nat.le_of_ble_eq_true rfl) dX0_put_25 ⟨Nat.le_of_ble_eq_true rfl, Nat.le_of_ble_eq_true rfl⟩) hS (fun n H locs q9 ce9 hn2 hR hS hq9 hce9 hcv9 hcl9 => ?_)
      replace hn := Nat.le_trans hn hn2
      by_cases c20 : ec14 = 12
      · replace h := ifp h c20
        subst c20
        obtain rfl := hq9 121 rfl
        refine vx_catch (E := "IntentVats$Nothing") (name := "IntentVats$Nothing") hown [] ⟨9, 29, 30, 94⟩ [⟨9, 29, 35, 87⟩] (htb.trans rfl) (fun _ hz => nomatch hz) rfl (by decide) (hts _ q416) (hW.cab q418) hce9 hcv9 hcl9 ?_
        refine lv_astore (lv' := [(4, .ref (adr G 121)), (0, .ref (adr G 64)), (1, .int a1), (2, .int a2), (3, .int a3)]) hx hb dX0_put_30 hl (by decide) rfl (fun ls hl => ?_)
        refine lv_bipush (v := (-11)) hx hb dX0_put_32 kb_m11 ?_
        obtain rfl := s1i h
        exact x_iret hx hb hr hlk hn hR hS (Nat.zero_le _) (Nat.zero_le _) ho dX0_put_34
      · replace h := ifn h c20
        by_cases c19 : ec14 = 11
        · replace h := ifp h c19
          subst c19
          obtain rfl := hq9 120 rfl
          refine vx_catch (E := "IntentVats$Beyond") (name := "IntentVats$Beyond") hown [⟨9, 29, 30, 94⟩] ⟨9, 29, 35, 87⟩ [] (htb.trans rfl) (List.forall_mem_cons.mpr ⟨Or.inr ⟨by decide, "IntentVats$Nothing", hts _ q416, hW.nas [true, true, true, true, false, false, true, true, true] rfl⟩, (fun _ hz => nomatch hz)⟩) rfl (by decide) (hts _ q401) (hW.cab q403) hce9 hcv9 hcl9 ?_
          refine lv_astore (lv' := [(4, .ref (adr G 120)), (0, .ref (adr G 64)), (1, .int a1), (2, .int a2), (3, .int a3)]) hx hb dX0_put_35 hl (by decide) rfl (fun ls hl => ?_)
          refine lv_bipush (v := (-12)) hx hb dX0_put_37 kb_m12 ?_
          obtain rfl := s1i h
          exact x_iret hx hb hr hlk hn hR hS (Nat.zero_le _) (Nat.zero_le _) ho dX0_put_39
        · replace h := ifn h c19
          cases h
    refine xc_r (xr_V (ox := (.inl (none, sh, g15, gl17, gr))) (rest := []) hF (w_X0_set_2 hSk r9 a2 a3 e13 rfl) (cwV 3 hts (lw_V q1128 q1130 qs34 q100 q1131) rfl rfl rfl hd_X0_set_2 ⟨Nat.le_of_ble_eq_true rfl, Nat.le_of_ble_eq_true rfl⟩) cfX0 (sk_64 hSk) hK hW hR rfl hl.1 rfl (Nat.le_of_ble_eq_true rfl) dX0_put_25 ⟨Nat.le_of_ble_eq_true rfl, Nat.le_of_ble_eq_true rfl⟩) hS (fun n H locs hn2 hR hS => ?_)
    replace hn := Nat.le_trans hn hn2
    refine W.widen (k := 0) (n := 0) (Nat.le_of_ble_eq_true rfl) (Nat.le_of_ble_eq_true rfl) ?_
    refine lv_iconst (v := 1) hx hb dX0_put_28 ki_1 ?_
    obtain rfl := s1i h
    exact x_iret hx hb hr hlk hn hR hS (Nat.zero_le _) (Nat.zero_le _) ho dX0_put_29
  · replace h := ifp h c3
    refine lv_iconst (v := (-1)) hx hb dX0_put_7 ki_m1 ?_
    obtain rfl := s1i h
    exact x_iret hx hb hr hlk hn hR hS (Nat.zero_le _) (Nat.zero_le _) ho dX0_put_8
def rm_X0_byteAt : Room := { frames := 4, cells := 0, slots := 0, locals := 34 }
theorem hd_X0_byteAt : yX0_byteAt.cls = "IntentVats" ∧ yX0_byteAt.cls ≠ "java/lang/invoke/MethodHandle" ∧ yX0_byteAt.cls ≠ "java/lang/invoke/VarHandle" ∧ (parseMethodDescriptor yX0_byteAt.desc).map (fun d => d.parameters.length) = some 2 := by decide +kernel
theorem he_X0_byteAt : yX0_byteAt.cls ≠ "java/lang/invoke/MethodHandle" ∧ yX0_byteAt.cls ≠ "java/lang/invoke/VarHandle" ∧ (parseMethodDescriptor yX0_byteAt.desc).map (fun d => d.parameters.length) = some 2 := hd_X0_byteAt.2
set_option maxHeartbeats 4000000 in
set_option maxRecDepth 100000 in
theorem w_X0_byteAt {l : Launch} {G : Gx} {sh : SM} {g : GM} {gl : LM} {gr : RM} {n0 : Nat} (hSk : Sk sh gr) (a1 : Nat) (La1 : Nat) (a2 : Int32) (hs_a1 : sh a1 = (2, La1)) {oo : (Int32 ⊕ Nat)} {o : XO} (h : f_X0_byteAt g a1 La1 a2 = some oo) (ho : o = (oo.elim (fun p => .inl (some (.int p), sh, g, gl, gr)) (fun q => .inr (q, sh, g, gl, gr)))) : MetX l G yX0_byteAt (ws_ yX0_byteAt cX0_byteAt 3 (Option.some Jvm.ClassFile.FieldType.int)) rm_X0_byteAt [.ref (adr G 64), .ref (adr G a1), .int a2] sh g gl gr n0 o := by
  refine MetX.of (by decide) (Nat.le_of_ble_eq_true rfl) ?_
  intro p e s m below meth c ls hx hb hr hml hown hts hlk htb hW hK hR hS hl
  have hn : n0 ≤ n0 := Nat.le_refl _
  have hown : s.vm.findClass RX0 = some m.cls := hown
  have hF : CallFix p m c cX0_byteAt 3 s ([.ref (adr G 64), .ref (adr G a1), .int a2] : List Value).toArray lw_all RX0 := ⟨hx, hb, hml, hown, hts⟩
  have hl : lv_has ls 3 [(0, .ref (adr G 64)), (1, .ref (adr G a1)), (2, .int a2)] := hl
  unfold f_X0_byteAt at h
  refine lv_aload_n hx hb dX0_byteAt_0 rfl (lv_at hl 0 rfl) ?_
  refine lv_iload_n hx hb dX0_byteAt_1 rfl (lv_at hl 2 rfl) ?_
  refine lv_aload_n hx hb dX0_byteAt_2 rfl (lv_at hl 1 rfl) ?_
  refine r_alen hx hb hK hR hs_a1 (by decide) (by decide) 1 rfl dX0_byteAt_3 ?_
  rcases obx11 h with ⟨ec2, e1, h⟩ | ⟨u_e1, e1, h⟩
  · refine xc_x (xr_V (ox := (.inr (ec2, sh, g, gl, gr))) (rest := []) hF (w_X0_within hSk a2 (nI La1) e1 rfl) (cwV 2 hts (lw_V q1096 q1098 qs33 q100 q1099) rfl rfl rfl hd_X0_within ⟨Nat.le_of_ble_eq_true rfl, Nat.le_of_ble_eq_true rfl⟩) cfX0 (sk_64 hSk) hK hW hR rfl hl.1 rfl (Nat.le_of_ble_eq_true rfl) dX0_byteAt_4 ⟨Nat.le_of_ble_eq_true rfl, Nat.le_of_ble_eq_true rfl⟩) hS (fun n H locs q9 ce9 hn2 hR hS hq9 hce9 hcv9 hcl9 => ?_)
    obtain rfl := s1i h
    exact x_out htb hlk (Nat.le_trans hn hn2) hR hS (Nat.le_of_ble_eq_true rfl) (Nat.le_of_ble_eq_true rfl) ho hq9 hce9 hcv9 hcl9
  refine xc_r (xr_V (ox := (.inl (none, sh, g, gl, gr))) (rest := []) hF (w_X0_within hSk a2 (nI La1) e1 rfl) (cwV 2 hts (lw_V q1096 q1098 qs33 q100 q1099) rfl rfl rfl hd_X0_within ⟨Nat.le_of_ble_eq_true rfl, Nat.le_of_ble_eq_true rfl⟩) cfX0 (sk_64 hSk) hK hW hR rfl hl.1 rfl (Nat.le_of_ble_eq_true rfl) dX0_byteAt_4 ⟨Nat.le_of_ble_eq_true rfl, Nat.le_of_ble_eq_true rfl⟩) hS (fun n H locs hn2 hR hS => ?_)
  replace hn := Nat.le_trans hn hn2
  refine W.widen (k := 0) (n := 0) (Nat.le_of_ble_eq_true rfl) (Nat.le_of_ble_eq_true rfl) ?_
  refine lv_aload_n hx hb dX0_byteAt_7 rfl (lv_at hl 1 rfl) ?_
  refine lv_iload_n hx hb dX0_byteAt_8 rfl (lv_at hl 2 rfl) ?_
  obtain ⟨v4, e3, h⟩ := obd h
  refine r_ldb hx hb hK hR hs_a1 e3 dX0_byteAt_9 ?_
  obtain rfl := s1i h
  exact x_iret hx hb hr hlk hn hR hS (Nat.zero_le _) (Nat.zero_le _) ho dX0_byteAt_10
def rm_X0_shortAt : Room := { frames := 4, cells := 0, slots := 0, locals := 34 }
theorem hd_X0_shortAt : yX0_shortAt.cls = "IntentVats" ∧ yX0_shortAt.cls ≠ "java/lang/invoke/MethodHandle" ∧ yX0_shortAt.cls ≠ "java/lang/invoke/VarHandle" ∧ (parseMethodDescriptor yX0_shortAt.desc).map (fun d => d.parameters.length) = some 2 := by decide +kernel
theorem he_X0_shortAt : yX0_shortAt.cls ≠ "java/lang/invoke/MethodHandle" ∧ yX0_shortAt.cls ≠ "java/lang/invoke/VarHandle" ∧ (parseMethodDescriptor yX0_shortAt.desc).map (fun d => d.parameters.length) = some 2 := hd_X0_shortAt.2
set_option maxHeartbeats 4000000 in
set_option maxRecDepth 100000 in
theorem w_X0_shortAt {l : Launch} {G : Gx} {sh : SM} {g : GM} {gl : LM} {gr : RM} {n0 : Nat} (hSk : Sk sh gr) (a1 : Nat) (La1 : Nat) (a2 : Int32) (hs_a1 : sh a1 = (3, La1)) {oo : (Int32 ⊕ Nat)} {o : XO} (h : f_X0_shortAt g a1 La1 a2 = some oo) (ho : o = (oo.elim (fun p => .inl (some (.int p), sh, g, gl, gr)) (fun q => .inr (q, sh, g, gl, gr)))) : MetX l G yX0_shortAt (ws_ yX0_shortAt cX0_shortAt 3 (Option.some Jvm.ClassFile.FieldType.int)) rm_X0_shortAt [.ref (adr G 64), .ref (adr G a1), .int a2] sh g gl gr n0 o := by
  refine MetX.of (by decide) (Nat.le_of_ble_eq_true rfl) ?_
  intro p e s m below meth c ls hx hb hr hml hown hts hlk htb hW hK hR hS hl
  have hn : n0 ≤ n0 := Nat.le_refl _
  have hown : s.vm.findClass RX0 = some m.cls := hown
  have hF : CallFix p m c cX0_shortAt 3 s ([.ref (adr G 64), .ref (adr G a1), .int a2] : List Value).toArray lw_all RX0 := ⟨hx, hb, hml, hown, hts⟩
  have hl : lv_has ls 3 [(0, .ref (adr G 64)), (1, .ref (adr G a1)), (2, .int a2)] := hl
  unfold f_X0_shortAt at h
  refine lv_aload_n hx hb dX0_shortAt_0 rfl (lv_at hl 0 rfl) ?_
  refine lv_iload_n hx hb dX0_shortAt_1 rfl (lv_at hl 2 rfl) ?_
  refine lv_aload_n hx hb dX0_shortAt_2 rfl (lv_at hl 1 rfl) ?_
  refine r_alen hx hb hK hR hs_a1 (by decide) (by decide) 2 rfl dX0_shortAt_3 ?_
  rcases obx11 h with ⟨ec2, e1, h⟩ | ⟨u_e1, e1, h⟩
  · refine xc_x (xr_V (ox := (.inr (ec2, sh, g, gl, gr))) (rest := []) hF (w_X0_within hSk a2 (nI La1) e1 rfl) (cwV 2 hts (lw_V q1096 q1098 qs33 q100 q1099) rfl rfl rfl hd_X0_within ⟨Nat.le_of_ble_eq_true rfl, Nat.le_of_ble_eq_true rfl⟩) cfX0 (sk_64 hSk) hK hW hR rfl hl.1 rfl (Nat.le_of_ble_eq_true rfl) dX0_shortAt_4 ⟨Nat.le_of_ble_eq_true rfl, Nat.le_of_ble_eq_true rfl⟩) hS (fun n H locs q9 ce9 hn2 hR hS hq9 hce9 hcv9 hcl9 => ?_)
    obtain rfl := s1i h
    exact x_out htb hlk (Nat.le_trans hn hn2) hR hS (Nat.le_of_ble_eq_true rfl) (Nat.le_of_ble_eq_true rfl) ho hq9 hce9 hcv9 hcl9
  refine xc_r (xr_V (ox := (.inl (none, sh, g, gl, gr))) (rest := []) hF (w_X0_within hSk a2 (nI La1) e1 rfl) (cwV 2 hts (lw_V q1096 q1098 qs33 q100 q1099) rfl rfl rfl hd_X0_within ⟨Nat.le_of_ble_eq_true rfl, Nat.le_of_ble_eq_true rfl⟩) cfX0 (sk_64 hSk) hK hW hR rfl hl.1 rfl (Nat.le_of_ble_eq_true rfl) dX0_shortAt_4 ⟨Nat.le_of_ble_eq_true rfl, Nat.le_of_ble_eq_true rfl⟩) hS (fun n H locs hn2 hR hS => ?_)
  replace hn := Nat.le_trans hn hn2
  refine W.widen (k := 0) (n := 0) (Nat.le_of_ble_eq_true rfl) (Nat.le_of_ble_eq_true rfl) ?_
  refine lv_aload_n hx hb dX0_shortAt_7 rfl (lv_at hl 1 rfl) ?_
  refine lv_iload_n hx hb dX0_shortAt_8 rfl (lv_at hl 2 rfl) ?_
  obtain ⟨v4, e3, h⟩ := obd h
  refine r_lds hx hb hK hR hs_a1 e3 dX0_shortAt_9 ?_
  obtain rfl := s1i h
  exact x_iret hx hb hr hlk hn hR hS (Nat.zero_le _) (Nat.zero_le _) ho dX0_shortAt_10
def rm_X0_intAt : Room := { frames := 4, cells := 0, slots := 0, locals := 34 }
theorem hd_X0_intAt : yX0_intAt.cls = "IntentVats" ∧ yX0_intAt.cls ≠ "java/lang/invoke/MethodHandle" ∧ yX0_intAt.cls ≠ "java/lang/invoke/VarHandle" ∧ (parseMethodDescriptor yX0_intAt.desc).map (fun d => d.parameters.length) = some 2 := by decide +kernel
theorem he_X0_intAt : yX0_intAt.cls ≠ "java/lang/invoke/MethodHandle" ∧ yX0_intAt.cls ≠ "java/lang/invoke/VarHandle" ∧ (parseMethodDescriptor yX0_intAt.desc).map (fun d => d.parameters.length) = some 2 := hd_X0_intAt.2
set_option maxHeartbeats 4000000 in
set_option maxRecDepth 100000 in
theorem w_X0_intAt {l : Launch} {G : Gx} {sh : SM} {g : GM} {gl : LM} {gr : RM} {n0 : Nat} (hSk : Sk sh gr) (a1 : Nat) (La1 : Nat) (a2 : Int32) (hs_a1 : sh a1 = (1, La1)) {oo : (Int32 ⊕ Nat)} {o : XO} (h : f_X0_intAt g a1 La1 a2 = some oo) (ho : o = (oo.elim (fun p => .inl (some (.int p), sh, g, gl, gr)) (fun q => .inr (q, sh, g, gl, gr)))) : MetX l G yX0_intAt (ws_ yX0_intAt cX0_intAt 3 (Option.some Jvm.ClassFile.FieldType.int)) rm_X0_intAt [.ref (adr G 64), .ref (adr G a1), .int a2] sh g gl gr n0 o := by
  refine MetX.of (by decide) (Nat.le_of_ble_eq_true rfl) ?_
  intro p e s m below meth c ls hx hb hr hml hown hts hlk htb hW hK hR hS hl
  have hn : n0 ≤ n0 := Nat.le_refl _
  have hown : s.vm.findClass RX0 = some m.cls := hown
  have hF : CallFix p m c cX0_intAt 3 s ([.ref (adr G 64), .ref (adr G a1), .int a2] : List Value).toArray lw_all RX0 := ⟨hx, hb, hml, hown, hts⟩
  have hl : lv_has ls 3 [(0, .ref (adr G 64)), (1, .ref (adr G a1)), (2, .int a2)] := hl
  unfold f_X0_intAt at h
  refine lv_aload_n hx hb dX0_intAt_0 rfl (lv_at hl 0 rfl) ?_
  refine lv_iload_n hx hb dX0_intAt_1 rfl (lv_at hl 2 rfl) ?_
  refine lv_aload_n hx hb dX0_intAt_2 rfl (lv_at hl 1 rfl) ?_
  refine r_alen hx hb hK hR hs_a1 (by decide) (by decide) 0 rfl dX0_intAt_3 ?_
  rcases obx11 h with ⟨ec2, e1, h⟩ | ⟨u_e1, e1, h⟩
  · refine xc_x (xr_V (ox := (.inr (ec2, sh, g, gl, gr))) (rest := []) hF (w_X0_within hSk a2 (nI La1) e1 rfl) (cwV 2 hts (lw_V q1096 q1098 qs33 q100 q1099) rfl rfl rfl hd_X0_within ⟨Nat.le_of_ble_eq_true rfl, Nat.le_of_ble_eq_true rfl⟩) cfX0 (sk_64 hSk) hK hW hR rfl hl.1 rfl (Nat.le_of_ble_eq_true rfl) dX0_intAt_4 ⟨Nat.le_of_ble_eq_true rfl, Nat.le_of_ble_eq_true rfl⟩) hS (fun n H locs q9 ce9 hn2 hR hS hq9 hce9 hcv9 hcl9 => ?_)
    obtain rfl := s1i h
    exact x_out htb hlk (Nat.le_trans hn hn2) hR hS (Nat.le_of_ble_eq_true rfl) (Nat.le_of_ble_eq_true rfl) ho hq9 hce9 hcv9 hcl9
  refine xc_r (xr_V (ox := (.inl (none, sh, g, gl, gr))) (rest := []) hF (w_X0_within hSk a2 (nI La1) e1 rfl) (cwV 2 hts (lw_V q1096 q1098 qs33 q100 q1099) rfl rfl rfl hd_X0_within ⟨Nat.le_of_ble_eq_true rfl, Nat.le_of_ble_eq_true rfl⟩) cfX0 (sk_64 hSk) hK hW hR rfl hl.1 rfl (Nat.le_of_ble_eq_true rfl) dX0_intAt_4 ⟨Nat.le_of_ble_eq_true rfl, Nat.le_of_ble_eq_true rfl⟩) hS (fun n H locs hn2 hR hS => ?_)
  replace hn := Nat.le_trans hn hn2
  refine W.widen (k := 0) (n := 0) (Nat.le_of_ble_eq_true rfl) (Nat.le_of_ble_eq_true rfl) ?_
  refine lv_aload_n hx hb dX0_intAt_7 rfl (lv_at hl 1 rfl) ?_
  refine lv_iload_n hx hb dX0_intAt_8 rfl (lv_at hl 2 rfl) ?_
  obtain ⟨v4, e3, h⟩ := obd h
  refine r_ldi hx hb hK hR hs_a1 e3 dX0_intAt_9 ?_
  obtain rfl := s1i h
  exact x_iret hx hb hr hlk hn hR hS (Nat.zero_le _) (Nat.zero_le _) ho dX0_intAt_10
def rm_X0_longAt : Room := { frames := 4, cells := 0, slots := 0, locals := 34 }
theorem hd_X0_longAt : yX0_longAt.cls = "IntentVats" ∧ yX0_longAt.cls ≠ "java/lang/invoke/MethodHandle" ∧ yX0_longAt.cls ≠ "java/lang/invoke/VarHandle" ∧ (parseMethodDescriptor yX0_longAt.desc).map (fun d => d.parameters.length) = some 2 := by decide +kernel
theorem he_X0_longAt : yX0_longAt.cls ≠ "java/lang/invoke/MethodHandle" ∧ yX0_longAt.cls ≠ "java/lang/invoke/VarHandle" ∧ (parseMethodDescriptor yX0_longAt.desc).map (fun d => d.parameters.length) = some 2 := hd_X0_longAt.2
set_option maxHeartbeats 4000000 in
set_option maxRecDepth 100000 in
theorem w_X0_longAt {l : Launch} {G : Gx} {sh : SM} {g : GM} {gl : LM} {gr : RM} {n0 : Nat} (hSk : Sk sh gr) (a1 : Nat) (La1 : Nat) (a2 : Int32) (hs_a1 : sh a1 = (4, La1)) {oo : (Int32 ⊕ Nat)} {o : XO} (h : f_X0_longAt gl a1 La1 a2 = some oo) (ho : o = (oo.elim (fun p => .inl (some (.int p), sh, g, gl, gr)) (fun q => .inr (q, sh, g, gl, gr)))) : MetX l G yX0_longAt (ws_ yX0_longAt cX0_longAt 3 (Option.some Jvm.ClassFile.FieldType.int)) rm_X0_longAt [.ref (adr G 64), .ref (adr G a1), .int a2] sh g gl gr n0 o := by
  refine MetX.of (by decide) (Nat.le_of_ble_eq_true rfl) ?_
  intro p e s m below meth c ls hx hb hr hml hown hts hlk htb hW hK hR hS hl
  have hn : n0 ≤ n0 := Nat.le_refl _
  have hown : s.vm.findClass RX0 = some m.cls := hown
  have hF : CallFix p m c cX0_longAt 3 s ([.ref (adr G 64), .ref (adr G a1), .int a2] : List Value).toArray lw_all RX0 := ⟨hx, hb, hml, hown, hts⟩
  have hl : lv_has ls 3 [(0, .ref (adr G 64)), (1, .ref (adr G a1)), (2, .int a2)] := hl
  unfold f_X0_longAt at h
  refine lv_aload_n hx hb dX0_longAt_0 rfl (lv_at hl 0 rfl) ?_
  refine lv_iload_n hx hb dX0_longAt_1 rfl (lv_at hl 2 rfl) ?_
  refine lv_aload_n hx hb dX0_longAt_2 rfl (lv_at hl 1 rfl) ?_
  refine r_alen hx hb hK hR hs_a1 (by decide) (by decide) 3 rfl dX0_longAt_3 ?_
  rcases obx11 h with ⟨ec2, e1, h⟩ | ⟨u_e1, e1, h⟩
  · refine xc_x (xr_V (ox := (.inr (ec2, sh, g, gl, gr))) (rest := []) hF (w_X0_within hSk a2 (nI La1) e1 rfl) (cwV 2 hts (lw_V q1096 q1098 qs33 q100 q1099) rfl rfl rfl hd_X0_within ⟨Nat.le_of_ble_eq_true rfl, Nat.le_of_ble_eq_true rfl⟩) cfX0 (sk_64 hSk) hK hW hR rfl hl.1 rfl (Nat.le_of_ble_eq_true rfl) dX0_longAt_4 ⟨Nat.le_of_ble_eq_true rfl, Nat.le_of_ble_eq_true rfl⟩) hS (fun n H locs q9 ce9 hn2 hR hS hq9 hce9 hcv9 hcl9 => ?_)
    obtain rfl := s1i h
    exact x_out htb hlk (Nat.le_trans hn hn2) hR hS (Nat.le_of_ble_eq_true rfl) (Nat.le_of_ble_eq_true rfl) ho hq9 hce9 hcv9 hcl9
  refine xc_r (xr_V (ox := (.inl (none, sh, g, gl, gr))) (rest := []) hF (w_X0_within hSk a2 (nI La1) e1 rfl) (cwV 2 hts (lw_V q1096 q1098 qs33 q100 q1099) rfl rfl rfl hd_X0_within ⟨Nat.le_of_ble_eq_true rfl, Nat.le_of_ble_eq_true rfl⟩) cfX0 (sk_64 hSk) hK hW hR rfl hl.1 rfl (Nat.le_of_ble_eq_true rfl) dX0_longAt_4 ⟨Nat.le_of_ble_eq_true rfl, Nat.le_of_ble_eq_true rfl⟩) hS (fun n H locs hn2 hR hS => ?_)
  replace hn := Nat.le_trans hn hn2
  refine W.widen (k := 0) (n := 0) (Nat.le_of_ble_eq_true rfl) (Nat.le_of_ble_eq_true rfl) ?_
  refine lv_aload_n hx hb dX0_longAt_7 rfl (lv_at hl 1 rfl) ?_
  refine lv_iload_n hx hb dX0_longAt_8 rfl (lv_at hl 2 rfl) ?_
  obtain ⟨v4, e3, h⟩ := obd h
  refine r_ldl hx hb hK hR hs_a1 e3 dX0_longAt_9 ?_
  refine lv_l2i hx hb dX0_longAt_10 rfl ?_
  obtain rfl := s1i h
  exact x_iret hx hb hr hlk hn hR hS (Nat.zero_le _) (Nat.zero_le _) ho dX0_longAt_11
def rm_X0_itemOf : Room := { frames := 20, cells := 3, slots := 1010, locals := 10600 }
theorem hd_X0_itemOf : yX0_itemOf.cls = "IntentVats" ∧ yX0_itemOf.cls ≠ "java/lang/invoke/MethodHandle" ∧ yX0_itemOf.cls ≠ "java/lang/invoke/VarHandle" ∧ (parseMethodDescriptor yX0_itemOf.desc).map (fun d => d.parameters.length) = some 3 := by decide +kernel
theorem he_X0_itemOf : yX0_itemOf.cls ≠ "java/lang/invoke/MethodHandle" ∧ yX0_itemOf.cls ≠ "java/lang/invoke/VarHandle" ∧ (parseMethodDescriptor yX0_itemOf.desc).map (fun d => d.parameters.length) = some 3 := hd_X0_itemOf.2
set_option maxHeartbeats 4000000 in
set_option maxRecDepth 100000 in
theorem w_X0_itemOf {l : Launch} {G : Gx} {sh : SM} {g : GM} {gl : LM} {gr : RM} {n0 : Nat} (hSk : Sk sh gr) (a1 : Nat) (a2 : Int32) (a3 : Int32)  {oo : (Int32 ⊕ Nat)} {o : XO} (h : f_X0_itemOf sh g gl a1 a2 a3 = some oo) (ho : o = (oo.elim (fun p => .inl (some (.int p), sh, g, gl, gr)) (fun q => .inr (q, sh, g, gl, gr)))) : MetX l G yX0_itemOf (ws_ yX0_itemOf cX0_itemOf 4 (Option.some Jvm.ClassFile.FieldType.int)) rm_X0_itemOf [.ref (adr G 64), .ref (adr G a1), .int a2, .int a3] sh g gl gr n0 o := by
  refine MetX.of (by decide) (Nat.le_of_ble_eq_true rfl) ?_
  intro p e s m below meth c ls hx hb hr hml hown hts hlk htb hW hK hR hS hl
  have hn : n0 ≤ n0 := Nat.le_refl _
  have hown : s.vm.findClass RX0 = some m.cls := hown
  have hF : CallFix p m c cX0_itemOf 4 s ([.ref (adr G 64), .ref (adr G a1), .int a2, .int a3] : List Value).toArray lw_all RX0 := ⟨hx, hb, hml, hown, hts⟩
  have hl : lv_has ls 4 [(0, .ref (adr G 64)), (1, .ref (adr G a1)), (2, .int a2), (3, .int a3)] := hl
  unfold f_X0_itemOf at h
  refine lv_iload_n hx hb dX0_itemOf_0 rfl (lv_at hl 2 rfl) ?_
  by_cases c1 : a2 = 0
  · replace h := ifp h c1
    refine lv_tableIn (off := 27) (tgt := 28) hx hb dX0_itemOf_1 (by rw [c1]; decide) (by rw [c1]; decide) (by rw [c1]; decide) (by decide) ?_
    refine lv_aload_n hx hb dX0_itemOf_28 rfl (lv_at hl 0 rfl) ?_
    refine lv_aload_n hx hb dX0_itemOf_29 rfl (lv_at hl 1 rfl) ?_
    obtain ⟨c2, h⟩ := ogrd h
    by_cases c3 : (sh a1).1 = 2
    · replace h := ifp h c3
      refine r_castY hx hb hown (hts _ q988) hK hR c2 ((thc_2 hW hK c2).1 (cst_arr c3)) dX0_itemOf_30 ?_
      refine lv_iload_n hx hb dX0_itemOf_33 rfl (lv_at hl 3 rfl) ?_
      rcases obx11 h with ⟨ec6, e4, h⟩ | ⟨r5, e4, h⟩
      · refine xc_x (xr_V (ox := (.inr (ec6, sh, g, gl, gr))) (rest := []) hF (w_X0_byteAt hSk a1 ((sh a1).2) a3 (shp c3) e4 rfl) (cwV 2 hts (lw_V q1140 q1142 qs36 q100 q1143) rfl rfl rfl hd_X0_byteAt ⟨Nat.le_of_ble_eq_true rfl, Nat.le_of_ble_eq_true rfl⟩) cfX0 (sk_64 hSk) hK hW hR rfl hl.1 rfl (Nat.le_of_ble_eq_true rfl) dX0_itemOf_34 ⟨Nat.le_of_ble_eq_true rfl, Nat.le_of_ble_eq_true rfl⟩) hS (fun n H locs q9 ce9 hn2 hR hS hq9 hce9 hcv9 hcl9 => ?_)
        obtain rfl := s1i h
        exact x_out htb hlk (Nat.le_trans hn hn2) hR hS (Nat.le_of_ble_eq_true rfl) (Nat.le_of_ble_eq_true rfl) ho hq9 hce9 hcv9 hcl9
      refine xc_r (xr_V (ox := (.inl (some (.int r5), sh, g, gl, gr))) (rest := []) hF (w_X0_byteAt hSk a1 ((sh a1).2) a3 (shp c3) e4 rfl) (cwV 2 hts (lw_V q1140 q1142 qs36 q100 q1143) rfl rfl rfl hd_X0_byteAt ⟨Nat.le_of_ble_eq_true rfl, Nat.le_of_ble_eq_true rfl⟩) cfX0 (sk_64 hSk) hK hW hR rfl hl.1 rfl (Nat.le_of_ble_eq_true rfl) dX0_itemOf_34 ⟨Nat.le_of_ble_eq_true rfl, Nat.le_of_ble_eq_true rfl⟩) hS (fun n H locs hn2 hR hS => ?_)
      replace hn := Nat.le_trans hn hn2
      refine W.widen (k := 0) (n := 0) (Nat.le_of_ble_eq_true rfl) (Nat.le_of_ble_eq_true rfl) ?_
      obtain rfl := s1i h
      exact x_iret hx hb hr hlk hn hR hS (Nat.zero_le _) (Nat.zero_le _) ho dX0_itemOf_37
    · replace h := ifn h c3
      obtain rfl := s1i h
      exact x_cast hx hb hown (hts _ q988) hW hts hK c2 ((thc_2 hW hK c2).2 (cst_ne (by decide) c3)) (by decide) htb hlk hn hR hS (Nat.le_of_ble_eq_true rfl) (Nat.le_of_ble_eq_true rfl) (Nat.le_of_ble_eq_true rfl) (Nat.le_of_ble_eq_true rfl) (Nat.le_of_ble_eq_true rfl) (Nat.le_of_ble_eq_true rfl) (Nat.le_of_ble_eq_true rfl) (hml.trans hl.1.symm) ho dX0_itemOf_30
  · replace h := ifn h c1
    by_cases c7 : a2 = 1
    · replace h := ifp h c7
      refine lv_tableIn (off := 37) (tgt := 38) hx hb dX0_itemOf_1 (by rw [c7]; decide) (by rw [c7]; decide) (by rw [c7]; decide) (by decide) ?_
      refine lv_aload_n hx hb dX0_itemOf_38 rfl (lv_at hl 0 rfl) ?_
      refine lv_aload_n hx hb dX0_itemOf_39 rfl (lv_at hl 1 rfl) ?_
      obtain ⟨c8, h⟩ := ogrd h
      by_cases c9 : (sh a1).1 = 3
      · replace h := ifp h c9
        refine r_castY hx hb hown (hts _ q989) hK hR c8 ((thc_3 hW hK c8).1 (cst_arr c9)) dX0_itemOf_40 ?_
        refine lv_iload_n hx hb dX0_itemOf_43 rfl (lv_at hl 3 rfl) ?_
        rcases obx11 h with ⟨ec12, e10, h⟩ | ⟨r11, e10, h⟩
        · refine xc_x (xr_V (ox := (.inr (ec12, sh, g, gl, gr))) (rest := []) hF (w_X0_shortAt hSk a1 ((sh a1).2) a3 (shp c9) e10 rfl) (cwV 2 hts (lw_V q1144 q1146 qs37 q100 q1147) rfl rfl rfl hd_X0_shortAt ⟨Nat.le_of_ble_eq_true rfl, Nat.le_of_ble_eq_true rfl⟩) cfX0 (sk_64 hSk) hK hW hR rfl hl.1 rfl (Nat.le_of_ble_eq_true rfl) dX0_itemOf_44 ⟨Nat.le_of_ble_eq_true rfl, Nat.le_of_ble_eq_true rfl⟩) hS (fun n H locs q9 ce9 hn2 hR hS hq9 hce9 hcv9 hcl9 => ?_)
          obtain rfl := s1i h
          exact x_out htb hlk (Nat.le_trans hn hn2) hR hS (Nat.le_of_ble_eq_true rfl) (Nat.le_of_ble_eq_true rfl) ho hq9 hce9 hcv9 hcl9
        refine xc_r (xr_V (ox := (.inl (some (.int r11), sh, g, gl, gr))) (rest := []) hF (w_X0_shortAt hSk a1 ((sh a1).2) a3 (shp c9) e10 rfl) (cwV 2 hts (lw_V q1144 q1146 qs37 q100 q1147) rfl rfl rfl hd_X0_shortAt ⟨Nat.le_of_ble_eq_true rfl, Nat.le_of_ble_eq_true rfl⟩) cfX0 (sk_64 hSk) hK hW hR rfl hl.1 rfl (Nat.le_of_ble_eq_true rfl) dX0_itemOf_44 ⟨Nat.le_of_ble_eq_true rfl, Nat.le_of_ble_eq_true rfl⟩) hS (fun n H locs hn2 hR hS => ?_)
        replace hn := Nat.le_trans hn hn2
        refine W.widen (k := 0) (n := 0) (Nat.le_of_ble_eq_true rfl) (Nat.le_of_ble_eq_true rfl) ?_
        obtain rfl := s1i h
        exact x_iret hx hb hr hlk hn hR hS (Nat.zero_le _) (Nat.zero_le _) ho dX0_itemOf_47
      · replace h := ifn h c9
        obtain rfl := s1i h
        exact x_cast hx hb hown (hts _ q989) hW hts hK c8 ((thc_3 hW hK c8).2 (cst_ne (by decide) c9)) (by decide) htb hlk hn hR hS (Nat.le_of_ble_eq_true rfl) (Nat.le_of_ble_eq_true rfl) (Nat.le_of_ble_eq_true rfl) (Nat.le_of_ble_eq_true rfl) (Nat.le_of_ble_eq_true rfl) (Nat.le_of_ble_eq_true rfl) (Nat.le_of_ble_eq_true rfl) (hml.trans hl.1.symm) ho dX0_itemOf_40
    · replace h := ifn h c7
      by_cases c13 : a2 = 2
      · replace h := ifp h c13
        refine lv_tableIn (off := 47) (tgt := 48) hx hb dX0_itemOf_1 (by rw [c13]; decide) (by rw [c13]; decide) (by rw [c13]; decide) (by decide) ?_
        refine lv_aload_n hx hb dX0_itemOf_48 rfl (lv_at hl 0 rfl) ?_
        refine lv_aload_n hx hb dX0_itemOf_49 rfl (lv_at hl 1 rfl) ?_
        obtain ⟨c14, h⟩ := ogrd h
        by_cases c15 : (sh a1).1 = 1
        · replace h := ifp h c15
          refine r_castY hx hb hown (hts _ q991) hK hR c14 ((thc_1 hW hK c14).1 (cst_arr c15)) dX0_itemOf_50 ?_
          refine lv_iload_n hx hb dX0_itemOf_53 rfl (lv_at hl 3 rfl) ?_
          rcases obx11 h with ⟨ec18, e16, h⟩ | ⟨r17, e16, h⟩
          · refine xc_x (xr_V (ox := (.inr (ec18, sh, g, gl, gr))) (rest := []) hF (w_X0_intAt hSk a1 ((sh a1).2) a3 (shp c15) e16 rfl) (cwV 2 hts (lw_V q1148 q1150 qs38 q100 q1151) rfl rfl rfl hd_X0_intAt ⟨Nat.le_of_ble_eq_true rfl, Nat.le_of_ble_eq_true rfl⟩) cfX0 (sk_64 hSk) hK hW hR rfl hl.1 rfl (Nat.le_of_ble_eq_true rfl) dX0_itemOf_54 ⟨Nat.le_of_ble_eq_true rfl, Nat.le_of_ble_eq_true rfl⟩) hS (fun n H locs q9 ce9 hn2 hR hS hq9 hce9 hcv9 hcl9 => ?_)
            obtain rfl := s1i h
            exact x_out htb hlk (Nat.le_trans hn hn2) hR hS (Nat.le_of_ble_eq_true rfl) (Nat.le_of_ble_eq_true rfl) ho hq9 hce9 hcv9 hcl9
          refine xc_r (xr_V (ox := (.inl (some (.int r17), sh, g, gl, gr))) (rest := []) hF (w_X0_intAt hSk a1 ((sh a1).2) a3 (shp c15) e16 rfl) (cwV 2 hts (lw_V q1148 q1150 qs38 q100 q1151) rfl rfl rfl hd_X0_intAt ⟨Nat.le_of_ble_eq_true rfl, Nat.le_of_ble_eq_true rfl⟩) cfX0 (sk_64 hSk) hK hW hR rfl hl.1 rfl (Nat.le_of_ble_eq_true rfl) dX0_itemOf_54 ⟨Nat.le_of_ble_eq_true rfl, Nat.le_of_ble_eq_true rfl⟩) hS (fun n H locs hn2 hR hS => ?_)
          replace hn := Nat.le_trans hn hn2
          refine W.widen (k := 0) (n := 0) (Nat.le_of_ble_eq_true rfl) (Nat.le_of_ble_eq_true rfl) ?_
          obtain rfl := s1i h
          exact x_iret hx hb hr hlk hn hR hS (Nat.zero_le _) (Nat.zero_le _) ho dX0_itemOf_57
        · replace h := ifn h c15
          obtain rfl := s1i h
          exact x_cast hx hb hown (hts _ q991) hW hts hK c14 ((thc_1 hW hK c14).2 (cst_ne (by decide) c15)) (by decide) htb hlk hn hR hS (Nat.le_of_ble_eq_true rfl) (Nat.le_of_ble_eq_true rfl) (Nat.le_of_ble_eq_true rfl) (Nat.le_of_ble_eq_true rfl) (Nat.le_of_ble_eq_true rfl) (Nat.le_of_ble_eq_true rfl) (Nat.le_of_ble_eq_true rfl) (hml.trans hl.1.symm) ho dX0_itemOf_50
      · replace h := ifn h c13
        have dc1 : Int32.toInt a2 ≠ 0 := ne32 c1 (by decide)
        have dc7 : Int32.toInt a2 ≠ 1 := ne32 c7 (by decide)
        have dc13 : Int32.toInt a2 ≠ 2 := ne32 c13 (by decide)
        refine lv_tableOut (tgt := 58) hx hb dX0_itemOf_1 (by omega) (by decide) ?_
        refine lv_aload_n hx hb dX0_itemOf_58 rfl (lv_at hl 0 rfl) ?_
        refine lv_aload_n hx hb dX0_itemOf_59 rfl (lv_at hl 1 rfl) ?_
        obtain ⟨c19, h⟩ := ogrd h
        by_cases c20 : (sh a1).1 = 4
        · replace h := ifp h c20
          refine r_castY hx hb hown (hts _ q990) hK hR c19 ((thc_4 hW hK c19).1 (cst_arr c20)) dX0_itemOf_60 ?_
          refine lv_iload_n hx hb dX0_itemOf_63 rfl (lv_at hl 3 rfl) ?_
          rcases obx11 h with ⟨ec23, e21, h⟩ | ⟨r22, e21, h⟩
          · refine xc_x (xr_V (ox := (.inr (ec23, sh, g, gl, gr))) (rest := []) hF (w_X0_longAt hSk a1 ((sh a1).2) a3 (shp c20) e21 rfl) (cwV 2 hts (lw_V q1152 q1154 qs39 q100 q1155) rfl rfl rfl hd_X0_longAt ⟨Nat.le_of_ble_eq_true rfl, Nat.le_of_ble_eq_true rfl⟩) cfX0 (sk_64 hSk) hK hW hR rfl hl.1 rfl (Nat.le_of_ble_eq_true rfl) dX0_itemOf_64 ⟨Nat.le_of_ble_eq_true rfl, Nat.le_of_ble_eq_true rfl⟩) hS (fun n H locs q9 ce9 hn2 hR hS hq9 hce9 hcv9 hcl9 => ?_)
            obtain rfl := s1i h
            exact x_out htb hlk (Nat.le_trans hn hn2) hR hS (Nat.le_of_ble_eq_true rfl) (Nat.le_of_ble_eq_true rfl) ho hq9 hce9 hcv9 hcl9
          refine xc_r (xr_V (ox := (.inl (some (.int r22), sh, g, gl, gr))) (rest := []) hF (w_X0_longAt hSk a1 ((sh a1).2) a3 (shp c20) e21 rfl) (cwV 2 hts (lw_V q1152 q1154 qs39 q100 q1155) rfl rfl rfl hd_X0_longAt ⟨Nat.le_of_ble_eq_true rfl, Nat.le_of_ble_eq_true rfl⟩) cfX0 (sk_64 hSk) hK hW hR rfl hl.1 rfl (Nat.le_of_ble_eq_true rfl) dX0_itemOf_64 ⟨Nat.le_of_ble_eq_true rfl, Nat.le_of_ble_eq_true rfl⟩) hS (fun n H locs hn2 hR hS => ?_)
          replace hn := Nat.le_trans hn hn2
          refine W.widen (k := 0) (n := 0) (Nat.le_of_ble_eq_true rfl) (Nat.le_of_ble_eq_true rfl) ?_
          obtain rfl := s1i h
          exact x_iret hx hb hr hlk hn hR hS (Nat.zero_le _) (Nat.zero_le _) ho dX0_itemOf_67
        · replace h := ifn h c20
          obtain rfl := s1i h
          exact x_cast hx hb hown (hts _ q990) hW hts hK c19 ((thc_4 hW hK c19).2 (cst_ne (by decide) c20)) (by decide) htb hlk hn hR hS (Nat.le_of_ble_eq_true rfl) (Nat.le_of_ble_eq_true rfl) (Nat.le_of_ble_eq_true rfl) (Nat.le_of_ble_eq_true rfl) (Nat.le_of_ble_eq_true rfl) (Nat.le_of_ble_eq_true rfl) (Nat.le_of_ble_eq_true rfl) (hml.trans hl.1.symm) ho dX0_itemOf_60
def rm_X0_item : Room := { frames := 21, cells := 3, slots := 1010, locals := 10623 }
theorem hd_X0_item : yX0_item.cls = "IntentVats" ∧ yX0_item.cls ≠ "java/lang/invoke/MethodHandle" ∧ yX0_item.cls ≠ "java/lang/invoke/VarHandle" ∧ (parseMethodDescriptor yX0_item.desc).map (fun d => d.parameters.length) = some 3 := by decide +kernel
theorem he_X0_item : yX0_item.cls ≠ "java/lang/invoke/MethodHandle" ∧ yX0_item.cls ≠ "java/lang/invoke/VarHandle" ∧ (parseMethodDescriptor yX0_item.desc).map (fun d => d.parameters.length) = some 3 := hd_X0_item.2
set_option maxHeartbeats 4000000 in
set_option maxRecDepth 100000 in
theorem w_X0_item {l : Launch} {G : Gx} {sh : SM} {g : GM} {gl : LM} {gr : RM} {n0 : Nat} (hSk : Sk sh gr) (a1 : Int32) (a2 : Int32) (a3 : Int32)  {oo : (Int32 ⊕ Nat)} {o : XO} (h : f_X0_item sh g gl gr a1 a2 a3 = some oo) (ho : o = (oo.elim (fun p => .inl (some (.int p), sh, g, gl, gr)) (fun q => .inr (q, sh, g, gl, gr)))) : MetX l G yX0_item (wsW_ yX0_item cX0_item 5 (Option.some Jvm.ClassFile.FieldType.int) [(18, 37, 38, 94), (18, 37, 43, 375), (18, 37, 48, 87)]) rm_X0_item [.ref (adr G 64), .int a1, .int a2, .int a3] sh g gl gr n0 o := by
  refine MetX.ofW (by decide) (Nat.le_of_ble_eq_true rfl) ?_
  intro p e s m below meth c ls hx hb hr hml hown hts hlk htb hW hK hR hS hl
  have hn : n0 ≤ n0 := Nat.le_refl _
  have hown : s.vm.findClass RX0 = some m.cls := hown
  have hF : CallFix p m c cX0_item 5 s ([.ref (adr G 64), .int a1, .int a2, .int a3] : List Value).toArray lw_all RX0 := ⟨hx, hb, hml, hown, hts⟩
  have hl : lv_has ls 5 [(0, .ref (adr G 64)), (1, .int a1), (2, .int a2), (3, .int a3)] := hl
  unfold f_X0_item at h
  refine lv_iload_n hx hb dX0_item_0 rfl (lv_at hl 1 rfl) ?_
  obtain ⟨r2, e1, h⟩ := obd h
  refine rc_S0 (rest := []) (st1 := [.int r2]) hF (w_X0_isSheet hSk a1 e1) (va_cwS 1 hts (lw_S q966 q967 q100 q968) rfl rfl rfl he_X0_isSheet ⟨Nat.le_of_ble_eq_true rfl, Nat.le_of_ble_eq_true rfl⟩) hW hR hS rfl hl.1 rfl (Nat.le_of_ble_eq_true rfl) rfl dX0_item_1 ⟨rfl, rfl⟩ ⟨Nat.zero_le _, Nat.zero_le _⟩ (fun H locs hR hS => ?_)
  have J16 : ∀  (n : Nat) (H : Heap) (locs : List Loc) (ls : Array Slot), n0 ≤ n → Rep G sh g gl gr n H → va_S (own G) s.heap H locs → lv_has ls 5 [] → j_X0_item_16   = some oo → W p l e rm_X0_item s m ([.ref (adr G 64), .int a1, .int a2, .int a3] : List Value).toArray below meth c H locs 0 0 (XQ G below n0 o ([.ref (adr G 64), .int a1, .int a2, .int a3] : List Value).toArray s rm_X0_item) (F0 m 16 ls []) := by
    intro  n H locs ls hn hR hS hl h
    unfold j_X0_item_16 at h
    refine lv_iconst (v := (-1)) hx hb dX0_item_16 ki_m1 ?_
    obtain rfl := s1i h
    exact x_iret hx hb hr hlk hn hR hS (Nat.zero_le _) (Nat.zero_le _) ho dX0_item_17
  refine lv_if_eq (tgt := 16) hx hb dX0_item_4 (by decide) (fun c3 => ?_) (fun c3 => ?_)
  · replace h := ifp h c3
    exact J16  _ _ _ _ hn hR hS (lv_sub hl [] rfl) h
  · replace h := ifn h c3
    refine lv_iload_n hx hb dX0_item_7 rfl (lv_at hl 2 rfl) ?_
    refine lv_iconst (v := 0) hx hb dX0_item_8 ki_0 ?_
    refine lv_iconst (v := 3) hx hb dX0_item_9 ki_3 ?_
    obtain ⟨r5, e4, h⟩ := obd h
    refine rc_S0 (rest := []) (st1 := [.int r5]) hF (w_X0_in hSk a2 0 3 e4) (va_cwS 3 hts (lw_S q508 q509 q100 q510) rfl rfl rfl he_X0_in ⟨Nat.le_of_ble_eq_true rfl, Nat.le_of_ble_eq_true rfl⟩) hW hR hS rfl hl.1 rfl (Nat.le_of_ble_eq_true rfl) rfl dX0_item_10 ⟨rfl, rfl⟩ ⟨Nat.zero_le _, Nat.zero_le _⟩ (fun H locs hR hS => ?_)
    refine lv_if_ne (tgt := 18) hx hb dX0_item_13 (by decide) (fun c6 => ?_) (fun c6 => ?_)
    · replace h := ifn h c6
      refine lv_aload_n hx hb dX0_item_18 rfl (lv_at hl 0 rfl) ?_
      refine lv_aload_n hx hb dX0_item_19 rfl (lv_at hl 0 rfl) ?_
      refine lv_aload_n hx hb dX0_item_20 rfl (lv_at hl 0 rfl) ?_
      refine r_getr hx hb hts cfX0 hown hK hR (sk_64 hSk) 12 (by decide) rfl (sr_64_12 hSk) (hts _ q461) (fun _ h => h) dX0_item_21 ?_
      refine lv_iload_n hx hb dX0_item_24 rfl (lv_at hl 1 rfl) ?_
      obtain ⟨j8, e7, h⟩ := obd h
      have qj8 := (chk_s e7).2.2
      refine r_ldr hx hb hK hR (sk_115 hSk) (by decide) (by decide) 7 rfl e7 (sra_115 hSk qj8) dX0_item_25 ?_
      obtain ⟨r10, e9, h⟩ := obd h
      refine rc_V0 (rest := [.ref (adr G 64), .ref (adr G 64)]) (st1 := [va_rf (Option.map (adr G) r10), .ref (adr G 64), .ref (adr G 64)]) hF (w_X10_row hSk (116 + j8) e9) (cwV 0 hts (lw_V q969 q970 q971 q113 q972) rfl rfl rfl hd_X10_row ⟨Nat.le_of_ble_eq_true rfl, Nat.le_of_ble_eq_true rfl⟩) cfX10 (shs_115 hSk qj8) hK hW hR hS rfl hl.1 rfl (Nat.le_of_ble_eq_true rfl) rfl dX0_item_26 ⟨rfl, rfl⟩ ⟨Nat.zero_le _, Nat.zero_le _⟩ (fun H locs hR hS => ?_)
      rcases obx11 h with ⟨ec13, e11, h⟩ | ⟨r12, e11, h⟩
      · refine xc_x (xr_V (ox := (.inr (ec13, sh, g, gl, gr))) (rest := [.ref (adr G 64)]) hF (w_X0_there hSk r10 e11 rfl) (cwV 1 hts (lw_V q973 q975 qs26 q100 q976) rfl rfl rfl hd_X0_there ⟨Nat.le_of_ble_eq_true rfl, Nat.le_of_ble_eq_true rfl⟩) cfX0 (sk_64 hSk) hK hW hR rfl hl.1 rfl (Nat.le_of_ble_eq_true rfl) dX0_item_29 ⟨Nat.le_of_ble_eq_true rfl, Nat.le_of_ble_eq_true rfl⟩) hS (fun n H locs q9 ce9 hn2 hR hS hq9 hce9 hcv9 hcl9 => ?_)
        replace hn := Nat.le_trans hn hn2
        by_cases c16 : ec13 = 12
        · replace h := ifp h c16
          subst c16
          obtain rfl := hq9 121 rfl
          refine vx_catch (E := "IntentVats$Nothing") (name := "IntentVats$Nothing") hown [] ⟨18, 37, 38, 94⟩ [⟨18, 37, 43, 375⟩, ⟨18, 37, 48, 87⟩] (htb.trans rfl) (fun _ hz => nomatch hz) rfl (by decide) (hts _ q416) (hW.cab q418) hce9 hcv9 hcl9 ?_
          refine lv_astore (lv' := [(4, .ref (adr G 121)), (0, .ref (adr G 64)), (1, .int a1), (2, .int a2), (3, .int a3)]) hx hb dX0_item_38 hl (by decide) rfl (fun ls hl => ?_)
          refine lv_bipush (v := (-11)) hx hb dX0_item_40 kb_m11 ?_
          obtain rfl := s1i h
          exact x_iret hx hb hr hlk hn hR hS (Nat.zero_le _) (Nat.zero_le _) ho dX0_item_42
        · replace h := ifn h c16
          by_cases c15 : ec13 = 1
          · replace h := ifp h c15
            subst c15
            refine vx_catch (E := "java/lang/ClassCastException") (name := "java/lang/ClassCastException") hown [⟨18, 37, 38, 94⟩] ⟨18, 37, 43, 375⟩ [⟨18, 37, 48, 87⟩] (htb.trans rfl) (List.forall_mem_cons.mpr ⟨Or.inr ⟨by decide, "IntentVats$Nothing", hts _ q416, hW.nas [true, true, true, true, false, false, true, false, true, false] rfl⟩, (fun _ hz => nomatch hz)⟩) rfl (by decide) (hts _ q1062) (hW.cab q1082) hce9 hcv9 hcl9 ?_
            refine lv_astore (lv' := [(4, .ref q9), (0, .ref (adr G 64)), (1, .int a1), (2, .int a2), (3, .int a3)]) hx hb dX0_item_43 hl (by decide) rfl (fun ls hl => ?_)
            refine lv_bipush (v := (-13)) hx hb dX0_item_45 kb_m13 ?_
            obtain rfl := s1i h
            exact x_iret hx hb hr hlk hn hR hS (Nat.zero_le _) (Nat.zero_le _) ho dX0_item_47
          · replace h := ifn h c15
            by_cases c14 : ec13 = 11
            · replace h := ifp h c14
              subst c14
              obtain rfl := hq9 120 rfl
              refine vx_catch (E := "IntentVats$Beyond") (name := "IntentVats$Beyond") hown [⟨18, 37, 38, 94⟩, ⟨18, 37, 43, 375⟩] ⟨18, 37, 48, 87⟩ [] (htb.trans rfl) (List.forall_mem_cons.mpr ⟨Or.inr ⟨by decide, "IntentVats$Nothing", hts _ q416, hW.nas [true, true, true, true, false, false, true, true, true] rfl⟩, (List.forall_mem_cons.mpr ⟨Or.inr ⟨by decide, "java/lang/ClassCastException", hts _ q1062, hW.nas [true, true, true, false, true, true, false, true, false, true] rfl⟩, (fun _ hz => nomatch hz)⟩)⟩) rfl (by decide) (hts _ q401) (hW.cab q403) hce9 hcv9 hcl9 ?_
              refine lv_astore (lv' := [(4, .ref (adr G 120)), (0, .ref (adr G 64)), (1, .int a1), (2, .int a2), (3, .int a3)]) hx hb dX0_item_48 hl (by decide) rfl (fun ls hl => ?_)
              refine lv_bipush (v := (-12)) hx hb dX0_item_50 kb_m12 ?_
              obtain rfl := s1i h
              exact x_iret hx hb hr hlk hn hR hS (Nat.zero_le _) (Nat.zero_le _) ho dX0_item_52
            · replace h := ifn h c14
              cases h
      refine xc_r (xr_V (ox := (.inl (some (.ref (adr G r12)), sh, g, gl, gr))) (rest := [.ref (adr G 64)]) hF (w_X0_there hSk r10 e11 rfl) (cwV 1 hts (lw_V q973 q975 qs26 q100 q976) rfl rfl rfl hd_X0_there ⟨Nat.le_of_ble_eq_true rfl, Nat.le_of_ble_eq_true rfl⟩) cfX0 (sk_64 hSk) hK hW hR rfl hl.1 rfl (Nat.le_of_ble_eq_true rfl) dX0_item_29 ⟨Nat.le_of_ble_eq_true rfl, Nat.le_of_ble_eq_true rfl⟩) hS (fun n H locs hn2 hR hS => ?_)
      replace hn := Nat.le_trans hn hn2
      refine W.widen (k := 0) (n := 0) (Nat.le_of_ble_eq_true rfl) (Nat.le_of_ble_eq_true rfl) ?_
      refine lv_iload_n hx hb dX0_item_32 rfl (lv_at hl 2 rfl) ?_
      refine lv_iload_n hx hb dX0_item_33 rfl (lv_at hl 3 rfl) ?_
      rcases obx11 h with ⟨ec19, e17, h⟩ | ⟨r18, e17, h⟩
      · refine xc_x (xr_V (ox := (.inr (ec19, sh, g, gl, gr))) (rest := []) hF (w_X0_itemOf hSk r12 a2 a3 e17 rfl) (cwV 3 hts (lw_V q1136 q1138 qs35 q100 q1139) rfl rfl rfl hd_X0_itemOf ⟨Nat.le_of_ble_eq_true rfl, Nat.le_of_ble_eq_true rfl⟩) cfX0 (sk_64 hSk) hK hW hR rfl hl.1 rfl (Nat.le_of_ble_eq_true rfl) dX0_item_34 ⟨Nat.le_of_ble_eq_true rfl, Nat.le_of_ble_eq_true rfl⟩) hS (fun n H locs q9 ce9 hn2 hR hS hq9 hce9 hcv9 hcl9 => ?_)
        replace hn := Nat.le_trans hn hn2
        by_cases c22 : ec19 = 12
        · replace h := ifp h c22
          subst c22
          obtain rfl := hq9 121 rfl
          refine vx_catch (E := "IntentVats$Nothing") (name := "IntentVats$Nothing") hown [] ⟨18, 37, 38, 94⟩ [⟨18, 37, 43, 375⟩, ⟨18, 37, 48, 87⟩] (htb.trans rfl) (fun _ hz => nomatch hz) rfl (by decide) (hts _ q416) (hW.cab q418) hce9 hcv9 hcl9 ?_
          refine W.widen (k := 3) (n := 1010) (Nat.le_of_ble_eq_true rfl) (Nat.le_of_ble_eq_true rfl) ?_
          refine lv_astore (lv' := [(4, .ref (adr G 121)), (0, .ref (adr G 64)), (1, .int a1), (2, .int a2), (3, .int a3)]) hx hb dX0_item_38 hl (by decide) rfl (fun ls hl => ?_)
          refine lv_bipush (v := (-11)) hx hb dX0_item_40 kb_m11 ?_
          obtain rfl := s1i h
          exact x_iret hx hb hr hlk hn hR hS (Nat.le_of_ble_eq_true rfl) (Nat.le_of_ble_eq_true rfl) ho dX0_item_42
        · replace h := ifn h c22
          by_cases c21 : ec19 = 1
          · replace h := ifp h c21
            subst c21
            refine vx_catch (E := "java/lang/ClassCastException") (name := "java/lang/ClassCastException") hown [⟨18, 37, 38, 94⟩] ⟨18, 37, 43, 375⟩ [⟨18, 37, 48, 87⟩] (htb.trans rfl) (List.forall_mem_cons.mpr ⟨Or.inr ⟨by decide, "IntentVats$Nothing", hts _ q416, hW.nas [true, true, true, true, false, false, true, false, true, false] rfl⟩, (fun _ hz => nomatch hz)⟩) rfl (by decide) (hts _ q1062) (hW.cab q1082) hce9 hcv9 hcl9 ?_
            refine W.widen (k := 3) (n := 1010) (Nat.le_of_ble_eq_true rfl) (Nat.le_of_ble_eq_true rfl) ?_
            refine lv_astore (lv' := [(4, .ref q9), (0, .ref (adr G 64)), (1, .int a1), (2, .int a2), (3, .int a3)]) hx hb dX0_item_43 hl (by decide) rfl (fun ls hl => ?_)
            refine lv_bipush (v := (-13)) hx hb dX0_item_45 kb_m13 ?_
            obtain rfl := s1i h
            exact x_iret hx hb hr hlk hn hR hS (Nat.le_of_ble_eq_true rfl) (Nat.le_of_ble_eq_true rfl) ho dX0_item_47
          · replace h := ifn h c21
            by_cases c20 : ec19 = 11
            · replace h := ifp h c20
              subst c20
              obtain rfl := hq9 120 rfl
              refine vx_catch (E := "IntentVats$Beyond") (name := "IntentVats$Beyond") hown [⟨18, 37, 38, 94⟩, ⟨18, 37, 43, 375⟩] ⟨18, 37, 48, 87⟩ [] (htb.trans rfl) (List.forall_mem_cons.mpr ⟨Or.inr ⟨by decide, "IntentVats$Nothing", hts _ q416, hW.nas [true, true, true, true, false, false, true, true, true] rfl⟩, (List.forall_mem_cons.mpr ⟨Or.inr ⟨by decide, "java/lang/ClassCastException", hts _ q1062, hW.nas [true, true, true, false, true, true, false, true, false, true] rfl⟩, (fun _ hz => nomatch hz)⟩)⟩) rfl (by decide) (hts _ q401) (hW.cab q403) hce9 hcv9 hcl9 ?_
              refine W.widen (k := 3) (n := 1010) (Nat.le_of_ble_eq_true rfl) (Nat.le_of_ble_eq_true rfl) ?_
              refine lv_astore (lv' := [(4, .ref (adr G 120)), (0, .ref (adr G 64)), (1, .int a1), (2, .int a2), (3, .int a3)]) hx hb dX0_item_48 hl (by decide) rfl (fun ls hl => ?_)
              refine lv_bipush (v := (-12)) hx hb dX0_item_50 kb_m12 ?_
              obtain rfl := s1i h
              exact x_iret hx hb hr hlk hn hR hS (Nat.le_of_ble_eq_true rfl) (Nat.le_of_ble_eq_true rfl) ho dX0_item_52
            · replace h := ifn h c20
              cases h
      refine xc_r (xr_V (ox := (.inl (some (.int r18), sh, g, gl, gr))) (rest := []) hF (w_X0_itemOf hSk r12 a2 a3 e17 rfl) (cwV 3 hts (lw_V q1136 q1138 qs35 q100 q1139) rfl rfl rfl hd_X0_itemOf ⟨Nat.le_of_ble_eq_true rfl, Nat.le_of_ble_eq_true rfl⟩) cfX0 (sk_64 hSk) hK hW hR rfl hl.1 rfl (Nat.le_of_ble_eq_true rfl) dX0_item_34 ⟨Nat.le_of_ble_eq_true rfl, Nat.le_of_ble_eq_true rfl⟩) hS (fun n H locs hn2 hR hS => ?_)
      replace hn := Nat.le_trans hn hn2
      refine W.widen (k := 3) (n := 1010) (Nat.le_of_ble_eq_true rfl) (Nat.le_of_ble_eq_true rfl) ?_
      obtain rfl := s1i h
      exact x_iret hx hb hr hlk hn hR hS (Nat.le_of_ble_eq_true rfl) (Nat.le_of_ble_eq_true rfl) ho dX0_item_37
    · replace h := ifp h c6
      exact J16  _ _ _ _ hn hR hS (lv_sub hl [] rfl) h
def rm_X0_isShelf : Room := { frames := 2, cells := 0, slots := 0, locals := 34 }
theorem he_X0_isShelf : yX0_isShelf.cls ≠ "java/lang/invoke/MethodHandle" ∧ yX0_isShelf.cls ≠ "java/lang/invoke/VarHandle" ∧ (parseMethodDescriptor yX0_isShelf.desc).map (fun d => d.parameters.length) = some 1 := by decide +kernel

set_option maxHeartbeats 4000000 in
set_option maxRecDepth 100000 in
theorem w_X0_isShelf {l : Launch} {G : Gx} {sh : SM} {g : GM} {gl : LM} {gr : RM} {n : Nat} (hSk : Sk sh gr) (a0 : Int32)  {r : Int32} (h : f_X0_isShelf  a0 = some r) : MetI l G yX0_isShelf (ws_ yX0_isShelf cX0_isShelf 1 (Option.some Jvm.ClassFile.FieldType.boolean)) rm_X0_isShelf [.int a0] sh g gl gr n (some (.int r)) sh g gl gr n := by
  refine MetI.of (by decide) (Nat.le_of_ble_eq_true rfl) ?_
  intro p e s m below meth c ls hx hb hr hml hown hts hlk hnm hW hK hR hS hl
  have hown : s.vm.findClass RX0 = some m.cls := hown
  have hF : CallFix p m c cX0_isShelf 1 s ([.int a0] : List Value).toArray lw_all RX0 := ⟨hx, hb, hml, hown, hts⟩
  have hl : lv_has ls 1 [(0, .int a0)] := hl
  unfold f_X0_isShelf at h
  refine lv_iload_n hx hb dX0_isShelf_0 rfl (lv_at hl 0 rfl) ?_
  refine lv_iconst (v := 0) hx hb dX0_isShelf_1 ki_0 ?_
  refine lv_iconst (v := 3) hx hb dX0_isShelf_2 ki_3 ?_
  obtain ⟨r2, e1, h⟩ := obd h
  refine rc_S0 (rest := []) (st1 := [.int r2]) hF (w_X0_in hSk a0 0 3 e1) (va_cwS 3 hts (lw_S q508 q509 q100 q510) rfl rfl rfl he_X0_in ⟨Nat.le_of_ble_eq_true rfl, Nat.le_of_ble_eq_true rfl⟩) hW hR hS rfl hl.1 rfl (Nat.le_of_ble_eq_true rfl) rfl dX0_isShelf_3 ⟨rfl, rfl⟩ ⟨Nat.zero_le _, Nat.zero_le _⟩ (fun H locs hR hS => ?_)
  obtain ⟨c3, h⟩ := ogrd h
  obtain rfl := s1i h
  exact r_zret0 hx hb hr hlk hR hS (Nat.zero_le _) (Nat.zero_le _) (nb01 c3) dX0_isShelf_6
