/-! walks: X14_anew, X14_in, X14_becomes, X14_set, X14_lawOf, X14_isVat, X14_fill, X14_vatOf, X14_isRest, X14_roster, X14_rosterOf, X14_isKind, X14_sets, X14_adds, X14_cloth, X14_isCloth, X14_its, X14_of, X14_takesOf, X14_fightsOf, X14_fadesOf -/
def rm_X14_anew : Room := { frames := 1, cells := 0, slots := 0, locals := 12 }
theorem hd_X14_anew : yX14_anew.cls = "IntentVatsModel" ∧ yX14_anew.cls ≠ "java/lang/invoke/MethodHandle" ∧ yX14_anew.cls ≠ "java/lang/invoke/VarHandle" ∧ (parseMethodDescriptor yX14_anew.desc).map (fun d => d.parameters.length) = some 0 := by decide +kernel
theorem he_X14_anew : yX14_anew.cls ≠ "java/lang/invoke/MethodHandle" ∧ yX14_anew.cls ≠ "java/lang/invoke/VarHandle" ∧ (parseMethodDescriptor yX14_anew.desc).map (fun d => d.parameters.length) = some 0 := hd_X14_anew.2

set_option maxHeartbeats 4000000 in
set_option maxRecDepth 100000 in
theorem w_X14_anew {l : Launch} {G : Gx} {sh : SM} {g : GM} {gl : LM} {gr : RM} {n : Nat} (hSk : Sk sh gr)   {go : GM} (h : f_X14_anew g  = some go) : MetI l G yX14_anew (ws_ yX14_anew cX14_anew 3 (Option.none : Option Jvm.ClassFile.FieldType)) rm_X14_anew [.ref (adr G 128)] sh g gl gr n none sh go gl gr n := by
  refine MetI.of (by decide) (Nat.le_of_ble_eq_true rfl) ?_
  intro p e s m below meth c ls hx hb hr hml hown hts hlk hnm hW hK hR hS hl
  have hown : s.vm.findClass RX14 = some m.cls := hown
  have hF : CallFix p m c cX14_anew 3 s ([.ref (adr G 128)] : List Value).toArray lw_all RX14 := ⟨hx, hb, hml, hown, hts⟩
  have hl : lv_has ls 3 [(0, .ref (adr G 128))] := hl
  unfold f_X14_anew at h
  refine lv_aload_n hx hb dX14_anew_0 rfl (lv_at hl 0 rfl) ?_
  refine r_getr hx hb hts cfX14 hown hK hR (sk_128 hSk) 2 (by decide) rfl (sr_128_2 hSk) (hts _ q1523) (fun _ h => h) dX14_anew_1 ?_
  refine lv_iconst (v := 5) hx hb dX14_anew_4 ki_5 ?_
  obtain ⟨v2, e1, h⟩ := obd h
  refine r_ldi hx hb hK hR (sk_131 hSk) e1 dX14_anew_5 ?_
  refine lv_istore_n (lv' := [(1, .int v2), (0, .ref (adr G 128))]) hx hb dX14_anew_6 rfl hl (by decide) rfl (fun ls hl => ?_)
  refine lv_iconst (v := 0) hx hb dX14_anew_7 ki_0 ?_
  refine lv_istore_n (lv' := [(2, .int 0), (1, .int v2), (0, .ref (adr G 128))]) hx hb dX14_anew_8 rfl hl (by decide) rfl (fun ls hl => ?_)
  have J9 : ∀ (k9 : Nat) (x3 : Int32) (g4 : GM) (H : Heap) (locs : List Loc) (ls : Array Slot), Rep G sh g4 gl gr n H → va_S (own G) s.heap H locs → lv_has ls 3 [(0, .ref (adr G 128)), (1, .int v2), (2, .int x3)] → l_X14_anew_9 v2 k9 x3 g4 = some go → W p l e rm_X14_anew s m ([.ref (adr G 128)] : List Value).toArray below meth c H locs 0 0 (MQ below (QR G none sh go gl gr n) ([.ref (adr G 128)] : List Value).toArray s rm_X14_anew.cells rm_X14_anew.slots (own G)) (F0 m 9 ls []) := by
    intro k9
    induction k9 with
    | zero => intro _ _ _ _ _ _ _ _; exact nofun
    | succ k9 ih9 =>
      intro x3 g4 H locs ls hR hS hl h
      unfold l_X14_anew_9 b_X14_anew_9 at h
      refine lv_iload_n hx hb dX14_anew_9 rfl (lv_at hl 2 rfl) ?_
      refine lv_bipush (v := 69) hx hb dX14_anew_10 kb_69 ?_
      refine lv_icmp_ge (tgt := 28) hx hb dX14_anew_12 (by decide) (fun c5 => ?_) (fun c5 => ?_)
      · replace h := ifp h c5
        refine lv_iconst (v := 0) hx hb dX14_anew_28 ki_0 ?_
        refine lv_istore_n (lv' := [(2, .int 0), (0, .ref (adr G 128)), (1, .int v2)]) hx hb dX14_anew_29 rfl hl (by decide) rfl (fun ls hl => ?_)
        have J30 : ∀ (k30 : Nat) (x6 : Int32) (g7 : GM) (H : Heap) (locs : List Loc) (ls : Array Slot), Rep G sh g7 gl gr n H → va_S (own G) s.heap H locs → lv_has ls 3 [(0, .ref (adr G 128)), (1, .int v2), (2, .int x6)] → l_X14_anew_30 v2 k30 x6 g7 = some go → W p l e rm_X14_anew s m ([.ref (adr G 128)] : List Value).toArray below meth c H locs 0 0 (MQ below (QR G none sh go gl gr n) ([.ref (adr G 128)] : List Value).toArray s rm_X14_anew.cells rm_X14_anew.slots (own G)) (F0 m 30 ls []) := by
          intro k30
          induction k30 with
          | zero => intro _ _ _ _ _ _ _ _; exact nofun
          | succ k30 ih30 =>
            intro x6 g7 H locs ls hR hS hl h
            unfold l_X14_anew_30 b_X14_anew_30 at h
            refine lv_iload_n hx hb dX14_anew_30 rfl (lv_at hl 2 rfl) ?_
            refine lv_iconst (v := 4) hx hb dX14_anew_31 ki_4 ?_
            refine lv_icmp_ge (tgt := 53) hx hb dX14_anew_32 (by decide) (fun c8 => ?_) (fun c8 => ?_)
            · replace h := ifp h c8
              refine lv_iconst (v := 0) hx hb dX14_anew_53 ki_0 ?_
              refine lv_istore_n (lv' := [(2, .int 0), (0, .ref (adr G 128)), (1, .int v2)]) hx hb dX14_anew_54 rfl hl (by decide) rfl (fun ls hl => ?_)
              have J55 : ∀ (k55 : Nat) (x9 : Int32) (g10 : GM) (H : Heap) (locs : List Loc) (ls : Array Slot), Rep G sh g10 gl gr n H → va_S (own G) s.heap H locs → lv_has ls 3 [(0, .ref (adr G 128)), (1, .int v2), (2, .int x9)] → l_X14_anew_55 v2 k55 x9 g10 = some go → W p l e rm_X14_anew s m ([.ref (adr G 128)] : List Value).toArray below meth c H locs 0 0 (MQ below (QR G none sh go gl gr n) ([.ref (adr G 128)] : List Value).toArray s rm_X14_anew.cells rm_X14_anew.slots (own G)) (F0 m 55 ls []) := by
                intro k55
                induction k55 with
                | zero => intro _ _ _ _ _ _ _ _; exact nofun
                | succ k55 ih55 =>
                  intro x9 g10 H locs ls hR hS hl h
                  unfold l_X14_anew_55 b_X14_anew_55 at h
                  refine lv_iload_n hx hb dX14_anew_55 rfl (lv_at hl 2 rfl) ?_
                  refine lv_bipush (v := 8) hx hb dX14_anew_56 kb_8 ?_
                  refine lv_icmp_ge (tgt := 87) hx hb dX14_anew_58 (by decide) (fun c11 => ?_) (fun c11 => ?_)
                  · replace h := ifp h c11
                    refine lv_iconst (v := 0) hx hb dX14_anew_87 ki_0 ?_
                    refine lv_istore_n (lv' := [(2, .int 0), (0, .ref (adr G 128)), (1, .int v2)]) hx hb dX14_anew_88 rfl hl (by decide) rfl (fun ls hl => ?_)
                    have J89 : ∀ (k89 : Nat) (x12 : Int32) (g13 : GM) (H : Heap) (locs : List Loc) (ls : Array Slot), Rep G sh g13 gl gr n H → va_S (own G) s.heap H locs → lv_has ls 3 [(0, .ref (adr G 128)), (1, .int v2), (2, .int x12)] → l_X14_anew_89 v2 k89 x12 g13 = some go → W p l e rm_X14_anew s m ([.ref (adr G 128)] : List Value).toArray below meth c H locs 0 0 (MQ below (QR G none sh go gl gr n) ([.ref (adr G 128)] : List Value).toArray s rm_X14_anew.cells rm_X14_anew.slots (own G)) (F0 m 89 ls []) := by
                      intro k89
                      induction k89 with
                      | zero => intro _ _ _ _ _ _ _ _; exact nofun
                      | succ k89 ih89 =>
                        intro x12 g13 H locs ls hR hS hl h
                        unfold l_X14_anew_89 b_X14_anew_89 at h
                        refine lv_iload_n hx hb dX14_anew_89 rfl (lv_at hl 2 rfl) ?_
                        refine lv_bipush (v := 6) hx hb dX14_anew_90 kb_6 ?_
                        refine lv_icmp_ge (tgt := 111) hx hb dX14_anew_92 (by decide) (fun c14 => ?_) (fun c14 => ?_)
                        · replace h := ifp h c14
                          refine lv_aload_n hx hb dX14_anew_111 rfl (lv_at hl 0 rfl) ?_
                          refine r_getr hx hb hts cfX14 hown hK hR (sk_128 hSk) 2 (by decide) rfl (sr_128_2 hSk) (hts _ q1523) (fun _ h => h) dX14_anew_112 ?_
                          refine lv_iconst (v := 5) hx hb dX14_anew_115 ki_5 ?_
                          refine lv_iload_n hx hb dX14_anew_116 rfl (lv_at hl 1 rfl) ?_
                          obtain ⟨g16, e15, h⟩ := obd h
                          refine r_sti hx hb hK hR hS (sk_131 hSk) e15 dX14_anew_117 (fun H locs hR hS => ?_)
                          obtain rfl := s1i h
                          exact r_vret0 hx hb hr hlk hR hS (Nat.zero_le _) (Nat.zero_le _) dX14_anew_118
                        · replace h := ifn h c14
                          refine lv_aload_n hx hb dX14_anew_95 rfl (lv_at hl 0 rfl) ?_
                          refine r_getr hx hb hts cfX14 hown hK hR (sk_128 hSk) 2 (by decide) rfl (sr_128_2 hSk) (hts _ q1523) (fun _ h => h) dX14_anew_96 ?_
                          refine lv_bipush (v := 23) hx hb dX14_anew_99 kb_23 ?_
                          refine lv_iload_n hx hb dX14_anew_101 rfl (lv_at hl 2 rfl) ?_
                          refine lv_iadd hx hb dX14_anew_102 ?_
                          refine lv_iload_n hx hb dX14_anew_103 rfl (lv_at hl 2 rfl) ?_
                          obtain ⟨g18, e17, h⟩ := obd h
                          refine r_sti hx hb hK hR hS (sk_131 hSk) e17 dX14_anew_104 (fun H locs hR hS => ?_)
                          refine lv_iinc (v := x12 + 1) (lv' := [(2, .int (x12 + 1)), (0, .ref (adr G 128)), (1, .int v2)]) hx hb dX14_anew_105 hl (k := 2) rfl rfl (by decide) rfl (fun ls hl => ?_)
                          refine lv_goto (tgt := 89) hx hb dX14_anew_108 (by decide) ?_
                          exact ih89 (x12 + 1) g18 _ _ _ hR hS (lv_sub hl [1, 2, 0] rfl) h
                    exact J89 fuel 0 g10 _ _ _ hR hS (lv_sub hl [1, 2, 0] rfl) h
                  · replace h := ifn h c11
                    refine lv_aload_n hx hb dX14_anew_61 rfl (lv_at hl 0 rfl) ?_
                    refine r_getr hx hb hts cfX14 hown hK hR (sk_128 hSk) 2 (by decide) rfl (sr_128_2 hSk) (hts _ q1523) (fun _ h => h) dX14_anew_62 ?_
                    refine lv_bipush (v := 7) hx hb dX14_anew_65 kb_7 ?_
                    refine lv_iload_n hx hb dX14_anew_67 rfl (lv_at hl 2 rfl) ?_
                    refine lv_iadd hx hb dX14_anew_68 ?_
                    refine lv_iload_n hx hb dX14_anew_69 rfl (lv_at hl 2 rfl) ?_
                    obtain ⟨g20, e19, h⟩ := obd h
                    refine r_sti hx hb hK hR hS (sk_131 hSk) e19 dX14_anew_70 (fun H locs hR hS => ?_)
                    refine lv_aload_n hx hb dX14_anew_71 rfl (lv_at hl 0 rfl) ?_
                    refine r_getr hx hb hts cfX14 hown hK hR (sk_128 hSk) 2 (by decide) rfl (sr_128_2 hSk) (hts _ q1523) (fun _ h => h) dX14_anew_72 ?_
                    refine lv_bipush (v := 15) hx hb dX14_anew_75 kb_15 ?_
                    refine lv_iload_n hx hb dX14_anew_77 rfl (lv_at hl 2 rfl) ?_
                    refine lv_iadd hx hb dX14_anew_78 ?_
                    refine lv_iconst (v := 5) hx hb dX14_anew_79 ki_5 ?_
                    obtain ⟨g22, e21, h⟩ := obd h
                    refine r_sti hx hb hK hR hS (sk_131 hSk) e21 dX14_anew_80 (fun H locs hR hS => ?_)
                    refine lv_iinc (v := x9 + 1) (lv' := [(2, .int (x9 + 1)), (0, .ref (adr G 128)), (1, .int v2)]) hx hb dX14_anew_81 hl (k := 2) rfl rfl (by decide) rfl (fun ls hl => ?_)
                    refine lv_goto (tgt := 55) hx hb dX14_anew_84 (by decide) ?_
                    exact ih55 (x9 + 1) g22 _ _ _ hR hS (lv_sub hl [1, 2, 0] rfl) h
              exact J55 fuel 0 g7 _ _ _ hR hS (lv_sub hl [1, 2, 0] rfl) h
            · replace h := ifn h c8
              refine lv_aload_n hx hb dX14_anew_35 rfl (lv_at hl 0 rfl) ?_
              refine r_getr hx hb hts cfX14 hown hK hR (sk_128 hSk) 2 (by decide) rfl (sr_128_2 hSk) (hts _ q1523) (fun _ h => h) dX14_anew_36 ?_
              refine lv_iload_n hx hb dX14_anew_39 rfl (lv_at hl 2 rfl) ?_
              refine lv_aload_n hx hb dX14_anew_40 rfl (lv_at hl 0 rfl) ?_
              refine r_getr hx hb hts cfX14 hown hK hR (sk_128 hSk) 1 (by decide) rfl (sr_128_1 hSk) (hts _ q1522) (fun _ h => h) dX14_anew_41 ?_
              refine lv_iload_n hx hb dX14_anew_44 rfl (lv_at hl 2 rfl) ?_
              obtain ⟨v24, e23, h⟩ := obd h
              refine r_ldi hx hb hK hR (sk_130 hSk) e23 dX14_anew_45 ?_
              obtain ⟨g26, e25, h⟩ := obd h
              refine r_sti hx hb hK hR hS (sk_131 hSk) e25 dX14_anew_46 (fun H locs hR hS => ?_)
              refine lv_iinc (v := x6 + 1) (lv' := [(2, .int (x6 + 1)), (0, .ref (adr G 128)), (1, .int v2)]) hx hb dX14_anew_47 hl (k := 2) rfl rfl (by decide) rfl (fun ls hl => ?_)
              refine lv_goto (tgt := 30) hx hb dX14_anew_50 (by decide) ?_
              exact ih30 (x6 + 1) g26 _ _ _ hR hS (lv_sub hl [1, 2, 0] rfl) h
        exact J30 fuel 0 g4 _ _ _ hR hS (lv_sub hl [1, 2, 0] rfl) h
      · replace h := ifn h c5
        refine lv_aload_n hx hb dX14_anew_15 rfl (lv_at hl 0 rfl) ?_
        refine r_getr hx hb hts cfX14 hown hK hR (sk_128 hSk) 2 (by decide) rfl (sr_128_2 hSk) (hts _ q1523) (fun _ h => h) dX14_anew_16 ?_
        refine lv_iload_n hx hb dX14_anew_19 rfl (lv_at hl 2 rfl) ?_
        refine lv_iconst (v := 0) hx hb dX14_anew_20 ki_0 ?_
        obtain ⟨g28, e27, h⟩ := obd h
        refine r_sti hx hb hK hR hS (sk_131 hSk) e27 dX14_anew_21 (fun H locs hR hS => ?_)
        refine lv_iinc (v := x3 + 1) (lv' := [(2, .int (x3 + 1)), (0, .ref (adr G 128)), (1, .int v2)]) hx hb dX14_anew_22 hl (k := 2) rfl rfl (by decide) rfl (fun ls hl => ?_)
        refine lv_goto (tgt := 9) hx hb dX14_anew_25 (by decide) ?_
        exact ih9 (x3 + 1) g28 _ _ _ hR hS (lv_sub hl [1, 2, 0] rfl) h
  exact J9 fuel 0 g _ _ _ hR hS (lv_sub hl [2, 1, 0] rfl) h
def rm_X14_in : Room := { frames := 1, cells := 0, slots := 0, locals := 12 }
theorem he_X14_in : yX14_in.cls ≠ "java/lang/invoke/MethodHandle" ∧ yX14_in.cls ≠ "java/lang/invoke/VarHandle" ∧ (parseMethodDescriptor yX14_in.desc).map (fun d => d.parameters.length) = some 3 := by decide +kernel

set_option maxHeartbeats 4000000 in
set_option maxRecDepth 100000 in
theorem w_X14_in {l : Launch} {G : Gx} {sh : SM} {g : GM} {gl : LM} {gr : RM} {n : Nat} (hSk : Sk sh gr) (a0 : Int64) (a2 : Int64) (a4 : Int64)  {r : Int32} (h : f_X14_in  a0 a2 a4 = some r) : MetI l G yX14_in (ws_ yX14_in cX14_in 6 (Option.some Jvm.ClassFile.FieldType.boolean)) rm_X14_in [.long a0, .long a2, .long a4] sh g gl gr n (some (.int r)) sh g gl gr n := by
  refine MetI.of (by decide) (Nat.le_of_ble_eq_true rfl) ?_
  intro p e s m below meth c ls hx hb hr hml hown hts hlk hnm hW hK hR hS hl
  have hown : s.vm.findClass RX14 = some m.cls := hown
  have hF : CallFix p m c cX14_in 6 s ([.long a0, .long a2, .long a4] : List Value).toArray lw_all RX14 := ⟨hx, hb, hml, hown, hts⟩
  have hl : lv_has ls 6 [(0, .long a0), (2, .long a2), (4, .long a4)] := hl
  unfold f_X14_in at h
  refine lv_lload_n hx hb dX14_in_0 rfl (lv_at hl 0 rfl) ?_
  refine lv_lload_n hx hb dX14_in_1 rfl (lv_at hl 1 rfl) ?_
  refine W.lcmp hx hb dX14_in_2 ?_
  have J18 : ∀ (x1 : Int32) (H : Heap) (locs : List Loc) (ls : Array Slot), Rep G sh g gl gr n H → va_S (own G) s.heap H locs → lv_has ls 6 [] → j_X14_in_18  x1 = some r → W p l e rm_X14_in s m ([.long a0, .long a2, .long a4] : List Value).toArray below meth c H locs 0 0 (MQ below (QR G (some (.int r)) sh g gl gr n) ([.long a0, .long a2, .long a4] : List Value).toArray s rm_X14_in.cells rm_X14_in.slots (own G)) (F0 m 18 ls [.int x1]) := by
    intro x1 H locs ls hR hS hl h
    unfold j_X14_in_18 at h
    obtain ⟨c2, h⟩ := ogrd h
    obtain rfl := s1i h
    exact r_zret0 hx hb hr hlk hR hS (Nat.zero_le _) (Nat.zero_le _) (nb01 c2) dX14_in_18
  have J17 : ∀  (H : Heap) (locs : List Loc) (ls : Array Slot), Rep G sh g gl gr n H → va_S (own G) s.heap H locs → lv_has ls 6 [] → j_X14_in_17   = some r → W p l e rm_X14_in s m ([.long a0, .long a2, .long a4] : List Value).toArray below meth c H locs 0 0 (MQ below (QR G (some (.int r)) sh g gl gr n) ([.long a0, .long a2, .long a4] : List Value).toArray s rm_X14_in.cells rm_X14_in.slots (own G)) (F0 m 17 ls []) := by
    intro  H locs ls hR hS hl h
    unfold j_X14_in_17 at h
    refine lv_iconst (v := 0) hx hb dX14_in_17 ki_0 ?_
    exact J18 0 _ _ _ hR hS (lv_sub hl [] rfl) h
  refine lv_if_lt (tgt := 17) hx hb dX14_in_3 (by decide) (fun c3 => ?_) (fun c3 => ?_)
  · replace h := ifp h c3
    exact J17  _ _ _ hR hS (lv_sub hl [] rfl) h
  · replace h := ifn h c3
    refine lv_lload_n hx hb dX14_in_6 rfl (lv_at hl 0 rfl) ?_
    refine lv_lload hx hb dX14_in_7 (lv_at hl 2 rfl) ?_
    refine W.lcmp hx hb dX14_in_9 ?_
    refine lv_if_gt (tgt := 17) hx hb dX14_in_10 (by decide) (fun c4 => ?_) (fun c4 => ?_)
    · replace h := ifp h c4
      exact J17  _ _ _ hR hS (lv_sub hl [] rfl) h
    · replace h := ifn h c4
      refine lv_iconst (v := 1) hx hb dX14_in_13 ki_1 ?_
      refine lv_goto (tgt := 18) hx hb dX14_in_14 (by decide) ?_
      exact J18 1 _ _ _ hR hS (lv_sub hl [] rfl) h
def rm_X14_becomes : Room := { frames := 1, cells := 0, slots := 0, locals := 12 }
theorem hd_X14_becomes : yX14_becomes.cls = "IntentVatsModel" ∧ yX14_becomes.cls ≠ "java/lang/invoke/MethodHandle" ∧ yX14_becomes.cls ≠ "java/lang/invoke/VarHandle" ∧ (parseMethodDescriptor yX14_becomes.desc).map (fun d => d.parameters.length) = some 2 := by decide +kernel
theorem he_X14_becomes : yX14_becomes.cls ≠ "java/lang/invoke/MethodHandle" ∧ yX14_becomes.cls ≠ "java/lang/invoke/VarHandle" ∧ (parseMethodDescriptor yX14_becomes.desc).map (fun d => d.parameters.length) = some 2 := hd_X14_becomes.2

set_option maxHeartbeats 4000000 in
set_option maxRecDepth 100000 in
theorem w_X14_becomes {l : Launch} {G : Gx} {sh : SM} {g : GM} {gl : LM} {gr : RM} {n : Nat} (hSk : Sk sh gr) (a1 : Int32) (a2 : Int32)  {r : Int32} {go : GM} (h : f_X14_becomes g a1 a2 = some (r, go)) : MetI l G yX14_becomes (ws_ yX14_becomes cX14_becomes 4 (Option.some Jvm.ClassFile.FieldType.int)) rm_X14_becomes [.ref (adr G 128), .int a1, .int a2] sh g gl gr n (some (.int r)) sh go gl gr n := by
  refine MetI.of (by decide) (Nat.le_of_ble_eq_true rfl) ?_
  intro p e s m below meth c ls hx hb hr hml hown hts hlk hnm hW hK hR hS hl
  have hown : s.vm.findClass RX14 = some m.cls := hown
  have hF : CallFix p m c cX14_becomes 4 s ([.ref (adr G 128), .int a1, .int a2] : List Value).toArray lw_all RX14 := ⟨hx, hb, hml, hown, hts⟩
  have hl : lv_has ls 4 [(0, .ref (adr G 128)), (1, .int a1), (2, .int a2)] := hl
  unfold f_X14_becomes at h
  refine lv_aload_n hx hb dX14_becomes_0 rfl (lv_at hl 0 rfl) ?_
  refine r_getr hx hb hts cfX14 hown hK hR (sk_128 hSk) 2 (by decide) rfl (sr_128_2 hSk) (hts _ q1523) (fun _ h => h) dX14_becomes_1 ?_
  refine lv_iload_n hx hb dX14_becomes_4 rfl (lv_at hl 1 rfl) ?_
  obtain ⟨v2, e1, h⟩ := obd h
  refine r_ldi hx hb hK hR (sk_131 hSk) e1 dX14_becomes_5 ?_
  refine lv_istore_n (lv' := [(3, .int v2), (0, .ref (adr G 128)), (1, .int a1), (2, .int a2)]) hx hb dX14_becomes_6 rfl hl (by decide) rfl (fun ls hl => ?_)
  refine lv_aload_n hx hb dX14_becomes_7 rfl (lv_at hl 1 rfl) ?_
  refine r_getr hx hb hts cfX14 hown hK hR (sk_128 hSk) 2 (by decide) rfl (sr_128_2 hSk) (hts _ q1523) (fun _ h => h) dX14_becomes_8 ?_
  refine lv_iload_n hx hb dX14_becomes_11 rfl (lv_at hl 2 rfl) ?_
  refine lv_iload_n hx hb dX14_becomes_12 rfl (lv_at hl 3 rfl) ?_
  obtain ⟨g4, e3, h⟩ := obd h
  refine r_sti hx hb hK hR hS (sk_131 hSk) e3 dX14_becomes_13 (fun H locs hR hS => ?_)
  refine lv_iload_n hx hb dX14_becomes_14 rfl (lv_at hl 0 rfl) ?_
  obtain ⟨rfl, rfl⟩ := s2i h
  exact r_iret0 hx hb hr hlk hR hS (Nat.zero_le _) (Nat.zero_le _) dX14_becomes_15
def rm_X14_set : Room := { frames := 2, cells := 0, slots := 0, locals := 37 }
theorem hd_X14_set : yX14_set.cls = "IntentVatsModel" ∧ yX14_set.cls ≠ "java/lang/invoke/MethodHandle" ∧ yX14_set.cls ≠ "java/lang/invoke/VarHandle" ∧ (parseMethodDescriptor yX14_set.desc).map (fun d => d.parameters.length) = some 2 := by decide +kernel
theorem he_X14_set : yX14_set.cls ≠ "java/lang/invoke/MethodHandle" ∧ yX14_set.cls ≠ "java/lang/invoke/VarHandle" ∧ (parseMethodDescriptor yX14_set.desc).map (fun d => d.parameters.length) = some 2 := hd_X14_set.2

set_option maxHeartbeats 4000000 in
set_option maxRecDepth 100000 in
theorem w_X14_set {l : Launch} {G : Gx} {sh : SM} {g : GM} {gl : LM} {gr : RM} {n : Nat} (hSk : Sk sh gr) (a1 : Int32) (a2 : Int32)  {r : Int32} {go : GM} (h : f_X14_set g a1 a2 = some (r, go)) : MetI l G yX14_set (ws_ yX14_set cX14_set 3 (Option.some Jvm.ClassFile.FieldType.int)) rm_X14_set [.ref (adr G 128), .int a1, .int a2] sh g gl gr n (some (.int r)) sh go gl gr n := by
  refine MetI.of (by decide) (Nat.le_of_ble_eq_true rfl) ?_
  intro p e s m below meth c ls hx hb hr hml hown hts hlk hnm hW hK hR hS hl
  have hown : s.vm.findClass RX14 = some m.cls := hown
  have hF : CallFix p m c cX14_set 3 s ([.ref (adr G 128), .int a1, .int a2] : List Value).toArray lw_all RX14 := ⟨hx, hb, hml, hown, hts⟩
  have hl : lv_has ls 3 [(0, .ref (adr G 128)), (1, .int a1), (2, .int a2)] := hl
  unfold f_X14_set at h
  refine lv_iload_n hx hb dX14_set_0 rfl (lv_at hl 1 rfl) ?_
  refine lv_i2l hx hb dX14_set_1 rfl ?_
  refine lv_lconst (v := 0) hx hb dX14_set_2 rfl ?_
  refine lv_ldc2 (v := 3) hx hb hown (hts _ q1601) dX14_set_3 ?_
  obtain ⟨r2, e1, h⟩ := obd h
  refine rc_S0 (rest := []) (st1 := [.int r2]) hF (w_X14_in hSk a1.toInt64 0 3 e1) (va_cwS 3 hts (lw_S q1602 q1603 q117 q1604) rfl rfl rfl he_X14_in ⟨Nat.le_of_ble_eq_true rfl, Nat.le_of_ble_eq_true rfl⟩) hW hR hS rfl hl.1 rfl (Nat.le_of_ble_eq_true rfl) rfl dX14_set_6 ⟨rfl, rfl⟩ ⟨Nat.zero_le _, Nat.zero_le _⟩ (fun H locs hR hS => ?_)
  refine lv_if_ne (tgt := 14) hx hb dX14_set_9 (by decide) (fun c3 => ?_) (fun c3 => ?_)
  · replace h := ifn h c3
    refine lv_iload_n hx hb dX14_set_14 rfl (lv_at hl 2 rfl) ?_
    refine lv_i2l hx hb dX14_set_15 rfl ?_
    refine lv_lconst (v := 0) hx hb dX14_set_16 rfl ?_
    refine lv_aload_n hx hb dX14_set_17 rfl (lv_at hl 0 rfl) ?_
    refine r_getr hx hb hts cfX14 hown hK hR (sk_128 hSk) 0 (by decide) rfl (sr_128_0 hSk) (hts _ q1521) (fun _ h => h) dX14_set_18 ?_
    refine lv_iload_n hx hb dX14_set_21 rfl (lv_at hl 1 rfl) ?_
    obtain ⟨v5, e4, h⟩ := obd h
    refine r_ldi hx hb hK hR (sk_129 hSk) e4 dX14_set_22 ?_
    refine lv_i2l hx hb dX14_set_23 rfl ?_
    obtain ⟨r7, e6, h⟩ := obd h
    refine rc_S0 (rest := []) (st1 := [.int r7]) hF (w_X14_in hSk a2.toInt64 0 v5.toInt64 e6) (va_cwS 3 hts (lw_S q1602 q1603 q117 q1604) rfl rfl rfl he_X14_in ⟨Nat.le_of_ble_eq_true rfl, Nat.le_of_ble_eq_true rfl⟩) hW hR hS rfl hl.1 rfl (Nat.le_of_ble_eq_true rfl) rfl dX14_set_24 ⟨rfl, rfl⟩ ⟨Nat.zero_le _, Nat.zero_le _⟩ (fun H locs hR hS => ?_)
    have J40 : ∀ (x8 : Int32) (g9 : GM) (H : Heap) (locs : List Loc) (ls : Array Slot), Rep G sh g9 gl gr n H → va_S (own G) s.heap H locs → lv_has ls 3 [] → j_X14_set_40  x8 g9 = some (r, go) → W p l e rm_X14_set s m ([.ref (adr G 128), .int a1, .int a2] : List Value).toArray below meth c H locs 0 0 (MQ below (QR G (some (.int r)) sh go gl gr n) ([.ref (adr G 128), .int a1, .int a2] : List Value).toArray s rm_X14_set.cells rm_X14_set.slots (own G)) (F0 m 40 ls [.int x8]) := by
      intro x8 g9 H locs ls hR hS hl h
      unfold j_X14_set_40 at h
      obtain ⟨rfl, rfl⟩ := s2i h
      exact r_iret0 hx hb hr hlk hR hS (Nat.zero_le _) (Nat.zero_le _) dX14_set_40
    refine lv_if_eq (tgt := 39) hx hb dX14_set_27 (by decide) (fun c10 => ?_) (fun c10 => ?_)
    · replace h := ifp h c10
      refine lv_iconst (v := (-1)) hx hb dX14_set_39 ki_m1 ?_
      exact J40 (-1) g _ _ _ hR hS (lv_sub hl [] rfl) h
    · replace h := ifn h c10
      refine lv_aload_n hx hb dX14_set_30 rfl (lv_at hl 0 rfl) ?_
      refine lv_iload_n hx hb dX14_set_31 rfl (lv_at hl 1 rfl) ?_
      refine lv_iload_n hx hb dX14_set_32 rfl (lv_at hl 2 rfl) ?_
      obtain ⟨r12, g13, e11, h⟩ := obd2 h
      refine rc_V0 (rest := []) (st1 := [.int r12]) hF (w_X14_becomes hSk a1 a2 e11) (cwV 2 hts (lw_V q1605 q1607 qs44 q117 q1608) rfl rfl rfl hd_X14_becomes ⟨Nat.le_of_ble_eq_true rfl, Nat.le_of_ble_eq_true rfl⟩) cfX14 (sk_128 hSk) hK hW hR hS rfl hl.1 rfl (Nat.le_of_ble_eq_true rfl) rfl dX14_set_33 ⟨rfl, rfl⟩ ⟨Nat.zero_le _, Nat.zero_le _⟩ (fun H locs hR hS => ?_)
      refine lv_goto (tgt := 40) hx hb dX14_set_36 (by decide) ?_
      exact J40 r12 g13 _ _ _ hR hS (lv_sub hl [] rfl) h
  · replace h := ifp h c3
    refine lv_iconst (v := (-1)) hx hb dX14_set_12 ki_m1 ?_
    obtain ⟨rfl, rfl⟩ := s2i h
    exact r_iret0 hx hb hr hlk hR hS (Nat.zero_le _) (Nat.zero_le _) dX14_set_13
def rm_X14_lawOf : Room := { frames := 2, cells := 0, slots := 0, locals := 37 }
theorem hd_X14_lawOf : yX14_lawOf.cls = "IntentVatsModel" ∧ yX14_lawOf.cls ≠ "java/lang/invoke/MethodHandle" ∧ yX14_lawOf.cls ≠ "java/lang/invoke/VarHandle" ∧ (parseMethodDescriptor yX14_lawOf.desc).map (fun d => d.parameters.length) = some 1 := by decide +kernel
theorem he_X14_lawOf : yX14_lawOf.cls ≠ "java/lang/invoke/MethodHandle" ∧ yX14_lawOf.cls ≠ "java/lang/invoke/VarHandle" ∧ (parseMethodDescriptor yX14_lawOf.desc).map (fun d => d.parameters.length) = some 1 := hd_X14_lawOf.2

set_option maxHeartbeats 4000000 in
set_option maxRecDepth 100000 in
theorem w_X14_lawOf {l : Launch} {G : Gx} {sh : SM} {g : GM} {gl : LM} {gr : RM} {n : Nat} (hSk : Sk sh gr) (a1 : Int32)  {r : Int32} (h : f_X14_lawOf g a1 = some r) : MetI l G yX14_lawOf (ws_ yX14_lawOf cX14_lawOf 2 (Option.some Jvm.ClassFile.FieldType.int)) rm_X14_lawOf [.ref (adr G 128), .int a1] sh g gl gr n (some (.int r)) sh g gl gr n := by
  refine MetI.of (by decide) (Nat.le_of_ble_eq_true rfl) ?_
  intro p e s m below meth c ls hx hb hr hml hown hts hlk hnm hW hK hR hS hl
  have hown : s.vm.findClass RX14 = some m.cls := hown
  have hF : CallFix p m c cX14_lawOf 2 s ([.ref (adr G 128), .int a1] : List Value).toArray lw_all RX14 := ⟨hx, hb, hml, hown, hts⟩
  have hl : lv_has ls 2 [(0, .ref (adr G 128)), (1, .int a1)] := hl
  unfold f_X14_lawOf at h
  refine lv_iload_n hx hb dX14_lawOf_0 rfl (lv_at hl 1 rfl) ?_
  refine lv_i2l hx hb dX14_lawOf_1 rfl ?_
  refine lv_lconst (v := 0) hx hb dX14_lawOf_2 rfl ?_
  refine lv_ldc2 (v := 3) hx hb hown (hts _ q1601) dX14_lawOf_3 ?_
  obtain ⟨r2, e1, h⟩ := obd h
  refine rc_S0 (rest := []) (st1 := [.int r2]) hF (w_X14_in hSk a1.toInt64 0 3 e1) (va_cwS 3 hts (lw_S q1602 q1603 q117 q1604) rfl rfl rfl he_X14_in ⟨Nat.le_of_ble_eq_true rfl, Nat.le_of_ble_eq_true rfl⟩) hW hR hS rfl hl.1 rfl (Nat.le_of_ble_eq_true rfl) rfl dX14_lawOf_6 ⟨rfl, rfl⟩ ⟨Nat.zero_le _, Nat.zero_le _⟩ (fun H locs hR hS => ?_)
  have J22 : ∀ (x3 : Int32) (H : Heap) (locs : List Loc) (ls : Array Slot), Rep G sh g gl gr n H → va_S (own G) s.heap H locs → lv_has ls 2 [] → j_X14_lawOf_22  x3 = some r → W p l e rm_X14_lawOf s m ([.ref (adr G 128), .int a1] : List Value).toArray below meth c H locs 0 0 (MQ below (QR G (some (.int r)) sh g gl gr n) ([.ref (adr G 128), .int a1] : List Value).toArray s rm_X14_lawOf.cells rm_X14_lawOf.slots (own G)) (F0 m 22 ls [.int x3]) := by
    intro x3 H locs ls hR hS hl h
    unfold j_X14_lawOf_22 at h
    obtain rfl := s1i h
    exact r_iret0 hx hb hr hlk hR hS (Nat.zero_le _) (Nat.zero_le _) dX14_lawOf_22
  refine lv_if_eq (tgt := 21) hx hb dX14_lawOf_9 (by decide) (fun c4 => ?_) (fun c4 => ?_)
  · replace h := ifp h c4
    refine lv_iconst (v := (-1)) hx hb dX14_lawOf_21 ki_m1 ?_
    exact J22 (-1) _ _ _ hR hS (lv_sub hl [] rfl) h
  · replace h := ifn h c4
    refine lv_aload_n hx hb dX14_lawOf_12 rfl (lv_at hl 0 rfl) ?_
    refine r_getr hx hb hts cfX14 hown hK hR (sk_128 hSk) 2 (by decide) rfl (sr_128_2 hSk) (hts _ q1523) (fun _ h => h) dX14_lawOf_13 ?_
    refine lv_iload_n hx hb dX14_lawOf_16 rfl (lv_at hl 1 rfl) ?_
    obtain ⟨v6, e5, h⟩ := obd h
    refine r_ldi hx hb hK hR (sk_131 hSk) e5 dX14_lawOf_17 ?_
    refine lv_goto (tgt := 22) hx hb dX14_lawOf_18 (by decide) ?_
    exact J22 v6 _ _ _ hR hS (lv_sub hl [] rfl) h
def rm_X14_isVat : Room := { frames := 2, cells := 0, slots := 0, locals := 37 }
theorem he_X14_isVat : yX14_isVat.cls ≠ "java/lang/invoke/MethodHandle" ∧ yX14_isVat.cls ≠ "java/lang/invoke/VarHandle" ∧ (parseMethodDescriptor yX14_isVat.desc).map (fun d => d.parameters.length) = some 1 := by decide +kernel

set_option maxHeartbeats 4000000 in
set_option maxRecDepth 100000 in
theorem w_X14_isVat {l : Launch} {G : Gx} {sh : SM} {g : GM} {gl : LM} {gr : RM} {n : Nat} (hSk : Sk sh gr) (a0 : Int32)  {r : Int32} (h : f_X14_isVat  a0 = some r) : MetI l G yX14_isVat (ws_ yX14_isVat cX14_isVat 1 (Option.some Jvm.ClassFile.FieldType.boolean)) rm_X14_isVat [.int a0] sh g gl gr n (some (.int r)) sh g gl gr n := by
  refine MetI.of (by decide) (Nat.le_of_ble_eq_true rfl) ?_
  intro p e s m below meth c ls hx hb hr hml hown hts hlk hnm hW hK hR hS hl
  have hown : s.vm.findClass RX14 = some m.cls := hown
  have hF : CallFix p m c cX14_isVat 1 s ([.int a0] : List Value).toArray lw_all RX14 := ⟨hx, hb, hml, hown, hts⟩
  have hl : lv_has ls 1 [(0, .int a0)] := hl
  unfold f_X14_isVat at h
  refine lv_iload_n hx hb dX14_isVat_0 rfl (lv_at hl 0 rfl) ?_
  refine lv_i2l hx hb dX14_isVat_1 rfl ?_
  refine lv_lconst (v := 0) hx hb dX14_isVat_2 rfl ?_
  refine lv_ldc2 (v := 7) hx hb hown (hts _ q1620) dX14_isVat_3 ?_
  obtain ⟨r2, e1, h⟩ := obd h
  refine rc_S0 (rest := []) (st1 := [.int r2]) hF (w_X14_in hSk a0.toInt64 0 7 e1) (va_cwS 3 hts (lw_S q1602 q1603 q117 q1604) rfl rfl rfl he_X14_in ⟨Nat.le_of_ble_eq_true rfl, Nat.le_of_ble_eq_true rfl⟩) hW hR hS rfl hl.1 rfl (Nat.le_of_ble_eq_true rfl) rfl dX14_isVat_6 ⟨rfl, rfl⟩ ⟨Nat.zero_le _, Nat.zero_le _⟩ (fun H locs hR hS => ?_)
  obtain ⟨c3, h⟩ := ogrd h
  obtain rfl := s1i h
  exact r_zret0 hx hb hr hlk hR hS (Nat.zero_le _) (Nat.zero_le _) (nb01 c3) dX14_isVat_9
def rm_X14_fill : Room := { frames := 3, cells := 0, slots := 0, locals := 57 }
theorem hd_X14_fill : yX14_fill.cls = "IntentVatsModel" ∧ yX14_fill.cls ≠ "java/lang/invoke/MethodHandle" ∧ yX14_fill.cls ≠ "java/lang/invoke/VarHandle" ∧ (parseMethodDescriptor yX14_fill.desc).map (fun d => d.parameters.length) = some 3 := by decide +kernel
theorem he_X14_fill : yX14_fill.cls ≠ "java/lang/invoke/MethodHandle" ∧ yX14_fill.cls ≠ "java/lang/invoke/VarHandle" ∧ (parseMethodDescriptor yX14_fill.desc).map (fun d => d.parameters.length) = some 3 := hd_X14_fill.2

set_option maxHeartbeats 4000000 in
set_option maxRecDepth 100000 in
theorem w_X14_fill {l : Launch} {G : Gx} {sh : SM} {g : GM} {gl : LM} {gr : RM} {n : Nat} (hSk : Sk sh gr) (a1 : Int32) (a2 : Int32) (a3 : Int32)  {r : Int32} {go : GM} (h : f_X14_fill g a1 a2 a3 = some (r, go)) : MetI l G yX14_fill (ws_ yX14_fill cX14_fill 4 (Option.some Jvm.ClassFile.FieldType.int)) rm_X14_fill [.ref (adr G 128), .int a1, .int a2, .int a3] sh g gl gr n (some (.int r)) sh go gl gr n := by
  refine MetI.of (by decide) (Nat.le_of_ble_eq_true rfl) ?_
  intro p e s m below meth c ls hx hb hr hml hown hts hlk hnm hW hK hR hS hl
  have hown : s.vm.findClass RX14 = some m.cls := hown
  have hF : CallFix p m c cX14_fill 4 s ([.ref (adr G 128), .int a1, .int a2, .int a3] : List Value).toArray lw_all RX14 := ⟨hx, hb, hml, hown, hts⟩
  have hl : lv_has ls 4 [(0, .ref (adr G 128)), (1, .int a1), (2, .int a2), (3, .int a3)] := hl
  unfold f_X14_fill at h
  refine lv_iload_n hx hb dX14_fill_0 rfl (lv_at hl 1 rfl) ?_
  obtain ⟨r2, e1, h⟩ := obd h
  refine rc_S0 (rest := []) (st1 := [.int r2]) hF (w_X14_isVat hSk a1 e1) (va_cwS 1 hts (lw_S q1617 q1618 q117 q1619) rfl rfl rfl he_X14_isVat ⟨Nat.le_of_ble_eq_true rfl, Nat.le_of_ble_eq_true rfl⟩) hW hR hS rfl hl.1 rfl (Nat.le_of_ble_eq_true rfl) rfl dX14_fill_1 ⟨rfl, rfl⟩ ⟨Nat.zero_le _, Nat.zero_le _⟩ (fun H locs hR hS => ?_)
  have J47 : ∀ (x3 : Int32) (g4 : GM) (H : Heap) (locs : List Loc) (ls : Array Slot), Rep G sh g4 gl gr n H → va_S (own G) s.heap H locs → lv_has ls 4 [] → j_X14_fill_47  x3 g4 = some (r, go) → W p l e rm_X14_fill s m ([.ref (adr G 128), .int a1, .int a2, .int a3] : List Value).toArray below meth c H locs 0 0 (MQ below (QR G (some (.int r)) sh go gl gr n) ([.ref (adr G 128), .int a1, .int a2, .int a3] : List Value).toArray s rm_X14_fill.cells rm_X14_fill.slots (own G)) (F0 m 47 ls [.int x3]) := by
    intro x3 g4 H locs ls hR hS hl h
    unfold j_X14_fill_47 at h
    obtain ⟨rfl, rfl⟩ := s2i h
    exact r_iret0 hx hb hr hlk hR hS (Nat.zero_le _) (Nat.zero_le _) dX14_fill_47
  have J46 : ∀  (H : Heap) (locs : List Loc) (ls : Array Slot), Rep G sh g gl gr n H → va_S (own G) s.heap H locs → lv_has ls 4 [] → j_X14_fill_46 g  = some (r, go) → W p l e rm_X14_fill s m ([.ref (adr G 128), .int a1, .int a2, .int a3] : List Value).toArray below meth c H locs 0 0 (MQ below (QR G (some (.int r)) sh go gl gr n) ([.ref (adr G 128), .int a1, .int a2, .int a3] : List Value).toArray s rm_X14_fill.cells rm_X14_fill.slots (own G)) (F0 m 46 ls []) := by
    intro  H locs ls hR hS hl h
    unfold j_X14_fill_46 at h
    refine lv_iconst (v := (-1)) hx hb dX14_fill_46 ki_m1 ?_
    exact J47 (-1) g _ _ _ hR hS (lv_sub hl [] rfl) h
  refine lv_if_eq (tgt := 46) hx hb dX14_fill_4 (by decide) (fun c5 => ?_) (fun c5 => ?_)
  · replace h := ifp h c5
    exact J46  _ _ _ hR hS (lv_sub hl [] rfl) h
  · replace h := ifn h c5
    refine lv_iload_n hx hb dX14_fill_7 rfl (lv_at hl 2 rfl) ?_
    refine lv_i2l hx hb dX14_fill_8 rfl ?_
    refine lv_lconst (v := 0) hx hb dX14_fill_9 rfl ?_
    refine lv_lconst (v := 1) hx hb dX14_fill_10 rfl ?_
    obtain ⟨r7, e6, h⟩ := obd h
    refine rc_S0 (rest := []) (st1 := [.int r7]) hF (w_X14_in hSk a2.toInt64 0 1 e6) (va_cwS 3 hts (lw_S q1602 q1603 q117 q1604) rfl rfl rfl he_X14_in ⟨Nat.le_of_ble_eq_true rfl, Nat.le_of_ble_eq_true rfl⟩) hW hR hS rfl hl.1 rfl (Nat.le_of_ble_eq_true rfl) rfl dX14_fill_11 ⟨rfl, rfl⟩ ⟨Nat.zero_le _, Nat.zero_le _⟩ (fun H locs hR hS => ?_)
    refine lv_if_eq (tgt := 46) hx hb dX14_fill_14 (by decide) (fun c8 => ?_) (fun c8 => ?_)
    · replace h := ifp h c8
      exact J46  _ _ _ hR hS (lv_sub hl [] rfl) h
    · replace h := ifn h c8
      refine lv_iload_n hx hb dX14_fill_17 rfl (lv_at hl 3 rfl) ?_
      refine lv_i2l hx hb dX14_fill_18 rfl ?_
      refine lv_lconst (v := 0) hx hb dX14_fill_19 rfl ?_
      refine lv_ldc2 (v := 9) hx hb hown (hts _ q1621) dX14_fill_20 ?_
      obtain ⟨r10, e9, h⟩ := obd h
      refine rc_S0 (rest := []) (st1 := [.int r10]) hF (w_X14_in hSk a3.toInt64 0 9 e9) (va_cwS 3 hts (lw_S q1602 q1603 q117 q1604) rfl rfl rfl he_X14_in ⟨Nat.le_of_ble_eq_true rfl, Nat.le_of_ble_eq_true rfl⟩) hW hR hS rfl hl.1 rfl (Nat.le_of_ble_eq_true rfl) rfl dX14_fill_23 ⟨rfl, rfl⟩ ⟨Nat.zero_le _, Nat.zero_le _⟩ (fun H locs hR hS => ?_)
      refine lv_if_eq (tgt := 46) hx hb dX14_fill_26 (by decide) (fun c11 => ?_) (fun c11 => ?_)
      · replace h := ifp h c11
        exact J46  _ _ _ hR hS (lv_sub hl [] rfl) h
      · replace h := ifn h c11
        refine lv_aload_n hx hb dX14_fill_29 rfl (lv_at hl 0 rfl) ?_
        refine lv_bipush (v := 7) hx hb dX14_fill_30 kb_7 ?_
        refine lv_bipush (v := 8) hx hb dX14_fill_32 kb_8 ?_
        refine lv_iload_n hx hb dX14_fill_34 rfl (lv_at hl 2 rfl) ?_
        refine lv_imul hx hb dX14_fill_35 ?_
        refine lv_iadd hx hb dX14_fill_36 ?_
        refine lv_iload_n hx hb dX14_fill_37 rfl (lv_at hl 1 rfl) ?_
        refine lv_iadd hx hb dX14_fill_38 ?_
        refine lv_iload_n hx hb dX14_fill_39 rfl (lv_at hl 3 rfl) ?_
        obtain ⟨r13, g14, e12, h⟩ := obd2 h
        refine rc_V0 (rest := []) (st1 := [.int r13]) hF (w_X14_becomes hSk ((7 + (8 * a2)) + a1) a3 e12) (cwV 2 hts (lw_V q1605 q1607 qs44 q117 q1608) rfl rfl rfl hd_X14_becomes ⟨Nat.le_of_ble_eq_true rfl, Nat.le_of_ble_eq_true rfl⟩) cfX14 (sk_128 hSk) hK hW hR hS rfl hl.1 rfl (Nat.le_of_ble_eq_true rfl) rfl dX14_fill_40 ⟨rfl, rfl⟩ ⟨Nat.zero_le _, Nat.zero_le _⟩ (fun H locs hR hS => ?_)
        refine lv_goto (tgt := 47) hx hb dX14_fill_43 (by decide) ?_
        exact J47 r13 g14 _ _ _ hR hS (lv_sub hl [] rfl) h
def rm_X14_vatOf : Room := { frames := 3, cells := 0, slots := 0, locals := 57 }
theorem hd_X14_vatOf : yX14_vatOf.cls = "IntentVatsModel" ∧ yX14_vatOf.cls ≠ "java/lang/invoke/MethodHandle" ∧ yX14_vatOf.cls ≠ "java/lang/invoke/VarHandle" ∧ (parseMethodDescriptor yX14_vatOf.desc).map (fun d => d.parameters.length) = some 2 := by decide +kernel
theorem he_X14_vatOf : yX14_vatOf.cls ≠ "java/lang/invoke/MethodHandle" ∧ yX14_vatOf.cls ≠ "java/lang/invoke/VarHandle" ∧ (parseMethodDescriptor yX14_vatOf.desc).map (fun d => d.parameters.length) = some 2 := hd_X14_vatOf.2

set_option maxHeartbeats 4000000 in
set_option maxRecDepth 100000 in
theorem w_X14_vatOf {l : Launch} {G : Gx} {sh : SM} {g : GM} {gl : LM} {gr : RM} {n : Nat} (hSk : Sk sh gr) (a1 : Int32) (a2 : Int32)  {r : Int32} (h : f_X14_vatOf g a1 a2 = some r) : MetI l G yX14_vatOf (ws_ yX14_vatOf cX14_vatOf 3 (Option.some Jvm.ClassFile.FieldType.int)) rm_X14_vatOf [.ref (adr G 128), .int a1, .int a2] sh g gl gr n (some (.int r)) sh g gl gr n := by
  refine MetI.of (by decide) (Nat.le_of_ble_eq_true rfl) ?_
  intro p e s m below meth c ls hx hb hr hml hown hts hlk hnm hW hK hR hS hl
  have hown : s.vm.findClass RX14 = some m.cls := hown
  have hF : CallFix p m c cX14_vatOf 3 s ([.ref (adr G 128), .int a1, .int a2] : List Value).toArray lw_all RX14 := ⟨hx, hb, hml, hown, hts⟩
  have hl : lv_has ls 3 [(0, .ref (adr G 128)), (1, .int a1), (2, .int a2)] := hl
  unfold f_X14_vatOf at h
  refine lv_iload_n hx hb dX14_vatOf_0 rfl (lv_at hl 1 rfl) ?_
  obtain ⟨r2, e1, h⟩ := obd h
  refine rc_S0 (rest := []) (st1 := [.int r2]) hF (w_X14_isVat hSk a1 e1) (va_cwS 1 hts (lw_S q1617 q1618 q117 q1619) rfl rfl rfl he_X14_isVat ⟨Nat.le_of_ble_eq_true rfl, Nat.le_of_ble_eq_true rfl⟩) hW hR hS rfl hl.1 rfl (Nat.le_of_ble_eq_true rfl) rfl dX14_vatOf_1 ⟨rfl, rfl⟩ ⟨Nat.zero_le _, Nat.zero_le _⟩ (fun H locs hR hS => ?_)
  have J35 : ∀ (x3 : Int32) (H : Heap) (locs : List Loc) (ls : Array Slot), Rep G sh g gl gr n H → va_S (own G) s.heap H locs → lv_has ls 3 [] → j_X14_vatOf_35  x3 = some r → W p l e rm_X14_vatOf s m ([.ref (adr G 128), .int a1, .int a2] : List Value).toArray below meth c H locs 0 0 (MQ below (QR G (some (.int r)) sh g gl gr n) ([.ref (adr G 128), .int a1, .int a2] : List Value).toArray s rm_X14_vatOf.cells rm_X14_vatOf.slots (own G)) (F0 m 35 ls [.int x3]) := by
    intro x3 H locs ls hR hS hl h
    unfold j_X14_vatOf_35 at h
    obtain rfl := s1i h
    exact r_iret0 hx hb hr hlk hR hS (Nat.zero_le _) (Nat.zero_le _) dX14_vatOf_35
  have J34 : ∀  (H : Heap) (locs : List Loc) (ls : Array Slot), Rep G sh g gl gr n H → va_S (own G) s.heap H locs → lv_has ls 3 [] → j_X14_vatOf_34   = some r → W p l e rm_X14_vatOf s m ([.ref (adr G 128), .int a1, .int a2] : List Value).toArray below meth c H locs 0 0 (MQ below (QR G (some (.int r)) sh g gl gr n) ([.ref (adr G 128), .int a1, .int a2] : List Value).toArray s rm_X14_vatOf.cells rm_X14_vatOf.slots (own G)) (F0 m 34 ls []) := by
    intro  H locs ls hR hS hl h
    unfold j_X14_vatOf_34 at h
    refine lv_iconst (v := (-1)) hx hb dX14_vatOf_34 ki_m1 ?_
    exact J35 (-1) _ _ _ hR hS (lv_sub hl [] rfl) h
  refine lv_if_eq (tgt := 34) hx hb dX14_vatOf_4 (by decide) (fun c4 => ?_) (fun c4 => ?_)
  · replace h := ifp h c4
    exact J34  _ _ _ hR hS (lv_sub hl [] rfl) h
  · replace h := ifn h c4
    refine lv_iload_n hx hb dX14_vatOf_7 rfl (lv_at hl 2 rfl) ?_
    refine lv_i2l hx hb dX14_vatOf_8 rfl ?_
    refine lv_lconst (v := 0) hx hb dX14_vatOf_9 rfl ?_
    refine lv_lconst (v := 1) hx hb dX14_vatOf_10 rfl ?_
    obtain ⟨r6, e5, h⟩ := obd h
    refine rc_S0 (rest := []) (st1 := [.int r6]) hF (w_X14_in hSk a2.toInt64 0 1 e5) (va_cwS 3 hts (lw_S q1602 q1603 q117 q1604) rfl rfl rfl he_X14_in ⟨Nat.le_of_ble_eq_true rfl, Nat.le_of_ble_eq_true rfl⟩) hW hR hS rfl hl.1 rfl (Nat.le_of_ble_eq_true rfl) rfl dX14_vatOf_11 ⟨rfl, rfl⟩ ⟨Nat.zero_le _, Nat.zero_le _⟩ (fun H locs hR hS => ?_)
    refine lv_if_eq (tgt := 34) hx hb dX14_vatOf_14 (by decide) (fun c7 => ?_) (fun c7 => ?_)
    · replace h := ifp h c7
      exact J34  _ _ _ hR hS (lv_sub hl [] rfl) h
    · replace h := ifn h c7
      refine lv_aload_n hx hb dX14_vatOf_17 rfl (lv_at hl 0 rfl) ?_
      refine r_getr hx hb hts cfX14 hown hK hR (sk_128 hSk) 2 (by decide) rfl (sr_128_2 hSk) (hts _ q1523) (fun _ h => h) dX14_vatOf_18 ?_
      refine lv_bipush (v := 7) hx hb dX14_vatOf_21 kb_7 ?_
      refine lv_bipush (v := 8) hx hb dX14_vatOf_23 kb_8 ?_
      refine lv_iload_n hx hb dX14_vatOf_25 rfl (lv_at hl 2 rfl) ?_
      refine lv_imul hx hb dX14_vatOf_26 ?_
      refine lv_iadd hx hb dX14_vatOf_27 ?_
      refine lv_iload_n hx hb dX14_vatOf_28 rfl (lv_at hl 1 rfl) ?_
      refine lv_iadd hx hb dX14_vatOf_29 ?_
      obtain ⟨v9, e8, h⟩ := obd h
      refine r_ldi hx hb hK hR (sk_131 hSk) e8 dX14_vatOf_30 ?_
      refine lv_goto (tgt := 35) hx hb dX14_vatOf_31 (by decide) ?_
      exact J35 v9 _ _ _ hR hS (lv_sub hl [] rfl) h
def rm_X14_isRest : Room := { frames := 2, cells := 0, slots := 0, locals := 37 }
theorem he_X14_isRest : yX14_isRest.cls ≠ "java/lang/invoke/MethodHandle" ∧ yX14_isRest.cls ≠ "java/lang/invoke/VarHandle" ∧ (parseMethodDescriptor yX14_isRest.desc).map (fun d => d.parameters.length) = some 1 := by decide +kernel

set_option maxHeartbeats 4000000 in
set_option maxRecDepth 100000 in
theorem w_X14_isRest {l : Launch} {G : Gx} {sh : SM} {g : GM} {gl : LM} {gr : RM} {n : Nat} (hSk : Sk sh gr) (a0 : Int32)  {r : Int32} (h : f_X14_isRest  a0 = some r) : MetI l G yX14_isRest (ws_ yX14_isRest cX14_isRest 1 (Option.some Jvm.ClassFile.FieldType.boolean)) rm_X14_isRest [.int a0] sh g gl gr n (some (.int r)) sh g gl gr n := by
  refine MetI.of (by decide) (Nat.le_of_ble_eq_true rfl) ?_
  intro p e s m below meth c ls hx hb hr hml hown hts hlk hnm hW hK hR hS hl
  have hown : s.vm.findClass RX14 = some m.cls := hown
  have hF : CallFix p m c cX14_isRest 1 s ([.int a0] : List Value).toArray lw_all RX14 := ⟨hx, hb, hml, hown, hts⟩
  have hl : lv_has ls 1 [(0, .int a0)] := hl
  unfold f_X14_isRest at h
  refine lv_iload_n hx hb dX14_isRest_0 rfl (lv_at hl 0 rfl) ?_
  refine lv_i2l hx hb dX14_isRest_1 rfl ?_
  refine lv_lconst (v := 0) hx hb dX14_isRest_2 rfl ?_
  refine lv_ldc2 (v := 5) hx hb hown (hts _ q1633) dX14_isRest_3 ?_
  obtain ⟨r2, e1, h⟩ := obd h
  refine rc_S0 (rest := []) (st1 := [.int r2]) hF (w_X14_in hSk a0.toInt64 0 5 e1) (va_cwS 3 hts (lw_S q1602 q1603 q117 q1604) rfl rfl rfl he_X14_in ⟨Nat.le_of_ble_eq_true rfl, Nat.le_of_ble_eq_true rfl⟩) hW hR hS rfl hl.1 rfl (Nat.le_of_ble_eq_true rfl) rfl dX14_isRest_6 ⟨rfl, rfl⟩ ⟨Nat.zero_le _, Nat.zero_le _⟩ (fun H locs hR hS => ?_)
  obtain ⟨c3, h⟩ := ogrd h
  obtain rfl := s1i h
  exact r_zret0 hx hb hr hlk hR hS (Nat.zero_le _) (Nat.zero_le _) (nb01 c3) dX14_isRest_9
def rm_X14_roster : Room := { frames := 3, cells := 0, slots := 0, locals := 57 }
theorem hd_X14_roster : yX14_roster.cls = "IntentVatsModel" ∧ yX14_roster.cls ≠ "java/lang/invoke/MethodHandle" ∧ yX14_roster.cls ≠ "java/lang/invoke/VarHandle" ∧ (parseMethodDescriptor yX14_roster.desc).map (fun d => d.parameters.length) = some 2 := by decide +kernel
theorem he_X14_roster : yX14_roster.cls ≠ "java/lang/invoke/MethodHandle" ∧ yX14_roster.cls ≠ "java/lang/invoke/VarHandle" ∧ (parseMethodDescriptor yX14_roster.desc).map (fun d => d.parameters.length) = some 2 := hd_X14_roster.2

set_option maxHeartbeats 4000000 in
set_option maxRecDepth 100000 in
theorem w_X14_roster {l : Launch} {G : Gx} {sh : SM} {g : GM} {gl : LM} {gr : RM} {n : Nat} (hSk : Sk sh gr) (a1 : Int32) (a2 : Int32)  {r : Int32} {go : GM} (h : f_X14_roster g a1 a2 = some (r, go)) : MetI l G yX14_roster (ws_ yX14_roster cX14_roster 3 (Option.some Jvm.ClassFile.FieldType.int)) rm_X14_roster [.ref (adr G 128), .int a1, .int a2] sh g gl gr n (some (.int r)) sh go gl gr n := by
  refine MetI.of (by decide) (Nat.le_of_ble_eq_true rfl) ?_
  intro p e s m below meth c ls hx hb hr hml hown hts hlk hnm hW hK hR hS hl
  have hown : s.vm.findClass RX14 = some m.cls := hown
  have hF : CallFix p m c cX14_roster 3 s ([.ref (adr G 128), .int a1, .int a2] : List Value).toArray lw_all RX14 := ⟨hx, hb, hml, hown, hts⟩
  have hl : lv_has ls 3 [(0, .ref (adr G 128)), (1, .int a1), (2, .int a2)] := hl
  unfold f_X14_roster at h
  refine lv_iload_n hx hb dX14_roster_0 rfl (lv_at hl 1 rfl) ?_
  obtain ⟨r2, e1, h⟩ := obd h
  refine rc_S0 (rest := []) (st1 := [.int r2]) hF (w_X14_isRest hSk a1 e1) (va_cwS 1 hts (lw_S q1630 q1631 q117 q1632) rfl rfl rfl he_X14_isRest ⟨Nat.le_of_ble_eq_true rfl, Nat.le_of_ble_eq_true rfl⟩) hW hR hS rfl hl.1 rfl (Nat.le_of_ble_eq_true rfl) rfl dX14_roster_1 ⟨rfl, rfl⟩ ⟨Nat.zero_le _, Nat.zero_le _⟩ (fun H locs hR hS => ?_)
  have J34 : ∀ (x3 : Int32) (g4 : GM) (H : Heap) (locs : List Loc) (ls : Array Slot), Rep G sh g4 gl gr n H → va_S (own G) s.heap H locs → lv_has ls 3 [] → j_X14_roster_34  x3 g4 = some (r, go) → W p l e rm_X14_roster s m ([.ref (adr G 128), .int a1, .int a2] : List Value).toArray below meth c H locs 0 0 (MQ below (QR G (some (.int r)) sh go gl gr n) ([.ref (adr G 128), .int a1, .int a2] : List Value).toArray s rm_X14_roster.cells rm_X14_roster.slots (own G)) (F0 m 34 ls [.int x3]) := by
    intro x3 g4 H locs ls hR hS hl h
    unfold j_X14_roster_34 at h
    obtain ⟨rfl, rfl⟩ := s2i h
    exact r_iret0 hx hb hr hlk hR hS (Nat.zero_le _) (Nat.zero_le _) dX14_roster_34
  have J33 : ∀  (H : Heap) (locs : List Loc) (ls : Array Slot), Rep G sh g gl gr n H → va_S (own G) s.heap H locs → lv_has ls 3 [] → j_X14_roster_33 g  = some (r, go) → W p l e rm_X14_roster s m ([.ref (adr G 128), .int a1, .int a2] : List Value).toArray below meth c H locs 0 0 (MQ below (QR G (some (.int r)) sh go gl gr n) ([.ref (adr G 128), .int a1, .int a2] : List Value).toArray s rm_X14_roster.cells rm_X14_roster.slots (own G)) (F0 m 33 ls []) := by
    intro  H locs ls hR hS hl h
    unfold j_X14_roster_33 at h
    refine lv_iconst (v := (-1)) hx hb dX14_roster_33 ki_m1 ?_
    exact J34 (-1) g _ _ _ hR hS (lv_sub hl [] rfl) h
  refine lv_if_eq (tgt := 33) hx hb dX14_roster_4 (by decide) (fun c5 => ?_) (fun c5 => ?_)
  · replace h := ifp h c5
    exact J33  _ _ _ hR hS (lv_sub hl [] rfl) h
  · replace h := ifn h c5
    refine lv_iload_n hx hb dX14_roster_7 rfl (lv_at hl 2 rfl) ?_
    refine lv_iconst (v := (-1)) hx hb dX14_roster_8 ki_m1 ?_
    have J19 : ∀  (H : Heap) (locs : List Loc) (ls : Array Slot), Rep G sh g gl gr n H → va_S (own G) s.heap H locs → lv_has ls 3 [(0, .ref (adr G 128)), (1, .int a1), (2, .int a2)] → j_X14_roster_19 g a1 a2  = some (r, go) → W p l e rm_X14_roster s m ([.ref (adr G 128), .int a1, .int a2] : List Value).toArray below meth c H locs 0 0 (MQ below (QR G (some (.int r)) sh go gl gr n) ([.ref (adr G 128), .int a1, .int a2] : List Value).toArray s rm_X14_roster.cells rm_X14_roster.slots (own G)) (F0 m 19 ls []) := by
      intro  H locs ls hR hS hl h
      unfold j_X14_roster_19 at h
      refine lv_iconst (v := 1) hx hb dX14_roster_19 ki_1 ?_
      refine lv_aload_n hx hb dX14_roster_20 rfl (lv_at hl 0 rfl) ?_
      refine lv_bipush (v := 23) hx hb dX14_roster_21 kb_23 ?_
      refine lv_iload_n hx hb dX14_roster_23 rfl (lv_at hl 1 rfl) ?_
      refine lv_iadd hx hb dX14_roster_24 ?_
      refine lv_iload_n hx hb dX14_roster_25 rfl (lv_at hl 2 rfl) ?_
      obtain ⟨r7, g8, e6, h⟩ := obd2 h
      refine rc_V0 (rest := [.int 1]) (st1 := [.int r7, .int 1]) hF (w_X14_becomes hSk (23 + a1) a2 e6) (cwV 2 hts (lw_V q1605 q1607 qs44 q117 q1608) rfl rfl rfl hd_X14_becomes ⟨Nat.le_of_ble_eq_true rfl, Nat.le_of_ble_eq_true rfl⟩) cfX14 (sk_128 hSk) hK hW hR hS rfl hl.1 rfl (Nat.le_of_ble_eq_true rfl) rfl dX14_roster_26 ⟨rfl, rfl⟩ ⟨Nat.zero_le _, Nat.zero_le _⟩ (fun H locs hR hS => ?_)
      refine lv_iadd hx hb dX14_roster_29 ?_
      refine lv_goto (tgt := 34) hx hb dX14_roster_30 (by decide) ?_
      exact J34 (1 + r7) g8 _ _ _ hR hS (lv_sub hl [] rfl) h
    refine lv_icmp_eq (tgt := 19) hx hb dX14_roster_9 (by decide) (fun c9 => ?_) (fun c9 => ?_)
    · replace h := ifp h c9
      exact J19  _ _ _ hR hS (lv_sub hl [0, 1, 2] rfl) h
    · replace h := ifn h c9
      refine lv_iload_n hx hb dX14_roster_12 rfl (lv_at hl 2 rfl) ?_
      obtain ⟨r11, e10, h⟩ := obd h
      refine rc_S0 (rest := []) (st1 := [.int r11]) hF (w_X14_isVat hSk a2 e10) (va_cwS 1 hts (lw_S q1617 q1618 q117 q1619) rfl rfl rfl he_X14_isVat ⟨Nat.le_of_ble_eq_true rfl, Nat.le_of_ble_eq_true rfl⟩) hW hR hS rfl hl.1 rfl (Nat.le_of_ble_eq_true rfl) rfl dX14_roster_13 ⟨rfl, rfl⟩ ⟨Nat.zero_le _, Nat.zero_le _⟩ (fun H locs hR hS => ?_)
      refine lv_if_eq (tgt := 33) hx hb dX14_roster_16 (by decide) (fun c12 => ?_) (fun c12 => ?_)
      · replace h := ifp h c12
        exact J33  _ _ _ hR hS (lv_sub hl [] rfl) h
      · replace h := ifn h c12
        exact J19  _ _ _ hR hS (lv_sub hl [0, 1, 2] rfl) h
def rm_X14_rosterOf : Room := { frames := 3, cells := 0, slots := 0, locals := 57 }
theorem hd_X14_rosterOf : yX14_rosterOf.cls = "IntentVatsModel" ∧ yX14_rosterOf.cls ≠ "java/lang/invoke/MethodHandle" ∧ yX14_rosterOf.cls ≠ "java/lang/invoke/VarHandle" ∧ (parseMethodDescriptor yX14_rosterOf.desc).map (fun d => d.parameters.length) = some 1 := by decide +kernel
theorem he_X14_rosterOf : yX14_rosterOf.cls ≠ "java/lang/invoke/MethodHandle" ∧ yX14_rosterOf.cls ≠ "java/lang/invoke/VarHandle" ∧ (parseMethodDescriptor yX14_rosterOf.desc).map (fun d => d.parameters.length) = some 1 := hd_X14_rosterOf.2

set_option maxHeartbeats 4000000 in
set_option maxRecDepth 100000 in
theorem w_X14_rosterOf {l : Launch} {G : Gx} {sh : SM} {g : GM} {gl : LM} {gr : RM} {n : Nat} (hSk : Sk sh gr) (a1 : Int32)  {r : Int32} (h : f_X14_rosterOf g a1 = some r) : MetI l G yX14_rosterOf (ws_ yX14_rosterOf cX14_rosterOf 2 (Option.some Jvm.ClassFile.FieldType.int)) rm_X14_rosterOf [.ref (adr G 128), .int a1] sh g gl gr n (some (.int r)) sh g gl gr n := by
  refine MetI.of (by decide) (Nat.le_of_ble_eq_true rfl) ?_
  intro p e s m below meth c ls hx hb hr hml hown hts hlk hnm hW hK hR hS hl
  have hown : s.vm.findClass RX14 = some m.cls := hown
  have hF : CallFix p m c cX14_rosterOf 2 s ([.ref (adr G 128), .int a1] : List Value).toArray lw_all RX14 := ⟨hx, hb, hml, hown, hts⟩
  have hl : lv_has ls 2 [(0, .ref (adr G 128)), (1, .int a1)] := hl
  unfold f_X14_rosterOf at h
  refine lv_iload_n hx hb dX14_rosterOf_0 rfl (lv_at hl 1 rfl) ?_
  obtain ⟨r2, e1, h⟩ := obd h
  refine rc_S0 (rest := []) (st1 := [.int r2]) hF (w_X14_isRest hSk a1 e1) (va_cwS 1 hts (lw_S q1630 q1631 q117 q1632) rfl rfl rfl he_X14_isRest ⟨Nat.le_of_ble_eq_true rfl, Nat.le_of_ble_eq_true rfl⟩) hW hR hS rfl hl.1 rfl (Nat.le_of_ble_eq_true rfl) rfl dX14_rosterOf_1 ⟨rfl, rfl⟩ ⟨Nat.zero_le _, Nat.zero_le _⟩ (fun H locs hR hS => ?_)
  have J22 : ∀ (x3 : Int32) (H : Heap) (locs : List Loc) (ls : Array Slot), Rep G sh g gl gr n H → va_S (own G) s.heap H locs → lv_has ls 2 [] → j_X14_rosterOf_22  x3 = some r → W p l e rm_X14_rosterOf s m ([.ref (adr G 128), .int a1] : List Value).toArray below meth c H locs 0 0 (MQ below (QR G (some (.int r)) sh g gl gr n) ([.ref (adr G 128), .int a1] : List Value).toArray s rm_X14_rosterOf.cells rm_X14_rosterOf.slots (own G)) (F0 m 22 ls [.int x3]) := by
    intro x3 H locs ls hR hS hl h
    unfold j_X14_rosterOf_22 at h
    obtain rfl := s1i h
    exact r_iret0 hx hb hr hlk hR hS (Nat.zero_le _) (Nat.zero_le _) dX14_rosterOf_22
  refine lv_if_eq (tgt := 21) hx hb dX14_rosterOf_4 (by decide) (fun c4 => ?_) (fun c4 => ?_)
  · replace h := ifp h c4
    refine lv_iconst (v := (-1)) hx hb dX14_rosterOf_21 ki_m1 ?_
    exact J22 (-1) _ _ _ hR hS (lv_sub hl [] rfl) h
  · replace h := ifn h c4
    refine lv_iconst (v := 1) hx hb dX14_rosterOf_7 ki_1 ?_
    refine lv_aload_n hx hb dX14_rosterOf_8 rfl (lv_at hl 0 rfl) ?_
    refine r_getr hx hb hts cfX14 hown hK hR (sk_128 hSk) 2 (by decide) rfl (sr_128_2 hSk) (hts _ q1523) (fun _ h => h) dX14_rosterOf_9 ?_
    refine lv_bipush (v := 23) hx hb dX14_rosterOf_12 kb_23 ?_
    refine lv_iload_n hx hb dX14_rosterOf_14 rfl (lv_at hl 1 rfl) ?_
    refine lv_iadd hx hb dX14_rosterOf_15 ?_
    obtain ⟨v6, e5, h⟩ := obd h
    refine r_ldi hx hb hK hR (sk_131 hSk) e5 dX14_rosterOf_16 ?_
    refine lv_iadd hx hb dX14_rosterOf_17 ?_
    refine lv_goto (tgt := 22) hx hb dX14_rosterOf_18 (by decide) ?_
    exact J22 (1 + v6) _ _ _ hR hS (lv_sub hl [] rfl) h
def rm_X14_isKind : Room := { frames := 2, cells := 0, slots := 0, locals := 37 }
theorem he_X14_isKind : yX14_isKind.cls ≠ "java/lang/invoke/MethodHandle" ∧ yX14_isKind.cls ≠ "java/lang/invoke/VarHandle" ∧ (parseMethodDescriptor yX14_isKind.desc).map (fun d => d.parameters.length) = some 1 := by decide +kernel

set_option maxHeartbeats 4000000 in
set_option maxRecDepth 100000 in
theorem w_X14_isKind {l : Launch} {G : Gx} {sh : SM} {g : GM} {gl : LM} {gr : RM} {n : Nat} (hSk : Sk sh gr) (a0 : Int32)  {r : Int32} (h : f_X14_isKind  a0 = some r) : MetI l G yX14_isKind (ws_ yX14_isKind cX14_isKind 1 (Option.some Jvm.ClassFile.FieldType.boolean)) rm_X14_isKind [.int a0] sh g gl gr n (some (.int r)) sh g gl gr n := by
  refine MetI.of (by decide) (Nat.le_of_ble_eq_true rfl) ?_
  intro p e s m below meth c ls hx hb hr hml hown hts hlk hnm hW hK hR hS hl
  have hown : s.vm.findClass RX14 = some m.cls := hown
  have hF : CallFix p m c cX14_isKind 1 s ([.int a0] : List Value).toArray lw_all RX14 := ⟨hx, hb, hml, hown, hts⟩
  have hl : lv_has ls 1 [(0, .int a0)] := hl
  unfold f_X14_isKind at h
  refine lv_iload_n hx hb dX14_isKind_0 rfl (lv_at hl 0 rfl) ?_
  refine lv_i2l hx hb dX14_isKind_1 rfl ?_
  refine lv_lconst (v := 0) hx hb dX14_isKind_2 rfl ?_
  refine lv_ldc2 (v := 5) hx hb hown (hts _ q1633) dX14_isKind_3 ?_
  obtain ⟨r2, e1, h⟩ := obd h
  refine rc_S0 (rest := []) (st1 := [.int r2]) hF (w_X14_in hSk a0.toInt64 0 5 e1) (va_cwS 3 hts (lw_S q1602 q1603 q117 q1604) rfl rfl rfl he_X14_in ⟨Nat.le_of_ble_eq_true rfl, Nat.le_of_ble_eq_true rfl⟩) hW hR hS rfl hl.1 rfl (Nat.le_of_ble_eq_true rfl) rfl dX14_isKind_6 ⟨rfl, rfl⟩ ⟨Nat.zero_le _, Nat.zero_le _⟩ (fun H locs hR hS => ?_)
  obtain ⟨c3, h⟩ := ogrd h
  obtain rfl := s1i h
  exact r_zret0 hx hb hr hlk hR hS (Nat.zero_le _) (Nat.zero_le _) (nb01 c3) dX14_isKind_9
def rm_X14_sets : Room := { frames := 1, cells := 0, slots := 0, locals := 12 }
theorem hd_X14_sets : yX14_sets.cls = "IntentVatsModel" ∧ yX14_sets.cls ≠ "java/lang/invoke/MethodHandle" ∧ yX14_sets.cls ≠ "java/lang/invoke/VarHandle" ∧ (parseMethodDescriptor yX14_sets.desc).map (fun d => d.parameters.length) = some 3 := by decide +kernel
theorem he_X14_sets : yX14_sets.cls ≠ "java/lang/invoke/MethodHandle" ∧ yX14_sets.cls ≠ "java/lang/invoke/VarHandle" ∧ (parseMethodDescriptor yX14_sets.desc).map (fun d => d.parameters.length) = some 3 := hd_X14_sets.2

set_option maxHeartbeats 4000000 in
set_option maxRecDepth 100000 in
theorem w_X14_sets {l : Launch} {G : Gx} {sh : SM} {g : GM} {gl : LM} {gr : RM} {n : Nat} (hSk : Sk sh gr) (a1 : Int32) (a2 : Int32) (a3 : Int32)  {go : GM} (h : f_X14_sets g a1 a2 a3 = some go) : MetI l G yX14_sets (ws_ yX14_sets cX14_sets 4 (Option.none : Option Jvm.ClassFile.FieldType)) rm_X14_sets [.ref (adr G 128), .int a1, .int a2, .int a3] sh g gl gr n none sh go gl gr n := by
  refine MetI.of (by decide) (Nat.le_of_ble_eq_true rfl) ?_
  intro p e s m below meth c ls hx hb hr hml hown hts hlk hnm hW hK hR hS hl
  have hown : s.vm.findClass RX14 = some m.cls := hown
  have hF : CallFix p m c cX14_sets 4 s ([.ref (adr G 128), .int a1, .int a2, .int a3] : List Value).toArray lw_all RX14 := ⟨hx, hb, hml, hown, hts⟩
  have hl : lv_has ls 4 [(0, .ref (adr G 128)), (1, .int a1), (2, .int a2), (3, .int a3)] := hl
  unfold f_X14_sets at h
  refine lv_aload_n hx hb dX14_sets_0 rfl (lv_at hl 0 rfl) ?_
  refine r_getr hx hb hts cfX14 hown hK hR (sk_128 hSk) 2 (by decide) rfl (sr_128_2 hSk) (hts _ q1523) (fun _ h => h) dX14_sets_1 ?_
  refine lv_bipush (v := 29) hx hb dX14_sets_4 kb_29 ?_
  refine lv_iconst (v := 5) hx hb dX14_sets_6 ki_5 ?_
  refine lv_iload_n hx hb dX14_sets_7 rfl (lv_at hl 1 rfl) ?_
  refine lv_imul hx hb dX14_sets_8 ?_
  refine lv_iadd hx hb dX14_sets_9 ?_
  refine lv_iload_n hx hb dX14_sets_10 rfl (lv_at hl 2 rfl) ?_
  refine lv_iadd hx hb dX14_sets_11 ?_
  refine lv_iload_n hx hb dX14_sets_12 rfl (lv_at hl 3 rfl) ?_
  obtain ⟨g2, e1, h⟩ := obd h
  refine r_sti hx hb hK hR hS (sk_131 hSk) e1 dX14_sets_13 (fun H locs hR hS => ?_)
  obtain rfl := s1i h
  exact r_vret0 hx hb hr hlk hR hS (Nat.zero_le _) (Nat.zero_le _) dX14_sets_14
def rm_X14_adds : Room := { frames := 2, cells := 0, slots := 0, locals := 35 }
theorem hd_X14_adds : yX14_adds.cls = "IntentVatsModel" ∧ yX14_adds.cls ≠ "java/lang/invoke/MethodHandle" ∧ yX14_adds.cls ≠ "java/lang/invoke/VarHandle" ∧ (parseMethodDescriptor yX14_adds.desc).map (fun d => d.parameters.length) = some 1 := by decide +kernel
theorem he_X14_adds : yX14_adds.cls ≠ "java/lang/invoke/MethodHandle" ∧ yX14_adds.cls ≠ "java/lang/invoke/VarHandle" ∧ (parseMethodDescriptor yX14_adds.desc).map (fun d => d.parameters.length) = some 1 := hd_X14_adds.2

set_option maxHeartbeats 4000000 in
set_option maxRecDepth 100000 in
theorem w_X14_adds {l : Launch} {G : Gx} {sh : SM} {g : GM} {gl : LM} {gr : RM} {n : Nat} (hSk : Sk sh gr) (a1 : Int32)  {go : GM} (h : f_X14_adds g a1 = some go) : MetI l G yX14_adds (ws_ yX14_adds cX14_adds 3 (Option.none : Option Jvm.ClassFile.FieldType)) rm_X14_adds [.ref (adr G 128), .int a1] sh g gl gr n none sh go gl gr n := by
  refine MetI.of (by decide) (Nat.le_of_ble_eq_true rfl) ?_
  intro p e s m below meth c ls hx hb hr hml hown hts hlk hnm hW hK hR hS hl
  have hown : s.vm.findClass RX14 = some m.cls := hown
  have hF : CallFix p m c cX14_adds 3 s ([.ref (adr G 128), .int a1] : List Value).toArray lw_all RX14 := ⟨hx, hb, hml, hown, hts⟩
  have hl : lv_has ls 3 [(0, .ref (adr G 128)), (1, .int a1)] := hl
  unfold f_X14_adds at h
  refine lv_aload_n hx hb dX14_adds_0 rfl (lv_at hl 0 rfl) ?_
  refine r_getr hx hb hts cfX14 hown hK hR (sk_128 hSk) 2 (by decide) rfl (sr_128_2 hSk) (hts _ q1523) (fun _ h => h) dX14_adds_1 ?_
  refine lv_bipush (v := 6) hx hb dX14_adds_4 kb_6 ?_
  obtain ⟨v2, e1, h⟩ := obd h
  refine r_ldi hx hb hK hR (sk_131 hSk) e1 dX14_adds_6 ?_
  refine lv_istore_n (lv' := [(2, .int v2), (0, .ref (adr G 128)), (1, .int a1)]) hx hb dX14_adds_7 rfl hl (by decide) rfl (fun ls hl => ?_)
  refine lv_aload_n hx hb dX14_adds_8 rfl (lv_at hl 1 rfl) ?_
  refine r_getr hx hb hts cfX14 hown hK hR (sk_128 hSk) 2 (by decide) rfl (sr_128_2 hSk) (hts _ q1523) (fun _ h => h) dX14_adds_9 ?_
  refine lv_bipush (v := 6) hx hb dX14_adds_12 kb_6 ?_
  refine lv_dup2_11 hx hb dX14_adds_14 rfl rfl ?_
  obtain ⟨v4, e3, h⟩ := obd h
  refine r_ldi hx hb hK hR (sk_131 hSk) e3 dX14_adds_15 ?_
  refine lv_iconst (v := 1) hx hb dX14_adds_16 ki_1 ?_
  refine lv_iadd hx hb dX14_adds_17 ?_
  obtain ⟨g6, e5, h⟩ := obd h
  refine r_sti hx hb hK hR hS (sk_131 hSk) e5 dX14_adds_18 (fun H locs hR hS => ?_)
  refine lv_aload_n hx hb dX14_adds_19 rfl (lv_at hl 1 rfl) ?_
  refine lv_iload_n hx hb dX14_adds_20 rfl (lv_at hl 0 rfl) ?_
  refine lv_iconst (v := 0) hx hb dX14_adds_21 ki_0 ?_
  refine lv_iload_n hx hb dX14_adds_22 rfl (lv_at hl 2 rfl) ?_
  obtain ⟨g8, e7, h⟩ := obd h
  refine rc_V0 (rest := []) (st1 := []) hF (w_X14_sets hSk v2 0 a1 e7) (cwV 3 hts (lw_V q1649 q1651 qs46 q117 q1652) rfl rfl rfl hd_X14_sets ⟨Nat.le_of_ble_eq_true rfl, Nat.le_of_ble_eq_true rfl⟩) cfX14 (sk_128 hSk) hK hW hR hS rfl hl.1 rfl (Nat.le_of_ble_eq_true rfl) rfl dX14_adds_23 ⟨rfl, rfl⟩ ⟨Nat.zero_le _, Nat.zero_le _⟩ (fun H locs hR hS => ?_)
  refine lv_aload_n hx hb dX14_adds_26 rfl (lv_at hl 1 rfl) ?_
  refine lv_iload_n hx hb dX14_adds_27 rfl (lv_at hl 0 rfl) ?_
  refine lv_iconst (v := 1) hx hb dX14_adds_28 ki_1 ?_
  refine lv_iconst (v := (-1)) hx hb dX14_adds_29 ki_m1 ?_
  obtain ⟨g10, e9, h⟩ := obd h
  refine rc_V0 (rest := []) (st1 := []) hF (w_X14_sets hSk v2 1 (-1) e9) (cwV 3 hts (lw_V q1649 q1651 qs46 q117 q1652) rfl rfl rfl hd_X14_sets ⟨Nat.le_of_ble_eq_true rfl, Nat.le_of_ble_eq_true rfl⟩) cfX14 (sk_128 hSk) hK hW hR hS rfl hl.1 rfl (Nat.le_of_ble_eq_true rfl) rfl dX14_adds_30 ⟨rfl, rfl⟩ ⟨Nat.zero_le _, Nat.zero_le _⟩ (fun H locs hR hS => ?_)
  refine lv_aload_n hx hb dX14_adds_33 rfl (lv_at hl 1 rfl) ?_
  refine lv_iload_n hx hb dX14_adds_34 rfl (lv_at hl 0 rfl) ?_
  refine lv_iconst (v := 2) hx hb dX14_adds_35 ki_2 ?_
  refine lv_iconst (v := 0) hx hb dX14_adds_36 ki_0 ?_
  obtain ⟨g12, e11, h⟩ := obd h
  refine rc_V0 (rest := []) (st1 := []) hF (w_X14_sets hSk v2 2 0 e11) (cwV 3 hts (lw_V q1649 q1651 qs46 q117 q1652) rfl rfl rfl hd_X14_sets ⟨Nat.le_of_ble_eq_true rfl, Nat.le_of_ble_eq_true rfl⟩) cfX14 (sk_128 hSk) hK hW hR hS rfl hl.1 rfl (Nat.le_of_ble_eq_true rfl) rfl dX14_adds_37 ⟨rfl, rfl⟩ ⟨Nat.zero_le _, Nat.zero_le _⟩ (fun H locs hR hS => ?_)
  refine lv_aload_n hx hb dX14_adds_40 rfl (lv_at hl 1 rfl) ?_
  refine lv_iload_n hx hb dX14_adds_41 rfl (lv_at hl 0 rfl) ?_
  refine lv_iconst (v := 3) hx hb dX14_adds_42 ki_3 ?_
  refine lv_iconst (v := 0) hx hb dX14_adds_43 ki_0 ?_
  obtain ⟨g14, e13, h⟩ := obd h
  refine rc_V0 (rest := []) (st1 := []) hF (w_X14_sets hSk v2 3 0 e13) (cwV 3 hts (lw_V q1649 q1651 qs46 q117 q1652) rfl rfl rfl hd_X14_sets ⟨Nat.le_of_ble_eq_true rfl, Nat.le_of_ble_eq_true rfl⟩) cfX14 (sk_128 hSk) hK hW hR hS rfl hl.1 rfl (Nat.le_of_ble_eq_true rfl) rfl dX14_adds_44 ⟨rfl, rfl⟩ ⟨Nat.zero_le _, Nat.zero_le _⟩ (fun H locs hR hS => ?_)
  refine lv_aload_n hx hb dX14_adds_47 rfl (lv_at hl 1 rfl) ?_
  refine lv_iload_n hx hb dX14_adds_48 rfl (lv_at hl 0 rfl) ?_
  refine lv_iconst (v := 4) hx hb dX14_adds_49 ki_4 ?_
  refine lv_iconst (v := 0) hx hb dX14_adds_50 ki_0 ?_
  obtain ⟨g16, e15, h⟩ := obd h
  refine rc_V0 (rest := []) (st1 := []) hF (w_X14_sets hSk v2 4 0 e15) (cwV 3 hts (lw_V q1649 q1651 qs46 q117 q1652) rfl rfl rfl hd_X14_sets ⟨Nat.le_of_ble_eq_true rfl, Nat.le_of_ble_eq_true rfl⟩) cfX14 (sk_128 hSk) hK hW hR hS rfl hl.1 rfl (Nat.le_of_ble_eq_true rfl) rfl dX14_adds_51 ⟨rfl, rfl⟩ ⟨Nat.zero_le _, Nat.zero_le _⟩ (fun H locs hR hS => ?_)
  obtain rfl := s1i h
  exact r_vret0 hx hb hr hlk hR hS (Nat.zero_le _) (Nat.zero_le _) dX14_adds_54
def rm_X14_cloth : Room := { frames := 3, cells := 0, slots := 0, locals := 57 }
theorem hd_X14_cloth : yX14_cloth.cls = "IntentVatsModel" ∧ yX14_cloth.cls ≠ "java/lang/invoke/MethodHandle" ∧ yX14_cloth.cls ≠ "java/lang/invoke/VarHandle" ∧ (parseMethodDescriptor yX14_cloth.desc).map (fun d => d.parameters.length) = some 1 := by decide +kernel
theorem he_X14_cloth : yX14_cloth.cls ≠ "java/lang/invoke/MethodHandle" ∧ yX14_cloth.cls ≠ "java/lang/invoke/VarHandle" ∧ (parseMethodDescriptor yX14_cloth.desc).map (fun d => d.parameters.length) = some 1 := hd_X14_cloth.2

set_option maxHeartbeats 4000000 in
set_option maxRecDepth 100000 in
theorem w_X14_cloth {l : Launch} {G : Gx} {sh : SM} {g : GM} {gl : LM} {gr : RM} {n : Nat} (hSk : Sk sh gr) (a1 : Int32)  {r : Int32} {go : GM} (h : f_X14_cloth g a1 = some (r, go)) : MetI l G yX14_cloth (ws_ yX14_cloth cX14_cloth 2 (Option.some Jvm.ClassFile.FieldType.int)) rm_X14_cloth [.ref (adr G 128), .int a1] sh g gl gr n (some (.int r)) sh go gl gr n := by
  refine MetI.of (by decide) (Nat.le_of_ble_eq_true rfl) ?_
  intro p e s m below meth c ls hx hb hr hml hown hts hlk hnm hW hK hR hS hl
  have hown : s.vm.findClass RX14 = some m.cls := hown
  have hF : CallFix p m c cX14_cloth 2 s ([.ref (adr G 128), .int a1] : List Value).toArray lw_all RX14 := ⟨hx, hb, hml, hown, hts⟩
  have hl : lv_has ls 2 [(0, .ref (adr G 128)), (1, .int a1)] := hl
  unfold f_X14_cloth at h
  refine lv_iload_n hx hb dX14_cloth_0 rfl (lv_at hl 1 rfl) ?_
  obtain ⟨r2, e1, h⟩ := obd h
  refine rc_S0 (rest := []) (st1 := [.int r2]) hF (w_X14_isKind hSk a1 e1) (va_cwS 1 hts (lw_S q1642 q1643 q117 q1644) rfl rfl rfl he_X14_isKind ⟨Nat.le_of_ble_eq_true rfl, Nat.le_of_ble_eq_true rfl⟩) hW hR hS rfl hl.1 rfl (Nat.le_of_ble_eq_true rfl) rfl dX14_cloth_1 ⟨rfl, rfl⟩ ⟨Nat.zero_le _, Nat.zero_le _⟩ (fun H locs hR hS => ?_)
  refine lv_if_ne (tgt := 9) hx hb dX14_cloth_4 (by decide) (fun c3 => ?_) (fun c3 => ?_)
  · replace h := ifn h c3
    refine lv_aload_n hx hb dX14_cloth_9 rfl (lv_at hl 0 rfl) ?_
    refine r_getr hx hb hts cfX14 hown hK hR (sk_128 hSk) 2 (by decide) rfl (sr_128_2 hSk) (hts _ q1523) (fun _ h => h) dX14_cloth_10 ?_
    refine lv_bipush (v := 6) hx hb dX14_cloth_13 kb_6 ?_
    obtain ⟨v5, e4, h⟩ := obd h
    refine r_ldi hx hb hK hR (sk_131 hSk) e4 dX14_cloth_15 ?_
    refine lv_bipush (v := 8) hx hb dX14_cloth_16 kb_8 ?_
    refine lv_icmp_ne (tgt := 24) hx hb dX14_cloth_18 (by decide) (fun c6 => ?_) (fun c6 => ?_)
    · replace h := ifn h c6
      refine lv_aload_n hx hb dX14_cloth_24 rfl (lv_at hl 0 rfl) ?_
      refine lv_iload_n hx hb dX14_cloth_25 rfl (lv_at hl 1 rfl) ?_
      obtain ⟨g8, e7, h⟩ := obd h
      refine rc_V0 (rest := []) (st1 := []) hF (w_X14_adds hSk a1 e7) (cwV 1 hts (lw_V q1645 q1647 qs45 q117 q1648) rfl rfl rfl hd_X14_adds ⟨Nat.le_of_ble_eq_true rfl, Nat.le_of_ble_eq_true rfl⟩) cfX14 (sk_128 hSk) hK hW hR hS rfl hl.1 rfl (Nat.le_of_ble_eq_true rfl) rfl dX14_cloth_26 ⟨rfl, rfl⟩ ⟨Nat.zero_le _, Nat.zero_le _⟩ (fun H locs hR hS => ?_)
      refine lv_aload_n hx hb dX14_cloth_29 rfl (lv_at hl 0 rfl) ?_
      refine r_getr hx hb hts cfX14 hown hK hR (sk_128 hSk) 2 (by decide) rfl (sr_128_2 hSk) (hts _ q1523) (fun _ h => h) dX14_cloth_30 ?_
      refine lv_bipush (v := 6) hx hb dX14_cloth_33 kb_6 ?_
      obtain ⟨v10, e9, h⟩ := obd h
      refine r_ldi hx hb hK hR (sk_131 hSk) e9 dX14_cloth_35 ?_
      refine lv_iconst (v := 1) hx hb dX14_cloth_36 ki_1 ?_
      refine lv_isub hx hb dX14_cloth_37 ?_
      obtain ⟨rfl, rfl⟩ := s2i h
      exact r_iret0 hx hb hr hlk hR hS (Nat.zero_le _) (Nat.zero_le _) dX14_cloth_38
    · replace h := ifp h c6
      refine lv_bipush (v := (-2)) hx hb dX14_cloth_21 kb_m2 ?_
      obtain ⟨rfl, rfl⟩ := s2i h
      exact r_iret0 hx hb hr hlk hR hS (Nat.zero_le _) (Nat.zero_le _) dX14_cloth_23
  · replace h := ifp h c3
    refine lv_iconst (v := (-1)) hx hb dX14_cloth_7 ki_m1 ?_
    obtain ⟨rfl, rfl⟩ := s2i h
    exact r_iret0 hx hb hr hlk hR hS (Nat.zero_le _) (Nat.zero_le _) dX14_cloth_8
def rm_X14_isCloth : Room := { frames := 2, cells := 0, slots := 0, locals := 37 }
theorem hd_X14_isCloth : yX14_isCloth.cls = "IntentVatsModel" ∧ yX14_isCloth.cls ≠ "java/lang/invoke/MethodHandle" ∧ yX14_isCloth.cls ≠ "java/lang/invoke/VarHandle" ∧ (parseMethodDescriptor yX14_isCloth.desc).map (fun d => d.parameters.length) = some 1 := by decide +kernel
theorem he_X14_isCloth : yX14_isCloth.cls ≠ "java/lang/invoke/MethodHandle" ∧ yX14_isCloth.cls ≠ "java/lang/invoke/VarHandle" ∧ (parseMethodDescriptor yX14_isCloth.desc).map (fun d => d.parameters.length) = some 1 := hd_X14_isCloth.2

set_option maxHeartbeats 4000000 in
set_option maxRecDepth 100000 in
theorem w_X14_isCloth {l : Launch} {G : Gx} {sh : SM} {g : GM} {gl : LM} {gr : RM} {n : Nat} (hSk : Sk sh gr) (a1 : Int32)  {r : Int32} (h : f_X14_isCloth g a1 = some r) : MetI l G yX14_isCloth (ws_ yX14_isCloth cX14_isCloth 2 (Option.some Jvm.ClassFile.FieldType.boolean)) rm_X14_isCloth [.ref (adr G 128), .int a1] sh g gl gr n (some (.int r)) sh g gl gr n := by
  refine MetI.of (by decide) (Nat.le_of_ble_eq_true rfl) ?_
  intro p e s m below meth c ls hx hb hr hml hown hts hlk hnm hW hK hR hS hl
  have hown : s.vm.findClass RX14 = some m.cls := hown
  have hF : CallFix p m c cX14_isCloth 2 s ([.ref (adr G 128), .int a1] : List Value).toArray lw_all RX14 := ⟨hx, hb, hml, hown, hts⟩
  have hl : lv_has ls 2 [(0, .ref (adr G 128)), (1, .int a1)] := hl
  unfold f_X14_isCloth at h
  refine lv_iload_n hx hb dX14_isCloth_0 rfl (lv_at hl 1 rfl) ?_
  refine lv_i2l hx hb dX14_isCloth_1 rfl ?_
  refine lv_lconst (v := 0) hx hb dX14_isCloth_2 rfl ?_
  refine lv_aload_n hx hb dX14_isCloth_3 rfl (lv_at hl 0 rfl) ?_
  refine r_getr hx hb hts cfX14 hown hK hR (sk_128 hSk) 2 (by decide) rfl (sr_128_2 hSk) (hts _ q1523) (fun _ h => h) dX14_isCloth_4 ?_
  refine lv_bipush (v := 6) hx hb dX14_isCloth_7 kb_6 ?_
  obtain ⟨v2, e1, h⟩ := obd h
  refine r_ldi hx hb hK hR (sk_131 hSk) e1 dX14_isCloth_9 ?_
  refine lv_iconst (v := 1) hx hb dX14_isCloth_10 ki_1 ?_
  refine lv_isub hx hb dX14_isCloth_11 ?_
  refine lv_i2l hx hb dX14_isCloth_12 rfl ?_
  obtain ⟨r4, e3, h⟩ := obd h
  refine rc_S0 (rest := []) (st1 := [.int r4]) hF (w_X14_in hSk a1.toInt64 0 ((v2 - 1).toInt64) e3) (va_cwS 3 hts (lw_S q1602 q1603 q117 q1604) rfl rfl rfl he_X14_in ⟨Nat.le_of_ble_eq_true rfl, Nat.le_of_ble_eq_true rfl⟩) hW hR hS rfl hl.1 rfl (Nat.le_of_ble_eq_true rfl) rfl dX14_isCloth_13 ⟨rfl, rfl⟩ ⟨Nat.zero_le _, Nat.zero_le _⟩ (fun H locs hR hS => ?_)
  obtain ⟨c5, h⟩ := ogrd h
  obtain rfl := s1i h
  exact r_zret0 hx hb hr hlk hR hS (Nat.zero_le _) (Nat.zero_le _) (nb01 c5) dX14_isCloth_16
def rm_X14_its : Room := { frames := 1, cells := 0, slots := 0, locals := 12 }
theorem hd_X14_its : yX14_its.cls = "IntentVatsModel" ∧ yX14_its.cls ≠ "java/lang/invoke/MethodHandle" ∧ yX14_its.cls ≠ "java/lang/invoke/VarHandle" ∧ (parseMethodDescriptor yX14_its.desc).map (fun d => d.parameters.length) = some 2 := by decide +kernel
theorem he_X14_its : yX14_its.cls ≠ "java/lang/invoke/MethodHandle" ∧ yX14_its.cls ≠ "java/lang/invoke/VarHandle" ∧ (parseMethodDescriptor yX14_its.desc).map (fun d => d.parameters.length) = some 2 := hd_X14_its.2

set_option maxHeartbeats 4000000 in
set_option maxRecDepth 100000 in
theorem w_X14_its {l : Launch} {G : Gx} {sh : SM} {g : GM} {gl : LM} {gr : RM} {n : Nat} (hSk : Sk sh gr) (a1 : Int32) (a2 : Int32)  {r : Int32} (h : f_X14_its g a1 a2 = some r) : MetI l G yX14_its (ws_ yX14_its cX14_its 3 (Option.some Jvm.ClassFile.FieldType.int)) rm_X14_its [.ref (adr G 128), .int a1, .int a2] sh g gl gr n (some (.int r)) sh g gl gr n := by
  refine MetI.of (by decide) (Nat.le_of_ble_eq_true rfl) ?_
  intro p e s m below meth c ls hx hb hr hml hown hts hlk hnm hW hK hR hS hl
  have hown : s.vm.findClass RX14 = some m.cls := hown
  have hF : CallFix p m c cX14_its 3 s ([.ref (adr G 128), .int a1, .int a2] : List Value).toArray lw_all RX14 := ⟨hx, hb, hml, hown, hts⟩
  have hl : lv_has ls 3 [(0, .ref (adr G 128)), (1, .int a1), (2, .int a2)] := hl
  unfold f_X14_its at h
  refine lv_aload_n hx hb dX14_its_0 rfl (lv_at hl 0 rfl) ?_
  refine r_getr hx hb hts cfX14 hown hK hR (sk_128 hSk) 2 (by decide) rfl (sr_128_2 hSk) (hts _ q1523) (fun _ h => h) dX14_its_1 ?_
  refine lv_bipush (v := 29) hx hb dX14_its_4 kb_29 ?_
  refine lv_iconst (v := 5) hx hb dX14_its_6 ki_5 ?_
  refine lv_iload_n hx hb dX14_its_7 rfl (lv_at hl 1 rfl) ?_
  refine lv_imul hx hb dX14_its_8 ?_
  refine lv_iadd hx hb dX14_its_9 ?_
  refine lv_iload_n hx hb dX14_its_10 rfl (lv_at hl 2 rfl) ?_
  refine lv_iadd hx hb dX14_its_11 ?_
  obtain ⟨v2, e1, h⟩ := obd h
  refine r_ldi hx hb hK hR (sk_131 hSk) e1 dX14_its_12 ?_
  obtain rfl := s1i h
  exact r_iret0 hx hb hr hlk hR hS (Nat.zero_le _) (Nat.zero_le _) dX14_its_13
def rm_X14_of : Room := { frames := 3, cells := 0, slots := 0, locals := 58 }
theorem hd_X14_of : yX14_of.cls = "IntentVatsModel" ∧ yX14_of.cls ≠ "java/lang/invoke/MethodHandle" ∧ yX14_of.cls ≠ "java/lang/invoke/VarHandle" ∧ (parseMethodDescriptor yX14_of.desc).map (fun d => d.parameters.length) = some 2 := by decide +kernel
theorem he_X14_of : yX14_of.cls ≠ "java/lang/invoke/MethodHandle" ∧ yX14_of.cls ≠ "java/lang/invoke/VarHandle" ∧ (parseMethodDescriptor yX14_of.desc).map (fun d => d.parameters.length) = some 2 := hd_X14_of.2

set_option maxHeartbeats 4000000 in
set_option maxRecDepth 100000 in
theorem w_X14_of {l : Launch} {G : Gx} {sh : SM} {g : GM} {gl : LM} {gr : RM} {n : Nat} (hSk : Sk sh gr) (a1 : Int32) (a2 : Int32)  {r : Int32} (h : f_X14_of g a1 a2 = some r) : MetI l G yX14_of (ws_ yX14_of cX14_of 3 (Option.some Jvm.ClassFile.FieldType.int)) rm_X14_of [.ref (adr G 128), .int a1, .int a2] sh g gl gr n (some (.int r)) sh g gl gr n := by
  refine MetI.of (by decide) (Nat.le_of_ble_eq_true rfl) ?_
  intro p e s m below meth c ls hx hb hr hml hown hts hlk hnm hW hK hR hS hl
  have hown : s.vm.findClass RX14 = some m.cls := hown
  have hF : CallFix p m c cX14_of 3 s ([.ref (adr G 128), .int a1, .int a2] : List Value).toArray lw_all RX14 := ⟨hx, hb, hml, hown, hts⟩
  have hl : lv_has ls 3 [(0, .ref (adr G 128)), (1, .int a1), (2, .int a2)] := hl
  unfold f_X14_of at h
  refine lv_aload_n hx hb dX14_of_0 rfl (lv_at hl 0 rfl) ?_
  refine lv_iload_n hx hb dX14_of_1 rfl (lv_at hl 1 rfl) ?_
  obtain ⟨r2, e1, h⟩ := obd h
  refine rc_V0 (rest := []) (st1 := [.int r2]) hF (w_X14_isCloth hSk a1 e1) (cwV 1 hts (lw_V q1657 q1659 qs47 q117 q1660) rfl rfl rfl hd_X14_isCloth ⟨Nat.le_of_ble_eq_true rfl, Nat.le_of_ble_eq_true rfl⟩) cfX14 (sk_128 hSk) hK hW hR hS rfl hl.1 rfl (Nat.le_of_ble_eq_true rfl) rfl dX14_of_2 ⟨rfl, rfl⟩ ⟨Nat.zero_le _, Nat.zero_le _⟩ (fun H locs hR hS => ?_)
  have J20 : ∀  (H : Heap) (locs : List Loc) (ls : Array Slot), Rep G sh g gl gr n H → va_S (own G) s.heap H locs → lv_has ls 3 [] → j_X14_of_20   = some r → W p l e rm_X14_of s m ([.ref (adr G 128), .int a1, .int a2] : List Value).toArray below meth c H locs 0 0 (MQ below (QR G (some (.int r)) sh g gl gr n) ([.ref (adr G 128), .int a1, .int a2] : List Value).toArray s rm_X14_of.cells rm_X14_of.slots (own G)) (F0 m 20 ls []) := by
    intro  H locs ls hR hS hl h
    unfold j_X14_of_20 at h
    refine lv_iconst (v := (-1)) hx hb dX14_of_20 ki_m1 ?_
    obtain rfl := s1i h
    exact r_iret0 hx hb hr hlk hR hS (Nat.zero_le _) (Nat.zero_le _) dX14_of_21
  refine lv_if_eq (tgt := 20) hx hb dX14_of_5 (by decide) (fun c3 => ?_) (fun c3 => ?_)
  · replace h := ifp h c3
    exact J20  _ _ _ hR hS (lv_sub hl [] rfl) h
  · replace h := ifn h c3
    refine lv_iload_n hx hb dX14_of_8 rfl (lv_at hl 2 rfl) ?_
    refine lv_i2l hx hb dX14_of_9 rfl ?_
    refine lv_lconst (v := 0) hx hb dX14_of_10 rfl ?_
    refine lv_ldc2 (v := 4) hx hb hown (hts _ q1661) dX14_of_11 ?_
    obtain ⟨r5, e4, h⟩ := obd h
    refine rc_S0 (rest := []) (st1 := [.int r5]) hF (w_X14_in hSk a2.toInt64 0 4 e4) (va_cwS 3 hts (lw_S q1602 q1603 q117 q1604) rfl rfl rfl he_X14_in ⟨Nat.le_of_ble_eq_true rfl, Nat.le_of_ble_eq_true rfl⟩) hW hR hS rfl hl.1 rfl (Nat.le_of_ble_eq_true rfl) rfl dX14_of_14 ⟨rfl, rfl⟩ ⟨Nat.zero_le _, Nat.zero_le _⟩ (fun H locs hR hS => ?_)
    refine lv_if_ne (tgt := 22) hx hb dX14_of_17 (by decide) (fun c6 => ?_) (fun c6 => ?_)
    · replace h := ifn h c6
      refine lv_iload_n hx hb dX14_of_22 rfl (lv_at hl 2 rfl) ?_
      refine lv_iconst (v := 1) hx hb dX14_of_23 ki_1 ?_
      have J44 : ∀ (x7 : Int32) (H : Heap) (locs : List Loc) (ls : Array Slot), Rep G sh g gl gr n H → va_S (own G) s.heap H locs → lv_has ls 3 [] → j_X14_of_44  x7 = some r → W p l e rm_X14_of s m ([.ref (adr G 128), .int a1, .int a2] : List Value).toArray below meth c H locs 0 0 (MQ below (QR G (some (.int r)) sh g gl gr n) ([.ref (adr G 128), .int a1, .int a2] : List Value).toArray s rm_X14_of.cells rm_X14_of.slots (own G)) (F0 m 44 ls [.int x7]) := by
        intro x7 H locs ls hR hS hl h
        unfold j_X14_of_44 at h
        obtain rfl := s1i h
        exact r_iret0 hx hb hr hlk hR hS (Nat.zero_le _) (Nat.zero_le _) dX14_of_44
      refine lv_icmp_ne (tgt := 38) hx hb dX14_of_24 (by decide) (fun c8 => ?_) (fun c8 => ?_)
      · replace h := ifn h c8
        refine lv_aload_n hx hb dX14_of_38 rfl (lv_at hl 0 rfl) ?_
        refine lv_iload_n hx hb dX14_of_39 rfl (lv_at hl 1 rfl) ?_
        refine lv_iload_n hx hb dX14_of_40 rfl (lv_at hl 2 rfl) ?_
        obtain ⟨r10, e9, h⟩ := obd h
        refine rc_V0 (rest := []) (st1 := [.int r10]) hF (w_X14_its hSk a1 a2 e9) (cwV 2 hts (lw_V q1662 q1664 qs48 q117 q1665) rfl rfl rfl hd_X14_its ⟨Nat.le_of_ble_eq_true rfl, Nat.le_of_ble_eq_true rfl⟩) cfX14 (sk_128 hSk) hK hW hR hS rfl hl.1 rfl (Nat.le_of_ble_eq_true rfl) rfl dX14_of_41 ⟨rfl, rfl⟩ ⟨Nat.zero_le _, Nat.zero_le _⟩ (fun H locs hR hS => ?_)
        exact J44 r10 _ _ _ hR hS (lv_sub hl [] rfl) h
      · replace h := ifp h c8
        refine lv_iconst (v := 1) hx hb dX14_of_27 ki_1 ?_
        refine lv_aload_n hx hb dX14_of_28 rfl (lv_at hl 0 rfl) ?_
        refine lv_iload_n hx hb dX14_of_29 rfl (lv_at hl 1 rfl) ?_
        refine lv_iconst (v := 1) hx hb dX14_of_30 ki_1 ?_
        obtain ⟨r12, e11, h⟩ := obd h
        refine rc_V0 (rest := [.int 1]) (st1 := [.int r12, .int 1]) hF (w_X14_its hSk a1 1 e11) (cwV 2 hts (lw_V q1662 q1664 qs48 q117 q1665) rfl rfl rfl hd_X14_its ⟨Nat.le_of_ble_eq_true rfl, Nat.le_of_ble_eq_true rfl⟩) cfX14 (sk_128 hSk) hK hW hR hS rfl hl.1 rfl (Nat.le_of_ble_eq_true rfl) rfl dX14_of_31 ⟨rfl, rfl⟩ ⟨Nat.zero_le _, Nat.zero_le _⟩ (fun H locs hR hS => ?_)
        refine lv_iadd hx hb dX14_of_34 ?_
        refine lv_goto (tgt := 44) hx hb dX14_of_35 (by decide) ?_
        exact J44 (1 + r12) _ _ _ hR hS (lv_sub hl [] rfl) h
    · replace h := ifp h c6
      exact J20  _ _ _ hR hS (lv_sub hl [] rfl) h
def rm_X14_takesOf : Room := { frames := 2, cells := 0, slots := 0, locals := 34 }
theorem hd_X14_takesOf : yX14_takesOf.cls = "IntentVatsModel" ∧ yX14_takesOf.cls ≠ "java/lang/invoke/MethodHandle" ∧ yX14_takesOf.cls ≠ "java/lang/invoke/VarHandle" ∧ (parseMethodDescriptor yX14_takesOf.desc).map (fun d => d.parameters.length) = some 2 := by decide +kernel
theorem he_X14_takesOf : yX14_takesOf.cls ≠ "java/lang/invoke/MethodHandle" ∧ yX14_takesOf.cls ≠ "java/lang/invoke/VarHandle" ∧ (parseMethodDescriptor yX14_takesOf.desc).map (fun d => d.parameters.length) = some 2 := hd_X14_takesOf.2

set_option maxHeartbeats 4000000 in
set_option maxRecDepth 100000 in
theorem w_X14_takesOf {l : Launch} {G : Gx} {sh : SM} {g : GM} {gl : LM} {gr : RM} {n : Nat} (hSk : Sk sh gr) (a1 : Int32) (a2 : Int32)  {r : Int32} (h : f_X14_takesOf g a1 a2 = some r) : MetI l G yX14_takesOf (ws_ yX14_takesOf cX14_takesOf 4 (Option.some Jvm.ClassFile.FieldType.int)) rm_X14_takesOf [.ref (adr G 128), .int a1, .int a2] sh g gl gr n (some (.int r)) sh g gl gr n := by
  refine MetI.of (by decide) (Nat.le_of_ble_eq_true rfl) ?_
  intro p e s m below meth c ls hx hb hr hml hown hts hlk hnm hW hK hR hS hl
  have hown : s.vm.findClass RX14 = some m.cls := hown
  have hF : CallFix p m c cX14_takesOf 4 s ([.ref (adr G 128), .int a1, .int a2] : List Value).toArray lw_all RX14 := ⟨hx, hb, hml, hown, hts⟩
  have hl : lv_has ls 4 [(0, .ref (adr G 128)), (1, .int a1), (2, .int a2)] := hl
  unfold f_X14_takesOf at h
  refine lv_iload_n hx hb dX14_takesOf_0 rfl (lv_at hl 2 rfl) ?_
  refine lv_aload_n hx hb dX14_takesOf_1 rfl (lv_at hl 0 rfl) ?_
  refine r_getr hx hb hts cfX14 hown hK hR (sk_128 hSk) 2 (by decide) rfl (sr_128_2 hSk) (hts _ q1523) (fun _ h => h) dX14_takesOf_2 ?_
  refine lv_iconst (v := 0) hx hb dX14_takesOf_5 ki_0 ?_
  obtain ⟨v2, e1, h⟩ := obd h
  refine r_ldi hx hb hK hR (sk_131 hSk) e1 dX14_takesOf_6 ?_
  refine lv_iadd hx hb dX14_takesOf_7 ?_
  refine lv_istore_n (lv' := [(3, .int (a2 + v2)), (0, .ref (adr G 128)), (1, .int a1), (2, .int a2)]) hx hb dX14_takesOf_8 rfl hl (by decide) rfl (fun ls hl => ?_)
  refine lv_aload_n hx hb dX14_takesOf_9 rfl (lv_at hl 1 rfl) ?_
  refine lv_iload_n hx hb dX14_takesOf_10 rfl (lv_at hl 2 rfl) ?_
  refine lv_iconst (v := 0) hx hb dX14_takesOf_11 ki_0 ?_
  obtain ⟨r4, e3, h⟩ := obd h
  refine rc_V0 (rest := []) (st1 := [.int r4]) hF (w_X14_its hSk a1 0 e3) (cwV 2 hts (lw_V q1662 q1664 qs48 q117 q1665) rfl rfl rfl hd_X14_its ⟨Nat.le_of_ble_eq_true rfl, Nat.le_of_ble_eq_true rfl⟩) cfX14 (sk_128 hSk) hK hW hR hS rfl hl.1 rfl (Nat.le_of_ble_eq_true rfl) rfl dX14_takesOf_12 ⟨rfl, rfl⟩ ⟨Nat.zero_le _, Nat.zero_le _⟩ (fun H locs hR hS => ?_)
  by_cases c5 : r4 = 1
  · replace h := ifp h c5
    refine lv_tableIn (off := 33) (tgt := 48) hx hb dX14_takesOf_15 (by rw [c5]; decide) (by rw [c5]; decide) (by rw [c5]; decide) (by decide) ?_
    refine lv_iload_n hx hb dX14_takesOf_48 rfl (lv_at hl 0 rfl) ?_
    refine lv_iconst (v := 3) hx hb dX14_takesOf_49 ki_3 ?_
    refine lv_iadd hx hb dX14_takesOf_50 ?_
    obtain rfl := s1i h
    exact r_iret0 hx hb hr hlk hR hS (Nat.zero_le _) (Nat.zero_le _) dX14_takesOf_51
  · replace h := ifn h c5
    by_cases c6 : r4 = 2
    · replace h := ifp h c6
      refine lv_tableIn (off := 43) (tgt := 58) hx hb dX14_takesOf_15 (by rw [c6]; decide) (by rw [c6]; decide) (by rw [c6]; decide) (by decide) ?_
      refine lv_iload_n hx hb dX14_takesOf_58 rfl (lv_at hl 0 rfl) ?_
      refine lv_aload_n hx hb dX14_takesOf_59 rfl (lv_at hl 1 rfl) ?_
      refine r_getr hx hb hts cfX14 hown hK hR (sk_128 hSk) 2 (by decide) rfl (sr_128_2 hSk) (hts _ q1523) (fun _ h => h) dX14_takesOf_60 ?_
      refine lv_iconst (v := 1) hx hb dX14_takesOf_63 ki_1 ?_
      obtain ⟨v8, e7, h⟩ := obd h
      refine r_ldi hx hb hK hR (sk_131 hSk) e7 dX14_takesOf_64 ?_
      refine lv_isub hx hb dX14_takesOf_65 ?_
      obtain rfl := s1i h
      exact r_iret0 hx hb hr hlk hR hS (Nat.zero_le _) (Nat.zero_le _) dX14_takesOf_66
    · replace h := ifn h c6
      by_cases c9 : r4 = 3
      · replace h := ifp h c9
        refine lv_tableIn (off := 37) (tgt := 52) hx hb dX14_takesOf_15 (by rw [c9]; decide) (by rw [c9]; decide) (by rw [c9]; decide) (by decide) ?_
        refine lv_iconst (v := 2) hx hb dX14_takesOf_52 ki_2 ?_
        refine lv_iload_n hx hb dX14_takesOf_53 rfl (lv_at hl 0 rfl) ?_
        refine lv_iconst (v := 3) hx hb dX14_takesOf_54 ki_3 ?_
        refine lv_iadd hx hb dX14_takesOf_55 ?_
        refine lv_imul hx hb dX14_takesOf_56 ?_
        obtain rfl := s1i h
        exact r_iret0 hx hb hr hlk hR hS (Nat.zero_le _) (Nat.zero_le _) dX14_takesOf_57
      · replace h := ifn h c9
        by_cases c10 : r4 = 4
        · replace h := ifp h c10
          refine lv_tableIn (off := 52) (tgt := 67) hx hb dX14_takesOf_15 (by rw [c10]; decide) (by rw [c10]; decide) (by rw [c10]; decide) (by decide) ?_
          refine lv_iload_n hx hb dX14_takesOf_67 rfl (lv_at hl 0 rfl) ?_
          refine lv_aload_n hx hb dX14_takesOf_68 rfl (lv_at hl 1 rfl) ?_
          refine r_getr hx hb hts cfX14 hown hK hR (sk_128 hSk) 2 (by decide) rfl (sr_128_2 hSk) (hts _ q1523) (fun _ h => h) dX14_takesOf_69 ?_
          refine lv_iconst (v := 1) hx hb dX14_takesOf_72 ki_1 ?_
          obtain ⟨v12, e11, h⟩ := obd h
          refine r_ldi hx hb hK hR (sk_131 hSk) e11 dX14_takesOf_73 ?_
          refine lv_isub hx hb dX14_takesOf_74 ?_
          refine lv_aload_n hx hb dX14_takesOf_75 rfl (lv_at hl 1 rfl) ?_
          refine r_getr hx hb hts cfX14 hown hK hR (sk_128 hSk) 2 (by decide) rfl (sr_128_2 hSk) (hts _ q1523) (fun _ h => h) dX14_takesOf_76 ?_
          refine lv_iconst (v := 2) hx hb dX14_takesOf_79 ki_2 ?_
          obtain ⟨v14, e13, h⟩ := obd h
          refine r_ldi hx hb hK hR (sk_131 hSk) e13 dX14_takesOf_80 ?_
          refine lv_iadd hx hb dX14_takesOf_81 ?_
          obtain rfl := s1i h
          exact r_iret0 hx hb hr hlk hR hS (Nat.zero_le _) (Nat.zero_le _) dX14_takesOf_82
        · replace h := ifn h c10
          by_cases c15 : r4 = 5
          · replace h := ifp h c15
            refine lv_tableIn (off := 68) (tgt := 83) hx hb dX14_takesOf_15 (by rw [c15]; decide) (by rw [c15]; decide) (by rw [c15]; decide) (by decide) ?_
            refine lv_iload_n hx hb dX14_takesOf_83 rfl (lv_at hl 0 rfl) ?_
            refine lv_iconst (v := 2) hx hb dX14_takesOf_84 ki_2 ?_
            refine lv_idiv hx hb dX14_takesOf_85 (by decide) ?_
            obtain rfl := s1i h
            exact r_iret0 hx hb hr hlk hR hS (Nat.zero_le _) (Nat.zero_le _) dX14_takesOf_86
          · replace h := ifn h c15
            have dc5 : Int32.toInt r4 ≠ 1 := ne32 c5 (by decide)
            have dc6 : Int32.toInt r4 ≠ 2 := ne32 c6 (by decide)
            have dc9 : Int32.toInt r4 ≠ 3 := ne32 c9 (by decide)
            have dc10 : Int32.toInt r4 ≠ 4 := ne32 c10 (by decide)
            have dc15 : Int32.toInt r4 ≠ 5 := ne32 c15 (by decide)
            refine lv_tableOut (tgt := 87) hx hb dX14_takesOf_15 (by omega) (by decide) ?_
            refine lv_iload_n hx hb dX14_takesOf_87 rfl (lv_at hl 0 rfl) ?_
            obtain rfl := s1i h
            exact r_iret0 hx hb hr hlk hR hS (Nat.zero_le _) (Nat.zero_le _) dX14_takesOf_88
def rm_X14_fightsOf : Room := { frames := 2, cells := 0, slots := 0, locals := 34 }
theorem hd_X14_fightsOf : yX14_fightsOf.cls = "IntentVatsModel" ∧ yX14_fightsOf.cls ≠ "java/lang/invoke/MethodHandle" ∧ yX14_fightsOf.cls ≠ "java/lang/invoke/VarHandle" ∧ (parseMethodDescriptor yX14_fightsOf.desc).map (fun d => d.parameters.length) = some 2 := by decide +kernel
theorem he_X14_fightsOf : yX14_fightsOf.cls ≠ "java/lang/invoke/MethodHandle" ∧ yX14_fightsOf.cls ≠ "java/lang/invoke/VarHandle" ∧ (parseMethodDescriptor yX14_fightsOf.desc).map (fun d => d.parameters.length) = some 2 := hd_X14_fightsOf.2

set_option maxHeartbeats 4000000 in
set_option maxRecDepth 100000 in
theorem w_X14_fightsOf {l : Launch} {G : Gx} {sh : SM} {g : GM} {gl : LM} {gr : RM} {n : Nat} (hSk : Sk sh gr) (a1 : Int32) (a2 : Int32)  {r : Int32} (h : f_X14_fightsOf g a1 a2 = some r) : MetI l G yX14_fightsOf (ws_ yX14_fightsOf cX14_fightsOf 3 (Option.some Jvm.ClassFile.FieldType.int)) rm_X14_fightsOf [.ref (adr G 128), .int a1, .int a2] sh g gl gr n (some (.int r)) sh g gl gr n := by
  refine MetI.of (by decide) (Nat.le_of_ble_eq_true rfl) ?_
  intro p e s m below meth c ls hx hb hr hml hown hts hlk hnm hW hK hR hS hl
  have hown : s.vm.findClass RX14 = some m.cls := hown
  have hF : CallFix p m c cX14_fightsOf 3 s ([.ref (adr G 128), .int a1, .int a2] : List Value).toArray lw_all RX14 := ⟨hx, hb, hml, hown, hts⟩
  have hl : lv_has ls 3 [(0, .ref (adr G 128)), (1, .int a1), (2, .int a2)] := hl
  unfold f_X14_fightsOf at h
  refine lv_aload_n hx hb dX14_fightsOf_0 rfl (lv_at hl 0 rfl) ?_
  refine lv_iload_n hx hb dX14_fightsOf_1 rfl (lv_at hl 1 rfl) ?_
  refine lv_iconst (v := 0) hx hb dX14_fightsOf_2 ki_0 ?_
  obtain ⟨r2, e1, h⟩ := obd h
  refine rc_V0 (rest := []) (st1 := [.int r2]) hF (w_X14_its hSk a1 0 e1) (cwV 2 hts (lw_V q1662 q1664 qs48 q117 q1665) rfl rfl rfl hd_X14_its ⟨Nat.le_of_ble_eq_true rfl, Nat.le_of_ble_eq_true rfl⟩) cfX14 (sk_128 hSk) hK hW hR hS rfl hl.1 rfl (Nat.le_of_ble_eq_true rfl) rfl dX14_fightsOf_3 ⟨rfl, rfl⟩ ⟨Nat.zero_le _, Nat.zero_le _⟩ (fun H locs hR hS => ?_)
  by_cases c3 : r2 = 1
  · replace h := ifp h c3
    refine lv_tableIn (off := 34) (tgt := 40) hx hb dX14_fightsOf_6 (by rw [c3]; decide) (by rw [c3]; decide) (by rw [c3]; decide) (by decide) ?_
    refine lv_iload_n hx hb dX14_fightsOf_40 rfl (lv_at hl 2 rfl) ?_
    refine lv_aload_n hx hb dX14_fightsOf_41 rfl (lv_at hl 0 rfl) ?_
    refine r_getr hx hb hts cfX14 hown hK hR (sk_128 hSk) 2 (by decide) rfl (sr_128_2 hSk) (hts _ q1523) (fun _ h => h) dX14_fightsOf_42 ?_
    refine lv_iconst (v := 2) hx hb dX14_fightsOf_45 ki_2 ?_
    obtain ⟨v5, e4, h⟩ := obd h
    refine r_ldi hx hb hK hR (sk_131 hSk) e4 dX14_fightsOf_46 ?_
    refine lv_isub hx hb dX14_fightsOf_47 ?_
    obtain rfl := s1i h
    exact r_iret0 hx hb hr hlk hR hS (Nat.zero_le _) (Nat.zero_le _) dX14_fightsOf_48
  · replace h := ifn h c3
    by_cases c6 : r2 = 2
    · replace h := ifp h c6
      refine lv_tableIn (off := 59) (tgt := 65) hx hb dX14_fightsOf_6 (by rw [c6]; decide) (by rw [c6]; decide) (by rw [c6]; decide) (by decide) ?_
      refine lv_iload_n hx hb dX14_fightsOf_65 rfl (lv_at hl 2 rfl) ?_
      refine lv_aload_n hx hb dX14_fightsOf_66 rfl (lv_at hl 0 rfl) ?_
      refine r_getr hx hb hts cfX14 hown hK hR (sk_128 hSk) 2 (by decide) rfl (sr_128_2 hSk) (hts _ q1523) (fun _ h => h) dX14_fightsOf_67 ?_
      refine lv_iconst (v := 2) hx hb dX14_fightsOf_70 ki_2 ?_
      obtain ⟨v8, e7, h⟩ := obd h
      refine r_ldi hx hb hK hR (sk_131 hSk) e7 dX14_fightsOf_71 ?_
      refine lv_iadd hx hb dX14_fightsOf_72 ?_
      obtain rfl := s1i h
      exact r_iret0 hx hb hr hlk hR hS (Nat.zero_le _) (Nat.zero_le _) dX14_fightsOf_73
    · replace h := ifn h c6
      by_cases c9 : r2 = 3
      · replace h := ifp h c9
        refine lv_tableIn (off := 43) (tgt := 49) hx hb dX14_fightsOf_6 (by rw [c9]; decide) (by rw [c9]; decide) (by rw [c9]; decide) (by decide) ?_
        refine lv_iload_n hx hb dX14_fightsOf_49 rfl (lv_at hl 2 rfl) ?_
        refine lv_aload_n hx hb dX14_fightsOf_50 rfl (lv_at hl 0 rfl) ?_
        refine r_getr hx hb hts cfX14 hown hK hR (sk_128 hSk) 2 (by decide) rfl (sr_128_2 hSk) (hts _ q1523) (fun _ h => h) dX14_fightsOf_51 ?_
        refine lv_iconst (v := 2) hx hb dX14_fightsOf_54 ki_2 ?_
        obtain ⟨v11, e10, h⟩ := obd h
        refine r_ldi hx hb hK hR (sk_131 hSk) e10 dX14_fightsOf_55 ?_
        refine lv_isub hx hb dX14_fightsOf_56 ?_
        refine lv_aload_n hx hb dX14_fightsOf_57 rfl (lv_at hl 0 rfl) ?_
        refine r_getr hx hb hts cfX14 hown hK hR (sk_128 hSk) 2 (by decide) rfl (sr_128_2 hSk) (hts _ q1523) (fun _ h => h) dX14_fightsOf_58 ?_
        refine lv_iconst (v := 0) hx hb dX14_fightsOf_61 ki_0 ?_
        obtain ⟨v13, e12, h⟩ := obd h
        refine r_ldi hx hb hK hR (sk_131 hSk) e12 dX14_fightsOf_62 ?_
        refine lv_iadd hx hb dX14_fightsOf_63 ?_
        obtain rfl := s1i h
        exact r_iret0 hx hb hr hlk hR hS (Nat.zero_le _) (Nat.zero_le _) dX14_fightsOf_64
      · replace h := ifn h c9
        by_cases c14 : r2 = 4
        · replace h := ifp h c14
          refine lv_tableIn (off := 68) (tgt := 74) hx hb dX14_fightsOf_6 (by rw [c14]; decide) (by rw [c14]; decide) (by rw [c14]; decide) (by decide) ?_
          refine lv_iconst (v := 2) hx hb dX14_fightsOf_74 ki_2 ?_
          refine lv_iload_n hx hb dX14_fightsOf_75 rfl (lv_at hl 2 rfl) ?_
          refine lv_aload_n hx hb dX14_fightsOf_76 rfl (lv_at hl 0 rfl) ?_
          refine r_getr hx hb hts cfX14 hown hK hR (sk_128 hSk) 2 (by decide) rfl (sr_128_2 hSk) (hts _ q1523) (fun _ h => h) dX14_fightsOf_77 ?_
          refine lv_iconst (v := 2) hx hb dX14_fightsOf_80 ki_2 ?_
          obtain ⟨v16, e15, h⟩ := obd h
          refine r_ldi hx hb hK hR (sk_131 hSk) e15 dX14_fightsOf_81 ?_
          refine lv_iadd hx hb dX14_fightsOf_82 ?_
          refine lv_imul hx hb dX14_fightsOf_83 ?_
          obtain rfl := s1i h
          exact r_iret0 hx hb hr hlk hR hS (Nat.zero_le _) (Nat.zero_le _) dX14_fightsOf_84
        · replace h := ifn h c14
          by_cases c17 : r2 = 5
          · replace h := ifp h c17
            refine lv_tableIn (off := 79) (tgt := 85) hx hb dX14_fightsOf_6 (by rw [c17]; decide) (by rw [c17]; decide) (by rw [c17]; decide) (by decide) ?_
            refine lv_iload_n hx hb dX14_fightsOf_85 rfl (lv_at hl 2 rfl) ?_
            refine lv_iconst (v := 1) hx hb dX14_fightsOf_86 ki_1 ?_
            refine lv_iadd hx hb dX14_fightsOf_87 ?_
            obtain rfl := s1i h
            exact r_iret0 hx hb hr hlk hR hS (Nat.zero_le _) (Nat.zero_le _) dX14_fightsOf_88
          · replace h := ifn h c17
            have dc3 : Int32.toInt r2 ≠ 1 := ne32 c3 (by decide)
            have dc6 : Int32.toInt r2 ≠ 2 := ne32 c6 (by decide)
            have dc9 : Int32.toInt r2 ≠ 3 := ne32 c9 (by decide)
            have dc14 : Int32.toInt r2 ≠ 4 := ne32 c14 (by decide)
            have dc17 : Int32.toInt r2 ≠ 5 := ne32 c17 (by decide)
            refine lv_tableOut (tgt := 89) hx hb dX14_fightsOf_6 (by omega) (by decide) ?_
            refine lv_iload_n hx hb dX14_fightsOf_89 rfl (lv_at hl 2 rfl) ?_
            obtain rfl := s1i h
            exact r_iret0 hx hb hr hlk hR hS (Nat.zero_le _) (Nat.zero_le _) dX14_fightsOf_90
def rm_X14_fadesOf : Room := { frames := 2, cells := 0, slots := 0, locals := 34 }
theorem hd_X14_fadesOf : yX14_fadesOf.cls = "IntentVatsModel" ∧ yX14_fadesOf.cls ≠ "java/lang/invoke/MethodHandle" ∧ yX14_fadesOf.cls ≠ "java/lang/invoke/VarHandle" ∧ (parseMethodDescriptor yX14_fadesOf.desc).map (fun d => d.parameters.length) = some 1 := by decide +kernel
theorem he_X14_fadesOf : yX14_fadesOf.cls ≠ "java/lang/invoke/MethodHandle" ∧ yX14_fadesOf.cls ≠ "java/lang/invoke/VarHandle" ∧ (parseMethodDescriptor yX14_fadesOf.desc).map (fun d => d.parameters.length) = some 1 := hd_X14_fadesOf.2

set_option maxHeartbeats 4000000 in
set_option maxRecDepth 100000 in
theorem w_X14_fadesOf {l : Launch} {G : Gx} {sh : SM} {g : GM} {gl : LM} {gr : RM} {n : Nat} (hSk : Sk sh gr) (a1 : Int32)  {r : Int32} (h : f_X14_fadesOf g a1 = some r) : MetI l G yX14_fadesOf (ws_ yX14_fadesOf cX14_fadesOf 3 (Option.some Jvm.ClassFile.FieldType.int)) rm_X14_fadesOf [.ref (adr G 128), .int a1] sh g gl gr n (some (.int r)) sh g gl gr n := by
  refine MetI.of (by decide) (Nat.le_of_ble_eq_true rfl) ?_
  intro p e s m below meth c ls hx hb hr hml hown hts hlk hnm hW hK hR hS hl
  have hown : s.vm.findClass RX14 = some m.cls := hown
  have hF : CallFix p m c cX14_fadesOf 3 s ([.ref (adr G 128), .int a1] : List Value).toArray lw_all RX14 := ⟨hx, hb, hml, hown, hts⟩
  have hl : lv_has ls 3 [(0, .ref (adr G 128)), (1, .int a1)] := hl
  unfold f_X14_fadesOf at h
  refine lv_aload_n hx hb dX14_fadesOf_0 rfl (lv_at hl 0 rfl) ?_
  refine r_getr hx hb hts cfX14 hown hK hR (sk_128 hSk) 2 (by decide) rfl (sr_128_2 hSk) (hts _ q1523) (fun _ h => h) dX14_fadesOf_1 ?_
  refine lv_iconst (v := 1) hx hb dX14_fadesOf_4 ki_1 ?_
  obtain ⟨v2, e1, h⟩ := obd h
  refine r_ldi hx hb hK hR (sk_131 hSk) e1 dX14_fadesOf_5 ?_
  refine lv_istore_n (lv' := [(2, .int v2), (0, .ref (adr G 128)), (1, .int a1)]) hx hb dX14_fadesOf_6 rfl hl (by decide) rfl (fun ls hl => ?_)
  refine lv_aload_n hx hb dX14_fadesOf_7 rfl (lv_at hl 1 rfl) ?_
  refine lv_iload_n hx hb dX14_fadesOf_8 rfl (lv_at hl 2 rfl) ?_
  refine lv_iconst (v := 0) hx hb dX14_fadesOf_9 ki_0 ?_
  obtain ⟨r4, e3, h⟩ := obd h
  refine rc_V0 (rest := []) (st1 := [.int r4]) hF (w_X14_its hSk a1 0 e3) (cwV 2 hts (lw_V q1662 q1664 qs48 q117 q1665) rfl rfl rfl hd_X14_its ⟨Nat.le_of_ble_eq_true rfl, Nat.le_of_ble_eq_true rfl⟩) cfX14 (sk_128 hSk) hK hW hR hS rfl hl.1 rfl (Nat.le_of_ble_eq_true rfl) rfl dX14_fadesOf_10 ⟨rfl, rfl⟩ ⟨Nat.zero_le _, Nat.zero_le _⟩ (fun H locs hR hS => ?_)
  by_cases c5 : r4 = 1
  · replace h := ifp h c5
    refine lv_tableIn (off := 35) (tgt := 48) hx hb dX14_fadesOf_13 (by rw [c5]; decide) (by rw [c5]; decide) (by rw [c5]; decide) (by decide) ?_
    refine lv_iload_n hx hb dX14_fadesOf_48 rfl (lv_at hl 0 rfl) ?_
    refine lv_iconst (v := 1) hx hb dX14_fadesOf_49 ki_1 ?_
    refine lv_isub hx hb dX14_fadesOf_50 ?_
    obtain rfl := s1i h
    exact r_iret0 hx hb hr hlk hR hS (Nat.zero_le _) (Nat.zero_le _) dX14_fadesOf_51
  · replace h := ifn h c5
    by_cases c6 : r4 = 2
    · replace h := ifp h c6
      refine lv_tableIn (off := 41) (tgt := 54) hx hb dX14_fadesOf_13 (by rw [c6]; decide) (by rw [c6]; decide) (by rw [c6]; decide) (by decide) ?_
      refine lv_iload_n hx hb dX14_fadesOf_54 rfl (lv_at hl 0 rfl) ?_
      refine lv_iconst (v := 1) hx hb dX14_fadesOf_55 ki_1 ?_
      refine lv_iadd hx hb dX14_fadesOf_56 ?_
      obtain rfl := s1i h
      exact r_iret0 hx hb hr hlk hR hS (Nat.zero_le _) (Nat.zero_le _) dX14_fadesOf_57
    · replace h := ifn h c6
      by_cases c7 : r4 = 3
      · replace h := ifp h c7
        refine lv_tableIn (off := 39) (tgt := 52) hx hb dX14_fadesOf_13 (by rw [c7]; decide) (by rw [c7]; decide) (by rw [c7]; decide) (by decide) ?_
        refine lv_iconst (v := 0) hx hb dX14_fadesOf_52 ki_0 ?_
        obtain rfl := s1i h
        exact r_iret0 hx hb hr hlk hR hS (Nat.zero_le _) (Nat.zero_le _) dX14_fadesOf_53
      · replace h := ifn h c7
        by_cases c8 : r4 = 4
        · replace h := ifp h c8
          refine lv_tableIn (off := 45) (tgt := 58) hx hb dX14_fadesOf_13 (by rw [c8]; decide) (by rw [c8]; decide) (by rw [c8]; decide) (by decide) ?_
          refine lv_iconst (v := 2) hx hb dX14_fadesOf_58 ki_2 ?_
          refine lv_iload_n hx hb dX14_fadesOf_59 rfl (lv_at hl 0 rfl) ?_
          refine lv_iconst (v := 1) hx hb dX14_fadesOf_60 ki_1 ?_
          refine lv_iadd hx hb dX14_fadesOf_61 ?_
          refine lv_imul hx hb dX14_fadesOf_62 ?_
          obtain rfl := s1i h
          exact r_iret0 hx hb hr hlk hR hS (Nat.zero_le _) (Nat.zero_le _) dX14_fadesOf_63
        · replace h := ifn h c8
          by_cases c9 : r4 = 5
          · replace h := ifp h c9
            refine lv_tableIn (off := 51) (tgt := 64) hx hb dX14_fadesOf_13 (by rw [c9]; decide) (by rw [c9]; decide) (by rw [c9]; decide) (by decide) ?_
            refine lv_iload_n hx hb dX14_fadesOf_64 rfl (lv_at hl 0 rfl) ?_
            refine lv_iconst (v := 3) hx hb dX14_fadesOf_65 ki_3 ?_
            refine lv_iadd hx hb dX14_fadesOf_66 ?_
            obtain rfl := s1i h
            exact r_iret0 hx hb hr hlk hR hS (Nat.zero_le _) (Nat.zero_le _) dX14_fadesOf_67
          · replace h := ifn h c9
            have dc5 : Int32.toInt r4 ≠ 1 := ne32 c5 (by decide)
            have dc6 : Int32.toInt r4 ≠ 2 := ne32 c6 (by decide)
            have dc7 : Int32.toInt r4 ≠ 3 := ne32 c7 (by decide)
            have dc8 : Int32.toInt r4 ≠ 4 := ne32 c8 (by decide)
            have dc9 : Int32.toInt r4 ≠ 5 := ne32 c9 (by decide)
            refine lv_tableOut (tgt := 68) hx hb dX14_fadesOf_13 (by omega) (by decide) ?_
            refine lv_iload_n hx hb dX14_fadesOf_68 rfl (lv_at hl 0 rfl) ?_
            obtain rfl := s1i h
            exact r_iret0 hx hb hr hlk hR hS (Nat.zero_le _) (Nat.zero_le _) dX14_fadesOf_69
