/-! walks: X1_begins, X1_copy, X1_become, X1_hangs, X1_add, X0_has, X1_isHung, X1_settles, X1_vatNow, X1_depths, X1_draw, X1_aboutAny, X1_isAtOdds, X1_atOdds, X1_purposes, X10_row, X2_takes, X2_fights, X22_fades, X3_takes, X3_fights, X3_fades, X4_takes, X4_fights, X4_fades -/
def rm_X1_begins : Room := { frames := 1, cells := 0, slots := 0, locals := 12 }
theorem hd_X1_begins : yX1_begins.cls = "IntentVats$Mill" ∧ yX1_begins.cls ≠ "java/lang/invoke/MethodHandle" ∧ yX1_begins.cls ≠ "java/lang/invoke/VarHandle" ∧ (parseMethodDescriptor yX1_begins.desc).map (fun d => d.parameters.length) = some 0 := by decide +kernel
theorem he_X1_begins : yX1_begins.cls ≠ "java/lang/invoke/MethodHandle" ∧ yX1_begins.cls ≠ "java/lang/invoke/VarHandle" ∧ (parseMethodDescriptor yX1_begins.desc).map (fun d => d.parameters.length) = some 0 := hd_X1_begins.2

set_option maxHeartbeats 4000000 in
set_option maxRecDepth 100000 in
theorem w_X1_begins {l : Launch} {G : Gx} {sh : SM} {g : GM} {gl : LM} {gr : RM} {n : Nat} (hSk : Sk sh gr) (b0 : Nat) (hm_b0 : isMl b0) {go : GM} (h : f_X1_begins g b0 = some go) : MetI l G yX1_begins (ws_ yX1_begins cX1_begins 2 (Option.none : Option Jvm.ClassFile.FieldType)) rm_X1_begins [.ref (adr G b0)] sh g gl gr n none sh go gl gr n := by
  refine MetI.of (by decide) (Nat.le_of_ble_eq_true rfl) ?_
  intro p e s m below meth c ls hx hb hr hml hown hts hlk hnm hW hK hR hS hl
  have hown : s.vm.findClass RX1 = some m.cls := hown
  have hF : CallFix p m c cX1_begins 2 s ([.ref (adr G b0)] : List Value).toArray lw_all RX1 := ⟨hx, hb, hml, hown, hts⟩
  have hl : lv_has ls 2 [(0, .ref (adr G b0))] := hl
  unfold f_X1_begins at h
  refine lv_aload_n hx hb dX1_begins_0 rfl (lv_at hl 0 rfl) ?_
  refine lv_iconst (v := 0) hx hb dX1_begins_1 ki_0 ?_
  obtain ⟨g2, e1, h⟩ := obd h
  refine r_puti hx hb hts cfX1 hown hK hR hS (mls_0 hSk hm_b0) 0 (by decide) rfl (hts _ q152) (fun _ h => h) (Or.inl rfl) rfl rfl e1 dX1_begins_2 (fun H locs hR hS => ?_)
  refine lv_aload_n hx hb dX1_begins_5 rfl (lv_at hl 0 rfl) ?_
  refine lv_iconst (v := 0) hx hb dX1_begins_6 ki_0 ?_
  obtain ⟨g4, e3, h⟩ := obd h
  refine r_puti hx hb hts cfX1 hown hK hR hS (mls_0 hSk hm_b0) 1 (by decide) rfl (hts _ q155) (fun _ h => h) (Or.inl rfl) rfl rfl e3 dX1_begins_7 (fun H locs hR hS => ?_)
  refine lv_aload_n hx hb dX1_begins_10 rfl (lv_at hl 0 rfl) ?_
  refine lv_iconst (v := 0) hx hb dX1_begins_11 ki_0 ?_
  obtain ⟨g6, e5, h⟩ := obd h
  refine r_puti hx hb hts cfX1 hown hK hR hS (mls_0 hSk hm_b0) 2 (by decide) rfl (hts _ q157) (fun _ h => h) (Or.inl rfl) rfl rfl e5 dX1_begins_12 (fun H locs hR hS => ?_)
  refine lv_aload_n hx hb dX1_begins_15 rfl (lv_at hl 0 rfl) ?_
  refine r_getr hx hb hts cfX1 hown hK hR (mls_0 hSk hm_b0) 4 (by decide) rfl (mlr_4 hSk hm_b0) (hts _ q161) (fun _ h => h) dX1_begins_16 ?_
  refine lv_iconst (v := 0) hx hb dX1_begins_19 ki_0 ?_
  refine lv_iconst (v := 3) hx hb dX1_begins_20 ki_3 ?_
  obtain ⟨g8, e7, h⟩ := obd h
  refine r_sti hx hb hK hR hS (mls_1 hSk hm_b0) e7 dX1_begins_21 (fun H locs hR hS => ?_)
  refine lv_aload_n hx hb dX1_begins_22 rfl (lv_at hl 0 rfl) ?_
  refine r_getr hx hb hts cfX1 hown hK hR (mls_0 hSk hm_b0) 4 (by decide) rfl (mlr_4 hSk hm_b0) (hts _ q161) (fun _ h => h) dX1_begins_23 ?_
  refine lv_iconst (v := 1) hx hb dX1_begins_26 ki_1 ?_
  refine lv_iconst (v := 2) hx hb dX1_begins_27 ki_2 ?_
  obtain ⟨g10, e9, h⟩ := obd h
  refine r_sti hx hb hK hR hS (mls_1 hSk hm_b0) e9 dX1_begins_28 (fun H locs hR hS => ?_)
  refine lv_aload_n hx hb dX1_begins_29 rfl (lv_at hl 0 rfl) ?_
  refine r_getr hx hb hts cfX1 hown hK hR (mls_0 hSk hm_b0) 4 (by decide) rfl (mlr_4 hSk hm_b0) (hts _ q161) (fun _ h => h) dX1_begins_30 ?_
  refine lv_iconst (v := 2) hx hb dX1_begins_33 ki_2 ?_
  refine lv_iconst (v := 4) hx hb dX1_begins_34 ki_4 ?_
  obtain ⟨g12, e11, h⟩ := obd h
  refine r_sti hx hb hK hR hS (mls_1 hSk hm_b0) e11 dX1_begins_35 (fun H locs hR hS => ?_)
  refine lv_aload_n hx hb dX1_begins_36 rfl (lv_at hl 0 rfl) ?_
  refine r_getr hx hb hts cfX1 hown hK hR (mls_0 hSk hm_b0) 4 (by decide) rfl (mlr_4 hSk hm_b0) (hts _ q161) (fun _ h => h) dX1_begins_37 ?_
  refine lv_iconst (v := 3) hx hb dX1_begins_40 ki_3 ?_
  refine lv_bipush (v := 20) hx hb dX1_begins_41 kb_20 ?_
  obtain ⟨g14, e13, h⟩ := obd h
  refine r_sti hx hb hK hR hS (mls_1 hSk hm_b0) e13 dX1_begins_43 (fun H locs hR hS => ?_)
  refine lv_iconst (v := 0) hx hb dX1_begins_44 ki_0 ?_
  refine lv_istore_n (lv' := [(1, .int 0), (0, .ref (adr G b0))]) hx hb dX1_begins_45 rfl hl (by decide) rfl (fun ls hl => ?_)
  have J46 : ∀ (k46 : Nat) (x15 : Int32) (g16 : GM) (H : Heap) (locs : List Loc) (ls : Array Slot), Rep G sh g16 gl gr n H → va_S (own G) s.heap H locs → lv_has ls 2 [(0, .ref (adr G b0)), (1, .int x15)] → l_X1_begins_46 b0 k46 x15 g16 = some go → W p l e rm_X1_begins s m ([.ref (adr G b0)] : List Value).toArray below meth c H locs 0 0 (MQ below (QR G none sh go gl gr n) ([.ref (adr G b0)] : List Value).toArray s rm_X1_begins.cells rm_X1_begins.slots (own G)) (F0 m 46 ls []) := by
    intro k46
    induction k46 with
    | zero => intro _ _ _ _ _ _ _ _; exact nofun
    | succ k46 ih46 =>
      intro x15 g16 H locs ls hR hS hl h
      unfold l_X1_begins_46 b_X1_begins_46 at h
      refine lv_iload_n hx hb dX1_begins_46 rfl (lv_at hl 1 rfl) ?_
      refine lv_bipush (v := 8) hx hb dX1_begins_47 kb_8 ?_
      refine lv_icmp_ge (tgt := 72) hx hb dX1_begins_49 (by decide) (fun c17 => ?_) (fun c17 => ?_)
      · replace h := ifp h c17
        refine lv_iconst (v := 0) hx hb dX1_begins_72 ki_0 ?_
        refine lv_istore_n (lv' := [(1, .int 0), (0, .ref (adr G b0))]) hx hb dX1_begins_73 rfl hl (by decide) rfl (fun ls hl => ?_)
        have J74 : ∀ (k74 : Nat) (x18 : Int32) (g19 : GM) (H : Heap) (locs : List Loc) (ls : Array Slot), Rep G sh g19 gl gr n H → va_S (own G) s.heap H locs → lv_has ls 2 [(0, .ref (adr G b0)), (1, .int x18)] → l_X1_begins_74 b0 k74 x18 g19 = some go → W p l e rm_X1_begins s m ([.ref (adr G b0)] : List Value).toArray below meth c H locs 0 0 (MQ below (QR G none sh go gl gr n) ([.ref (adr G b0)] : List Value).toArray s rm_X1_begins.cells rm_X1_begins.slots (own G)) (F0 m 74 ls []) := by
          intro k74
          induction k74 with
          | zero => intro _ _ _ _ _ _ _ _; exact nofun
          | succ k74 ih74 =>
            intro x18 g19 H locs ls hR hS hl h
            unfold l_X1_begins_74 b_X1_begins_74 at h
            refine lv_iload_n hx hb dX1_begins_74 rfl (lv_at hl 1 rfl) ?_
            refine lv_bipush (v := 6) hx hb dX1_begins_75 kb_6 ?_
            refine lv_icmp_ge (tgt := 93) hx hb dX1_begins_77 (by decide) (fun c20 => ?_) (fun c20 => ?_)
            · replace h := ifp h c20
              obtain rfl := s1i h
              exact r_vret0 hx hb hr hlk hR hS (Nat.zero_le _) (Nat.zero_le _) dX1_begins_93
            · replace h := ifn h c20
              refine lv_aload_n hx hb dX1_begins_80 rfl (lv_at hl 0 rfl) ?_
              refine r_getr hx hb hts cfX1 hown hK hR (mls_0 hSk hm_b0) 7 (by decide) rfl (mlr_7 hSk hm_b0) (hts _ q177) (fun _ h => h) dX1_begins_81 ?_
              refine lv_iload_n hx hb dX1_begins_84 rfl (lv_at hl 1 rfl) ?_
              refine lv_iload_n hx hb dX1_begins_85 rfl (lv_at hl 1 rfl) ?_
              obtain ⟨g22, e21, h⟩ := obd h
              refine r_sti hx hb hK hR hS (mls_4 hSk hm_b0) e21 dX1_begins_86 (fun H locs hR hS => ?_)
              refine lv_iinc (v := x18 + 1) (lv' := [(1, .int (x18 + 1)), (0, .ref (adr G b0))]) hx hb dX1_begins_87 hl (k := 1) rfl rfl (by decide) rfl (fun ls hl => ?_)
              refine lv_goto (tgt := 74) hx hb dX1_begins_90 (by decide) ?_
              exact ih74 (x18 + 1) g22 _ _ _ hR hS (lv_sub hl [1, 0] rfl) h
        exact J74 fuel 0 g16 _ _ _ hR hS (lv_sub hl [1, 0] rfl) h
      · replace h := ifn h c17
        refine lv_aload_n hx hb dX1_begins_52 rfl (lv_at hl 0 rfl) ?_
        refine r_getr hx hb hts cfX1 hown hK hR (mls_0 hSk hm_b0) 5 (by decide) rfl (mlr_5 hSk hm_b0) (hts _ q170) (fun _ h => h) dX1_begins_53 ?_
        refine lv_iload_n hx hb dX1_begins_56 rfl (lv_at hl 1 rfl) ?_
        refine lv_iload_n hx hb dX1_begins_57 rfl (lv_at hl 1 rfl) ?_
        obtain ⟨g24, e23, h⟩ := obd h
        refine r_sti hx hb hK hR hS (mls_2 hSk hm_b0) e23 dX1_begins_58 (fun H locs hR hS => ?_)
        refine lv_aload_n hx hb dX1_begins_59 rfl (lv_at hl 0 rfl) ?_
        refine r_getr hx hb hts cfX1 hown hK hR (mls_0 hSk hm_b0) 6 (by decide) rfl (mlr_6 hSk hm_b0) (hts _ q173) (fun _ h => h) dX1_begins_60 ?_
        refine lv_iload_n hx hb dX1_begins_63 rfl (lv_at hl 1 rfl) ?_
        refine lv_iconst (v := 5) hx hb dX1_begins_64 ki_5 ?_
        obtain ⟨g26, e25, h⟩ := obd h
        refine r_sti hx hb hK hR hS (mls_3 hSk hm_b0) e25 dX1_begins_65 (fun H locs hR hS => ?_)
        refine lv_iinc (v := x15 + 1) (lv' := [(1, .int (x15 + 1)), (0, .ref (adr G b0))]) hx hb dX1_begins_66 hl (k := 1) rfl rfl (by decide) rfl (fun ls hl => ?_)
        refine lv_goto (tgt := 46) hx hb dX1_begins_69 (by decide) ?_
        exact ih46 (x15 + 1) g26 _ _ _ hR hS (lv_sub hl [1, 0] rfl) h
  exact J46 fuel 0 g14 _ _ _ hR hS (lv_sub hl [1, 0] rfl) h
def rm_X1_copy : Room := { frames := 1, cells := 0, slots := 0, locals := 100 }
theorem he_X1_copy : yX1_copy.cls ≠ "java/lang/invoke/MethodHandle" ∧ yX1_copy.cls ≠ "java/lang/invoke/VarHandle" ∧ (parseMethodDescriptor yX1_copy.desc).map (fun d => d.parameters.length) = some 2 := by decide +kernel

set_option maxHeartbeats 4000000 in
set_option maxRecDepth 100000 in
theorem w_X1_copy {l : Launch} {G : Gx} {sh : SM} {g : GM} {gl : LM} {gr : RM} {n : Nat} (hSk : Sk sh gr) (a0 : Nat) (La0 : Nat) (a1 : Nat) (La1 : Nat) (hs_a0 : sh a0 = (1, La0)) (hs_a1 : sh a1 = (1, La1)) {go : GM} (h : f_X1_copy g a0 La0 a1 La1 = some go) : MetI l G yX1_copy (ws_ yX1_copy cX1_copy 2 (Option.none : Option Jvm.ClassFile.FieldType)) rm_X1_copy [.ref (adr G a0), .ref (adr G a1)] sh g gl gr n none sh go gl gr n := by
  refine MetI.of (by decide) (Nat.le_of_ble_eq_true rfl) ?_
  intro p e s m below meth c ls hx hb hr hml hown hts hlk hnm hW hK hR hS hl
  have hown : s.vm.findClass RX1 = some m.cls := hown
  have hF : CallFix p m c cX1_copy 2 s ([.ref (adr G a0), .ref (adr G a1)] : List Value).toArray lw_all RX1 := ⟨hx, hb, hml, hown, hts⟩
  have hl : lv_has ls 2 [(0, .ref (adr G a0)), (1, .ref (adr G a1))] := hl
  unfold f_X1_copy at h
  refine lv_aload_n hx hb dX1_copy_0 rfl (lv_at hl 0 rfl) ?_
  refine lv_iconst (v := 0) hx hb dX1_copy_1 ki_0 ?_
  refine lv_aload_n hx hb dX1_copy_2 rfl (lv_at hl 1 rfl) ?_
  refine lv_iconst (v := 0) hx hb dX1_copy_3 ki_0 ?_
  refine lv_aload_n hx hb dX1_copy_4 rfl (lv_at hl 1 rfl) ?_
  refine r_alen hx hb hK hR hs_a1 (by decide) (by decide) 0 rfl dX1_copy_5 ?_
  obtain ⟨g2, e1, h⟩ := obd h
  refine r_acp hx hb (hml.trans hl.1.symm) hown (hts _ q523) (hts _ q525) (hts _ q524) (hts _ q118) hK hR hS hs_a0 hs_a1 e1 (Nat.le_of_ble_eq_true rfl) (Nat.le_of_ble_eq_true rfl) dX1_copy_6 (fun H locs hR hS => ?_)
  obtain rfl := s1i h
  exact r_vret0 hx hb hr hlk hR hS (Nat.zero_le _) (Nat.zero_le _) dX1_copy_9
def rm_X1_become : Room := { frames := 2, cells := 0, slots := 0, locals := 121 }
theorem hd_X1_become : yX1_become.cls = "IntentVats$Mill" ∧ yX1_become.cls ≠ "java/lang/invoke/MethodHandle" ∧ yX1_become.cls ≠ "java/lang/invoke/VarHandle" ∧ (parseMethodDescriptor yX1_become.desc).map (fun d => d.parameters.length) = some 1 := by decide +kernel
theorem he_X1_become : yX1_become.cls ≠ "java/lang/invoke/MethodHandle" ∧ yX1_become.cls ≠ "java/lang/invoke/VarHandle" ∧ (parseMethodDescriptor yX1_become.desc).map (fun d => d.parameters.length) = some 1 := hd_X1_become.2

set_option maxHeartbeats 4000000 in
set_option maxRecDepth 100000 in
theorem w_X1_become {l : Launch} {G : Gx} {sh : SM} {g : GM} {gl : LM} {gr : RM} {n : Nat} (hSk : Sk sh gr) (b0 : Nat) (b1 : Nat) (hm_b0 : isMl b0) (hm_b1 : isMl b1) {go : GM} (h : f_X1_become g b0 b1 = some go) : MetI l G yX1_become (ws_ yX1_become cX1_become 2 (Option.none : Option Jvm.ClassFile.FieldType)) rm_X1_become [.ref (adr G b0), .ref (adr G b1)] sh g gl gr n none sh go gl gr n := by
  refine MetI.of (by decide) (Nat.le_of_ble_eq_true rfl) ?_
  intro p e s m below meth c ls hx hb hr hml hown hts hlk hnm hW hK hR hS hl
  have hown : s.vm.findClass RX1 = some m.cls := hown
  have hF : CallFix p m c cX1_become 2 s ([.ref (adr G b0), .ref (adr G b1)] : List Value).toArray lw_all RX1 := ⟨hx, hb, hml, hown, hts⟩
  have hl : lv_has ls 2 [(0, .ref (adr G b0)), (1, .ref (adr G b1))] := hl
  unfold f_X1_become at h
  refine lv_aload_n hx hb dX1_become_0 rfl (lv_at hl 0 rfl) ?_
  refine lv_aload_n hx hb dX1_become_1 rfl (lv_at hl 1 rfl) ?_
  refine r_geti hx hb hts cfX1 hown hK hR (mls_0 hSk hm_b1) 0 (by decide) rfl (hts _ q152) (fun _ h => h) dX1_become_2 ?_
  obtain ⟨g2, e1, h⟩ := obd h
  refine r_puti hx hb hts cfX1 hown hK hR hS (mls_0 hSk hm_b0) 0 (by decide) rfl (hts _ q152) (fun _ h => h) (Or.inl rfl) rfl rfl e1 dX1_become_5 (fun H locs hR hS => ?_)
  refine lv_aload_n hx hb dX1_become_8 rfl (lv_at hl 0 rfl) ?_
  refine lv_aload_n hx hb dX1_become_9 rfl (lv_at hl 1 rfl) ?_
  refine r_geti hx hb hts cfX1 hown hK hR (mls_0 hSk hm_b1) 1 (by decide) rfl (hts _ q155) (fun _ h => h) dX1_become_10 ?_
  obtain ⟨g4, e3, h⟩ := obd h
  refine r_puti hx hb hts cfX1 hown hK hR hS (mls_0 hSk hm_b0) 1 (by decide) rfl (hts _ q155) (fun _ h => h) (Or.inl rfl) rfl rfl e3 dX1_become_13 (fun H locs hR hS => ?_)
  refine lv_aload_n hx hb dX1_become_16 rfl (lv_at hl 0 rfl) ?_
  refine lv_aload_n hx hb dX1_become_17 rfl (lv_at hl 1 rfl) ?_
  refine r_geti hx hb hts cfX1 hown hK hR (mls_0 hSk hm_b1) 2 (by decide) rfl (hts _ q157) (fun _ h => h) dX1_become_18 ?_
  obtain ⟨g6, e5, h⟩ := obd h
  refine r_puti hx hb hts cfX1 hown hK hR hS (mls_0 hSk hm_b0) 2 (by decide) rfl (hts _ q157) (fun _ h => h) (Or.inl rfl) rfl rfl e5 dX1_become_21 (fun H locs hR hS => ?_)
  refine lv_aload_n hx hb dX1_become_24 rfl (lv_at hl 0 rfl) ?_
  refine lv_aload_n hx hb dX1_become_25 rfl (lv_at hl 1 rfl) ?_
  refine r_geti hx hb hts cfX1 hown hK hR (mls_0 hSk hm_b1) 3 (by decide) rfl (hts _ q159) (fun _ h => h) dX1_become_26 ?_
  obtain ⟨g8, e7, h⟩ := obd h
  refine r_puti hx hb hts cfX1 hown hK hR hS (mls_0 hSk hm_b0) 3 (by decide) rfl (hts _ q159) (fun _ h => h) (Or.inl rfl) rfl rfl e7 dX1_become_29 (fun H locs hR hS => ?_)
  refine lv_aload_n hx hb dX1_become_32 rfl (lv_at hl 1 rfl) ?_
  refine r_getr hx hb hts cfX1 hown hK hR (mls_0 hSk hm_b1) 4 (by decide) rfl (mlr_4 hSk hm_b1) (hts _ q161) (fun _ h => h) dX1_become_33 ?_
  refine lv_aload_n hx hb dX1_become_36 rfl (lv_at hl 0 rfl) ?_
  refine r_getr hx hb hts cfX1 hown hK hR (mls_0 hSk hm_b0) 4 (by decide) rfl (mlr_4 hSk hm_b0) (hts _ q161) (fun _ h => h) dX1_become_37 ?_
  obtain ⟨g10, e9, h⟩ := obd h
  refine rc_S0 (rest := []) (st1 := []) hF (w_X1_copy hSk (b1 + 1) 4 (b0 + 1) 4 (mls_1 hSk hm_b1) (mls_1 hSk hm_b0) e9) (va_cwS 2 hts (lw_S q520 q521 q101 q522) rfl rfl rfl he_X1_copy ⟨Nat.le_of_ble_eq_true rfl, Nat.le_of_ble_eq_true rfl⟩) hW hR hS rfl hl.1 rfl (Nat.le_of_ble_eq_true rfl) rfl dX1_become_40 ⟨rfl, rfl⟩ ⟨Nat.zero_le _, Nat.zero_le _⟩ (fun H locs hR hS => ?_)
  refine lv_aload_n hx hb dX1_become_43 rfl (lv_at hl 1 rfl) ?_
  refine r_getr hx hb hts cfX1 hown hK hR (mls_0 hSk hm_b1) 5 (by decide) rfl (mlr_5 hSk hm_b1) (hts _ q170) (fun _ h => h) dX1_become_44 ?_
  refine lv_aload_n hx hb dX1_become_47 rfl (lv_at hl 0 rfl) ?_
  refine r_getr hx hb hts cfX1 hown hK hR (mls_0 hSk hm_b0) 5 (by decide) rfl (mlr_5 hSk hm_b0) (hts _ q170) (fun _ h => h) dX1_become_48 ?_
  obtain ⟨g12, e11, h⟩ := obd h
  refine rc_S0 (rest := []) (st1 := []) hF (w_X1_copy hSk (b1 + 2) 8 (b0 + 2) 8 (mls_2 hSk hm_b1) (mls_2 hSk hm_b0) e11) (va_cwS 2 hts (lw_S q520 q521 q101 q522) rfl rfl rfl he_X1_copy ⟨Nat.le_of_ble_eq_true rfl, Nat.le_of_ble_eq_true rfl⟩) hW hR hS rfl hl.1 rfl (Nat.le_of_ble_eq_true rfl) rfl dX1_become_51 ⟨rfl, rfl⟩ ⟨Nat.zero_le _, Nat.zero_le _⟩ (fun H locs hR hS => ?_)
  refine lv_aload_n hx hb dX1_become_54 rfl (lv_at hl 1 rfl) ?_
  refine r_getr hx hb hts cfX1 hown hK hR (mls_0 hSk hm_b1) 6 (by decide) rfl (mlr_6 hSk hm_b1) (hts _ q173) (fun _ h => h) dX1_become_55 ?_
  refine lv_aload_n hx hb dX1_become_58 rfl (lv_at hl 0 rfl) ?_
  refine r_getr hx hb hts cfX1 hown hK hR (mls_0 hSk hm_b0) 6 (by decide) rfl (mlr_6 hSk hm_b0) (hts _ q173) (fun _ h => h) dX1_become_59 ?_
  obtain ⟨g14, e13, h⟩ := obd h
  refine rc_S0 (rest := []) (st1 := []) hF (w_X1_copy hSk (b1 + 3) 8 (b0 + 3) 8 (mls_3 hSk hm_b1) (mls_3 hSk hm_b0) e13) (va_cwS 2 hts (lw_S q520 q521 q101 q522) rfl rfl rfl he_X1_copy ⟨Nat.le_of_ble_eq_true rfl, Nat.le_of_ble_eq_true rfl⟩) hW hR hS rfl hl.1 rfl (Nat.le_of_ble_eq_true rfl) rfl dX1_become_62 ⟨rfl, rfl⟩ ⟨Nat.zero_le _, Nat.zero_le _⟩ (fun H locs hR hS => ?_)
  refine lv_aload_n hx hb dX1_become_65 rfl (lv_at hl 1 rfl) ?_
  refine r_getr hx hb hts cfX1 hown hK hR (mls_0 hSk hm_b1) 7 (by decide) rfl (mlr_7 hSk hm_b1) (hts _ q177) (fun _ h => h) dX1_become_66 ?_
  refine lv_aload_n hx hb dX1_become_69 rfl (lv_at hl 0 rfl) ?_
  refine r_getr hx hb hts cfX1 hown hK hR (mls_0 hSk hm_b0) 7 (by decide) rfl (mlr_7 hSk hm_b0) (hts _ q177) (fun _ h => h) dX1_become_70 ?_
  obtain ⟨g16, e15, h⟩ := obd h
  refine rc_S0 (rest := []) (st1 := []) hF (w_X1_copy hSk (b1 + 4) 6 (b0 + 4) 6 (mls_4 hSk hm_b1) (mls_4 hSk hm_b0) e15) (va_cwS 2 hts (lw_S q520 q521 q101 q522) rfl rfl rfl he_X1_copy ⟨Nat.le_of_ble_eq_true rfl, Nat.le_of_ble_eq_true rfl⟩) hW hR hS rfl hl.1 rfl (Nat.le_of_ble_eq_true rfl) rfl dX1_become_73 ⟨rfl, rfl⟩ ⟨Nat.zero_le _, Nat.zero_le _⟩ (fun H locs hR hS => ?_)
  refine lv_aload_n hx hb dX1_become_76 rfl (lv_at hl 1 rfl) ?_
  refine r_getr hx hb hts cfX1 hown hK hR (mls_0 hSk hm_b1) 8 (by decide) rfl (mlr_8 hSk hm_b1) (hts _ q180) (fun _ h => h) dX1_become_77 ?_
  refine lv_aload_n hx hb dX1_become_80 rfl (lv_at hl 0 rfl) ?_
  refine r_getr hx hb hts cfX1 hown hK hR (mls_0 hSk hm_b0) 8 (by decide) rfl (mlr_8 hSk hm_b0) (hts _ q180) (fun _ h => h) dX1_become_81 ?_
  obtain ⟨g18, e17, h⟩ := obd h
  refine rc_S0 (rest := []) (st1 := []) hF (w_X1_copy hSk (b1 + 5) 8 (b0 + 5) 8 (mls_5 hSk hm_b1) (mls_5 hSk hm_b0) e17) (va_cwS 2 hts (lw_S q520 q521 q101 q522) rfl rfl rfl he_X1_copy ⟨Nat.le_of_ble_eq_true rfl, Nat.le_of_ble_eq_true rfl⟩) hW hR hS rfl hl.1 rfl (Nat.le_of_ble_eq_true rfl) rfl dX1_become_84 ⟨rfl, rfl⟩ ⟨Nat.zero_le _, Nat.zero_le _⟩ (fun H locs hR hS => ?_)
  refine lv_aload_n hx hb dX1_become_87 rfl (lv_at hl 1 rfl) ?_
  refine r_getr hx hb hts cfX1 hown hK hR (mls_0 hSk hm_b1) 9 (by decide) rfl (mlr_9 hSk hm_b1) (hts _ q182) (fun _ h => h) dX1_become_88 ?_
  refine lv_aload_n hx hb dX1_become_91 rfl (lv_at hl 0 rfl) ?_
  refine r_getr hx hb hts cfX1 hown hK hR (mls_0 hSk hm_b0) 9 (by decide) rfl (mlr_9 hSk hm_b0) (hts _ q182) (fun _ h => h) dX1_become_92 ?_
  obtain ⟨g20, e19, h⟩ := obd h
  refine rc_S0 (rest := []) (st1 := []) hF (w_X1_copy hSk (b1 + 6) 8 (b0 + 6) 8 (mls_6 hSk hm_b1) (mls_6 hSk hm_b0) e19) (va_cwS 2 hts (lw_S q520 q521 q101 q522) rfl rfl rfl he_X1_copy ⟨Nat.le_of_ble_eq_true rfl, Nat.le_of_ble_eq_true rfl⟩) hW hR hS rfl hl.1 rfl (Nat.le_of_ble_eq_true rfl) rfl dX1_become_95 ⟨rfl, rfl⟩ ⟨Nat.zero_le _, Nat.zero_le _⟩ (fun H locs hR hS => ?_)
  refine lv_aload_n hx hb dX1_become_98 rfl (lv_at hl 1 rfl) ?_
  refine r_getr hx hb hts cfX1 hown hK hR (mls_0 hSk hm_b1) 10 (by decide) rfl (mlr_10 hSk hm_b1) (hts _ q185) (fun _ h => h) dX1_become_99 ?_
  refine lv_aload_n hx hb dX1_become_102 rfl (lv_at hl 0 rfl) ?_
  refine r_getr hx hb hts cfX1 hown hK hR (mls_0 hSk hm_b0) 10 (by decide) rfl (mlr_10 hSk hm_b0) (hts _ q185) (fun _ h => h) dX1_become_103 ?_
  obtain ⟨g22, e21, h⟩ := obd h
  refine rc_S0 (rest := []) (st1 := []) hF (w_X1_copy hSk (b1 + 7) 8 (b0 + 7) 8 (mls_7 hSk hm_b1) (mls_7 hSk hm_b0) e21) (va_cwS 2 hts (lw_S q520 q521 q101 q522) rfl rfl rfl he_X1_copy ⟨Nat.le_of_ble_eq_true rfl, Nat.le_of_ble_eq_true rfl⟩) hW hR hS rfl hl.1 rfl (Nat.le_of_ble_eq_true rfl) rfl dX1_become_106 ⟨rfl, rfl⟩ ⟨Nat.zero_le _, Nat.zero_le _⟩ (fun H locs hR hS => ?_)
  refine lv_aload_n hx hb dX1_become_109 rfl (lv_at hl 1 rfl) ?_
  refine r_getr hx hb hts cfX1 hown hK hR (mls_0 hSk hm_b1) 11 (by decide) rfl (mlr_11 hSk hm_b1) (hts _ q188) (fun _ h => h) dX1_become_110 ?_
  refine lv_aload_n hx hb dX1_become_113 rfl (lv_at hl 0 rfl) ?_
  refine r_getr hx hb hts cfX1 hown hK hR (mls_0 hSk hm_b0) 11 (by decide) rfl (mlr_11 hSk hm_b0) (hts _ q188) (fun _ h => h) dX1_become_114 ?_
  obtain ⟨g24, e23, h⟩ := obd h
  refine rc_S0 (rest := []) (st1 := []) hF (w_X1_copy hSk (b1 + 8) 8 (b0 + 8) 8 (mls_8 hSk hm_b1) (mls_8 hSk hm_b0) e23) (va_cwS 2 hts (lw_S q520 q521 q101 q522) rfl rfl rfl he_X1_copy ⟨Nat.le_of_ble_eq_true rfl, Nat.le_of_ble_eq_true rfl⟩) hW hR hS rfl hl.1 rfl (Nat.le_of_ble_eq_true rfl) rfl dX1_become_117 ⟨rfl, rfl⟩ ⟨Nat.zero_le _, Nat.zero_le _⟩ (fun H locs hR hS => ?_)
  obtain rfl := s1i h
  exact r_vret0 hx hb hr hlk hR hS (Nat.zero_le _) (Nat.zero_le _) dX1_become_120
def rm_X1_hangs : Room := { frames := 1, cells := 0, slots := 0, locals := 12 }
theorem hd_X1_hangs : yX1_hangs.cls = "IntentVats$Mill" ∧ yX1_hangs.cls ≠ "java/lang/invoke/MethodHandle" ∧ yX1_hangs.cls ≠ "java/lang/invoke/VarHandle" ∧ (parseMethodDescriptor yX1_hangs.desc).map (fun d => d.parameters.length) = some 2 := by decide +kernel
theorem he_X1_hangs : yX1_hangs.cls ≠ "java/lang/invoke/MethodHandle" ∧ yX1_hangs.cls ≠ "java/lang/invoke/VarHandle" ∧ (parseMethodDescriptor yX1_hangs.desc).map (fun d => d.parameters.length) = some 2 := hd_X1_hangs.2

set_option maxHeartbeats 4000000 in
set_option maxRecDepth 100000 in
theorem w_X1_hangs {l : Launch} {G : Gx} {sh : SM} {g : GM} {gl : LM} {gr : RM} {n : Nat} (hSk : Sk sh gr) (b0 : Nat) (a1 : Int32) (a2 : Int32) (hm_b0 : isMl b0) {go : GM} (h : f_X1_hangs g b0 a1 a2 = some go) : MetI l G yX1_hangs (ws_ yX1_hangs cX1_hangs 3 (Option.none : Option Jvm.ClassFile.FieldType)) rm_X1_hangs [.ref (adr G b0), .int a1, .int a2] sh g gl gr n none sh go gl gr n := by
  refine MetI.of (by decide) (Nat.le_of_ble_eq_true rfl) ?_
  intro p e s m below meth c ls hx hb hr hml hown hts hlk hnm hW hK hR hS hl
  have hown : s.vm.findClass RX1 = some m.cls := hown
  have hF : CallFix p m c cX1_hangs 3 s ([.ref (adr G b0), .int a1, .int a2] : List Value).toArray lw_all RX1 := ⟨hx, hb, hml, hown, hts⟩
  have hl : lv_has ls 3 [(0, .ref (adr G b0)), (1, .int a1), (2, .int a2)] := hl
  unfold f_X1_hangs at h
  refine lv_aload_n hx hb dX1_hangs_0 rfl (lv_at hl 0 rfl) ?_
  refine lv_iload_n hx hb dX1_hangs_1 rfl (lv_at hl 2 rfl) ?_
  have J26 : ∀ (x1 : Int32) (H : Heap) (locs : List Loc) (ls : Array Slot), Rep G sh g gl gr n H → va_S (own G) s.heap H locs → lv_has ls 3 [] → j_X1_hangs_26 g b0 x1 = some go → W p l e rm_X1_hangs s m ([.ref (adr G b0), .int a1, .int a2] : List Value).toArray below meth c H locs 0 0 (MQ below (QR G none sh go gl gr n) ([.ref (adr G b0), .int a1, .int a2] : List Value).toArray s rm_X1_hangs.cells rm_X1_hangs.slots (own G)) (F0 m 26 ls [.int x1, .ref (adr G b0)]) := by
    intro x1 H locs ls hR hS hl h
    unfold j_X1_hangs_26 at h
    obtain ⟨g3, e2, h⟩ := obd h
    refine r_puti hx hb hts cfX1 hown hK hR hS (mls_0 hSk hm_b0) 2 (by decide) rfl (hts _ q157) (fun _ h => h) (Or.inl rfl) rfl rfl e2 dX1_hangs_26 (fun H locs hR hS => ?_)
    obtain rfl := s1i h
    exact r_vret0 hx hb hr hlk hR hS (Nat.zero_le _) (Nat.zero_le _) dX1_hangs_29
  refine lv_if_eq (tgt := 16) hx hb dX1_hangs_2 (by decide) (fun c4 => ?_) (fun c4 => ?_)
  · replace h := ifp h c4
    refine lv_aload_n hx hb dX1_hangs_16 rfl (lv_at hl 0 rfl) ?_
    refine r_geti hx hb hts cfX1 hown hK hR (mls_0 hSk hm_b0) 2 (by decide) rfl (hts _ q157) (fun _ h => h) dX1_hangs_17 ?_
    refine lv_iconst (v := 1) hx hb dX1_hangs_20 ki_1 ?_
    refine lv_iload_n hx hb dX1_hangs_21 rfl (lv_at hl 1 rfl) ?_
    refine lv_ishl hx hb dX1_hangs_22 ?_
    refine lv_iconst (v := (-1)) hx hb dX1_hangs_23 ki_m1 ?_
    refine lv_ixor hx hb dX1_hangs_24 ?_
    refine lv_iand hx hb dX1_hangs_25 ?_
    exact J26 ((g b0 2) &&& ((1 <<< (a1 &&& 31)) ^^^ (-1))) _ _ _ hR hS (lv_sub hl [] rfl) h
  · replace h := ifn h c4
    refine lv_aload_n hx hb dX1_hangs_5 rfl (lv_at hl 0 rfl) ?_
    refine r_geti hx hb hts cfX1 hown hK hR (mls_0 hSk hm_b0) 2 (by decide) rfl (hts _ q157) (fun _ h => h) dX1_hangs_6 ?_
    refine lv_iconst (v := 1) hx hb dX1_hangs_9 ki_1 ?_
    refine lv_iload_n hx hb dX1_hangs_10 rfl (lv_at hl 1 rfl) ?_
    refine lv_ishl hx hb dX1_hangs_11 ?_
    refine lv_ior hx hb dX1_hangs_12 ?_
    refine lv_goto (tgt := 26) hx hb dX1_hangs_13 (by decide) ?_
    exact J26 ((g b0 2) ||| (1 <<< (a1 &&& 31))) _ _ _ hR hS (lv_sub hl [] rfl) h
def rm_X1_add : Room := { frames := 2, cells := 0, slots := 0, locals := 34 }
theorem hd_X1_add : yX1_add.cls = "IntentVats$Mill" ∧ yX1_add.cls ≠ "java/lang/invoke/MethodHandle" ∧ yX1_add.cls ≠ "java/lang/invoke/VarHandle" ∧ (parseMethodDescriptor yX1_add.desc).map (fun d => d.parameters.length) = some 1 := by decide +kernel
theorem he_X1_add : yX1_add.cls ≠ "java/lang/invoke/MethodHandle" ∧ yX1_add.cls ≠ "java/lang/invoke/VarHandle" ∧ (parseMethodDescriptor yX1_add.desc).map (fun d => d.parameters.length) = some 1 := hd_X1_add.2

set_option maxHeartbeats 4000000 in
set_option maxRecDepth 100000 in
theorem w_X1_add {l : Launch} {G : Gx} {sh : SM} {g : GM} {gl : LM} {gr : RM} {n : Nat} (hSk : Sk sh gr) (b0 : Nat) (a1 : Int32) (hm_b0 : isMl b0) {r : Int32} {go : GM} (h : f_X1_add g b0 a1 = some (r, go)) : MetI l G yX1_add (ws_ yX1_add cX1_add 3 (Option.some Jvm.ClassFile.FieldType.int)) rm_X1_add [.ref (adr G b0), .int a1] sh g gl gr n (some (.int r)) sh go gl gr n := by
  refine MetI.of (by decide) (Nat.le_of_ble_eq_true rfl) ?_
  intro p e s m below meth c ls hx hb hr hml hown hts hlk hnm hW hK hR hS hl
  have hown : s.vm.findClass RX1 = some m.cls := hown
  have hF : CallFix p m c cX1_add 3 s ([.ref (adr G b0), .int a1] : List Value).toArray lw_all RX1 := ⟨hx, hb, hml, hown, hts⟩
  have hl : lv_has ls 3 [(0, .ref (adr G b0)), (1, .int a1)] := hl
  unfold f_X1_add at h
  refine lv_aload_n hx hb dX1_add_0 rfl (lv_at hl 0 rfl) ?_
  refine r_geti hx hb hts cfX1 hown hK hR (mls_0 hSk hm_b0) 0 (by decide) rfl (hts _ q152) (fun _ h => h) dX1_add_1 ?_
  refine lv_istore_n (lv' := [(2, .int (g b0 0)), (0, .ref (adr G b0)), (1, .int a1)]) hx hb dX1_add_4 rfl hl (by decide) rfl (fun ls hl => ?_)
  refine lv_aload_n hx hb dX1_add_5 rfl (lv_at hl 1 rfl) ?_
  refine r_getr hx hb hts cfX1 hown hK hR (mls_0 hSk hm_b0) 8 (by decide) rfl (mlr_8 hSk hm_b0) (hts _ q180) (fun _ h => h) dX1_add_6 ?_
  refine lv_iload_n hx hb dX1_add_9 rfl (lv_at hl 0 rfl) ?_
  refine lv_iload_n hx hb dX1_add_10 rfl (lv_at hl 2 rfl) ?_
  obtain ⟨g2, e1, h⟩ := obd h
  refine r_sti hx hb hK hR hS (mls_5 hSk hm_b0) e1 dX1_add_11 (fun H locs hR hS => ?_)
  refine lv_aload_n hx hb dX1_add_12 rfl (lv_at hl 1 rfl) ?_
  refine r_getr hx hb hts cfX1 hown hK hR (mls_0 hSk hm_b0) 9 (by decide) rfl (mlr_9 hSk hm_b0) (hts _ q182) (fun _ h => h) dX1_add_13 ?_
  refine lv_iload_n hx hb dX1_add_16 rfl (lv_at hl 0 rfl) ?_
  refine lv_iconst (v := (-1)) hx hb dX1_add_17 ki_m1 ?_
  obtain ⟨g4, e3, h⟩ := obd h
  refine r_sti hx hb hK hR hS (mls_6 hSk hm_b0) e3 dX1_add_18 (fun H locs hR hS => ?_)
  refine lv_aload_n hx hb dX1_add_19 rfl (lv_at hl 1 rfl) ?_
  refine r_getr hx hb hts cfX1 hown hK hR (mls_0 hSk hm_b0) 10 (by decide) rfl (mlr_10 hSk hm_b0) (hts _ q185) (fun _ h => h) dX1_add_20 ?_
  refine lv_iload_n hx hb dX1_add_23 rfl (lv_at hl 0 rfl) ?_
  refine lv_iconst (v := 0) hx hb dX1_add_24 ki_0 ?_
  obtain ⟨g6, e5, h⟩ := obd h
  refine r_sti hx hb hK hR hS (mls_7 hSk hm_b0) e5 dX1_add_25 (fun H locs hR hS => ?_)
  refine lv_aload_n hx hb dX1_add_26 rfl (lv_at hl 1 rfl) ?_
  refine r_getr hx hb hts cfX1 hown hK hR (mls_0 hSk hm_b0) 11 (by decide) rfl (mlr_11 hSk hm_b0) (hts _ q188) (fun _ h => h) dX1_add_27 ?_
  refine lv_iload_n hx hb dX1_add_30 rfl (lv_at hl 0 rfl) ?_
  refine lv_iconst (v := 0) hx hb dX1_add_31 ki_0 ?_
  obtain ⟨g8, e7, h⟩ := obd h
  refine r_sti hx hb hK hR hS (mls_8 hSk hm_b0) e7 dX1_add_32 (fun H locs hR hS => ?_)
  refine lv_aload_n hx hb dX1_add_33 rfl (lv_at hl 1 rfl) ?_
  refine lv_iload_n hx hb dX1_add_34 rfl (lv_at hl 0 rfl) ?_
  refine lv_iconst (v := 0) hx hb dX1_add_35 ki_0 ?_
  obtain ⟨g10, e9, h⟩ := obd h
  refine rc_V0 (rest := []) (st1 := []) hF (w_X1_hangs hSk b0 (g b0 0) 0 hm_b0 e9) (cwV 2 hts (lw_V q624 q625 q626 q101 q627) rfl rfl rfl hd_X1_hangs ⟨Nat.le_of_ble_eq_true rfl, Nat.le_of_ble_eq_true rfl⟩) cfX1 (mls_0 hSk hm_b0) hK hW hR hS rfl hl.1 rfl (Nat.le_of_ble_eq_true rfl) rfl dX1_add_36 ⟨rfl, rfl⟩ ⟨Nat.zero_le _, Nat.zero_le _⟩ (fun H locs hR hS => ?_)
  refine lv_aload_n hx hb dX1_add_39 rfl (lv_at hl 1 rfl) ?_
  refine lv_dup hx hb dX1_add_40 rfl ?_
  refine r_geti hx hb hts cfX1 hown hK hR (mls_0 hSk hm_b0) 0 (by decide) rfl (hts _ q152) (fun _ h => h) dX1_add_41 ?_
  refine lv_iconst (v := 1) hx hb dX1_add_44 ki_1 ?_
  refine lv_iadd hx hb dX1_add_45 ?_
  obtain ⟨g12, e11, h⟩ := obd h
  refine r_puti hx hb hts cfX1 hown hK hR hS (mls_0 hSk hm_b0) 0 (by decide) rfl (hts _ q152) (fun _ h => h) (Or.inl rfl) rfl rfl e11 dX1_add_46 (fun H locs hR hS => ?_)
  refine lv_iload_n hx hb dX1_add_49 rfl (lv_at hl 0 rfl) ?_
  obtain ⟨rfl, rfl⟩ := s2i h
  exact r_iret0 hx hb hr hlk hR hS (Nat.zero_le _) (Nat.zero_le _) dX1_add_50
def rm_X0_has : Room := { frames := 1, cells := 0, slots := 0, locals := 12 }
theorem he_X0_has : yX0_has.cls ≠ "java/lang/invoke/MethodHandle" ∧ yX0_has.cls ≠ "java/lang/invoke/VarHandle" ∧ (parseMethodDescriptor yX0_has.desc).map (fun d => d.parameters.length) = some 2 := by decide +kernel

set_option maxHeartbeats 4000000 in
set_option maxRecDepth 100000 in
theorem w_X0_has {l : Launch} {G : Gx} {sh : SM} {g : GM} {gl : LM} {gr : RM} {n : Nat} (hSk : Sk sh gr) (a0 : Int32) (a1 : Int32)  {r : Int32} (h : f_X0_has  a0 a1 = some r) : MetI l G yX0_has (ws_ yX0_has cX0_has 2 (Option.some Jvm.ClassFile.FieldType.boolean)) rm_X0_has [.int a0, .int a1] sh g gl gr n (some (.int r)) sh g gl gr n := by
  refine MetI.of (by decide) (Nat.le_of_ble_eq_true rfl) ?_
  intro p e s m below meth c ls hx hb hr hml hown hts hlk hnm hW hK hR hS hl
  have hown : s.vm.findClass RX0 = some m.cls := hown
  have hF : CallFix p m c cX0_has 2 s ([.int a0, .int a1] : List Value).toArray lw_all RX0 := ⟨hx, hb, hml, hown, hts⟩
  have hl : lv_has ls 2 [(0, .int a0), (1, .int a1)] := hl
  unfold f_X0_has at h
  refine lv_iload_n hx hb dX0_has_0 rfl (lv_at hl 0 rfl) ?_
  refine lv_iload_n hx hb dX0_has_1 rfl (lv_at hl 1 rfl) ?_
  refine lv_ishr hx hb dX0_has_2 ?_
  refine lv_iconst (v := 1) hx hb dX0_has_3 ki_1 ?_
  refine lv_iand hx hb dX0_has_4 ?_
  refine lv_iconst (v := 1) hx hb dX0_has_5 ki_1 ?_
  have J14 : ∀ (x1 : Int32) (H : Heap) (locs : List Loc) (ls : Array Slot), Rep G sh g gl gr n H → va_S (own G) s.heap H locs → lv_has ls 2 [] → j_X0_has_14  x1 = some r → W p l e rm_X0_has s m ([.int a0, .int a1] : List Value).toArray below meth c H locs 0 0 (MQ below (QR G (some (.int r)) sh g gl gr n) ([.int a0, .int a1] : List Value).toArray s rm_X0_has.cells rm_X0_has.slots (own G)) (F0 m 14 ls [.int x1]) := by
    intro x1 H locs ls hR hS hl h
    unfold j_X0_has_14 at h
    obtain ⟨c2, h⟩ := ogrd h
    obtain rfl := s1i h
    exact r_zret0 hx hb hr hlk hR hS (Nat.zero_le _) (Nat.zero_le _) (nb01 c2) dX0_has_14
  refine lv_icmp_ne (tgt := 13) hx hb dX0_has_6 (by decide) (fun c3 => ?_) (fun c3 => ?_)
  · replace h := ifn h c3
    refine lv_iconst (v := 0) hx hb dX0_has_13 ki_0 ?_
    exact J14 0 _ _ _ hR hS (lv_sub hl [] rfl) h
  · replace h := ifp h c3
    refine lv_iconst (v := 1) hx hb dX0_has_9 ki_1 ?_
    refine lv_goto (tgt := 14) hx hb dX0_has_10 (by decide) ?_
    exact J14 1 _ _ _ hR hS (lv_sub hl [] rfl) h
def rm_X1_isHung : Room := { frames := 2, cells := 0, slots := 0, locals := 33 }
theorem hd_X1_isHung : yX1_isHung.cls = "IntentVats$Mill" ∧ yX1_isHung.cls ≠ "java/lang/invoke/MethodHandle" ∧ yX1_isHung.cls ≠ "java/lang/invoke/VarHandle" ∧ (parseMethodDescriptor yX1_isHung.desc).map (fun d => d.parameters.length) = some 1 := by decide +kernel
theorem he_X1_isHung : yX1_isHung.cls ≠ "java/lang/invoke/MethodHandle" ∧ yX1_isHung.cls ≠ "java/lang/invoke/VarHandle" ∧ (parseMethodDescriptor yX1_isHung.desc).map (fun d => d.parameters.length) = some 1 := hd_X1_isHung.2

set_option maxHeartbeats 4000000 in
set_option maxRecDepth 100000 in
theorem w_X1_isHung {l : Launch} {G : Gx} {sh : SM} {g : GM} {gl : LM} {gr : RM} {n : Nat} (hSk : Sk sh gr) (b0 : Nat) (a1 : Int32) (hm_b0 : isMl b0) {r : Int32} (h : f_X1_isHung g b0 a1 = some r) : MetI l G yX1_isHung (ws_ yX1_isHung cX1_isHung 2 (Option.some Jvm.ClassFile.FieldType.boolean)) rm_X1_isHung [.ref (adr G b0), .int a1] sh g gl gr n (some (.int r)) sh g gl gr n := by
  refine MetI.of (by decide) (Nat.le_of_ble_eq_true rfl) ?_
  intro p e s m below meth c ls hx hb hr hml hown hts hlk hnm hW hK hR hS hl
  have hown : s.vm.findClass RX1 = some m.cls := hown
  have hF : CallFix p m c cX1_isHung 2 s ([.ref (adr G b0), .int a1] : List Value).toArray lw_all RX1 := ⟨hx, hb, hml, hown, hts⟩
  have hl : lv_has ls 2 [(0, .ref (adr G b0)), (1, .int a1)] := hl
  unfold f_X1_isHung at h
  refine lv_aload_n hx hb dX1_isHung_0 rfl (lv_at hl 0 rfl) ?_
  refine r_geti hx hb hts cfX1 hown hK hR (mls_0 hSk hm_b0) 2 (by decide) rfl (hts _ q157) (fun _ h => h) dX1_isHung_1 ?_
  refine lv_iload_n hx hb dX1_isHung_4 rfl (lv_at hl 1 rfl) ?_
  obtain ⟨r2, e1, h⟩ := obd h
  refine rc_SN0 (rest := []) (st1 := [.int r2]) hF (w_X0_has hSk (g b0 2) a1 e1) ⟨va_cnB 2 hts (lw_meth q725) rfl rfl rfl (hW.nestM q723) (hts _ q100) he_X0_has ⟨Nat.le_of_ble_eq_true rfl, Nat.le_of_ble_eq_true rfl⟩, hts _ q724, trivial⟩ hW hR hS rfl hl.1 rfl (Nat.le_of_ble_eq_true rfl) rfl dX1_isHung_5 ⟨rfl, rfl⟩ ⟨Nat.zero_le _, Nat.zero_le _⟩ (fun H locs hR hS => ?_)
  obtain ⟨c3, h⟩ := ogrd h
  obtain rfl := s1i h
  exact r_zret0 hx hb hr hlk hR hS (Nat.zero_le _) (Nat.zero_le _) (nb01 c3) dX1_isHung_8
def rm_X1_settles : Room := { frames := 1, cells := 0, slots := 0, locals := 40 }
theorem hd_X1_settles : yX1_settles.cls = "IntentVats$Mill" ∧ yX1_settles.cls ≠ "java/lang/invoke/MethodHandle" ∧ yX1_settles.cls ≠ "java/lang/invoke/VarHandle" ∧ (parseMethodDescriptor yX1_settles.desc).map (fun d => d.parameters.length) = some 1 := by decide +kernel
theorem he_X1_settles : yX1_settles.cls ≠ "java/lang/invoke/MethodHandle" ∧ yX1_settles.cls ≠ "java/lang/invoke/VarHandle" ∧ (parseMethodDescriptor yX1_settles.desc).map (fun d => d.parameters.length) = some 1 := hd_X1_settles.2

set_option maxHeartbeats 4000000 in
set_option maxRecDepth 100000 in
theorem w_X1_settles {l : Launch} {G : Gx} {sh : SM} {g : GM} {gl : LM} {gr : RM} {n : Nat} (hSk : Sk sh gr) (b0 : Nat) (a1 : Int32) (hm_b0 : isMl b0) {go : GM} (h : f_X1_settles g b0 a1 = some go) : MetI l G yX1_settles (ws_ yX1_settles cX1_settles 2 (Option.none : Option Jvm.ClassFile.FieldType)) rm_X1_settles [.ref (adr G b0), .int a1] sh g gl gr n none sh go gl gr n := by
  refine MetI.of (by decide) (Nat.le_of_ble_eq_true rfl) ?_
  intro p e s m below meth c ls hx hb hr hml hown hts hlk hnm hW hK hR hS hl
  have hown : s.vm.findClass RX1 = some m.cls := hown
  have hF : CallFix p m c cX1_settles 2 s ([.ref (adr G b0), .int a1] : List Value).toArray lw_all RX1 := ⟨hx, hb, hml, hown, hts⟩
  have hl : lv_has ls 2 [(0, .ref (adr G b0)), (1, .int a1)] := hl
  unfold f_X1_settles at h
  refine lv_aload_n hx hb dX1_settles_0 rfl (lv_at hl 0 rfl) ?_
  refine r_getr hx hb hts cfX1 hown hK hR (mls_0 hSk hm_b0) 10 (by decide) rfl (mlr_10 hSk hm_b0) (hts _ q185) (fun _ h => h) dX1_settles_1 ?_
  refine lv_iload_n hx hb dX1_settles_4 rfl (lv_at hl 1 rfl) ?_
  refine lv_iconst (v := 0) hx hb dX1_settles_5 ki_0 ?_
  refine lv_bipush (v := 99) hx hb dX1_settles_6 kb_99 ?_
  refine lv_aload_n hx hb dX1_settles_8 rfl (lv_at hl 0 rfl) ?_
  refine r_getr hx hb hts cfX1 hown hK hR (mls_0 hSk hm_b0) 10 (by decide) rfl (mlr_10 hSk hm_b0) (hts _ q185) (fun _ h => h) dX1_settles_9 ?_
  refine lv_iload_n hx hb dX1_settles_12 rfl (lv_at hl 1 rfl) ?_
  obtain ⟨v2, e1, h⟩ := obd h
  refine r_ldi hx hb hK hR (mls_7 hSk hm_b0) e1 dX1_settles_13 ?_
  refine va_mmin hx hb (hml.trans hl.1.symm) hown (hts _ q833) (hts _ q834) (hts _ q123) (hts _ q835) (Nat.le_of_ble_eq_true rfl) (Nat.le_of_ble_eq_true rfl) (Nat.zero_le _) (Nat.zero_le _) dX1_settles_14 ?_
  refine va_mmax hx hb (hml.trans hl.1.symm) hown (hts _ q836) (hts _ q837) (hts _ q123) (hts _ q838) (Nat.le_of_ble_eq_true rfl) (Nat.le_of_ble_eq_true rfl) (Nat.zero_le _) (Nat.zero_le _) dX1_settles_17 ?_
  obtain ⟨g4, e3, h⟩ := obd h
  refine r_sti hx hb hK hR hS (mls_7 hSk hm_b0) e3 dX1_settles_20 (fun H locs hR hS => ?_)
  refine lv_aload_n hx hb dX1_settles_21 rfl (lv_at hl 0 rfl) ?_
  refine r_getr hx hb hts cfX1 hown hK hR (mls_0 hSk hm_b0) 9 (by decide) rfl (mlr_9 hSk hm_b0) (hts _ q182) (fun _ h => h) dX1_settles_22 ?_
  refine lv_iload_n hx hb dX1_settles_25 rfl (lv_at hl 1 rfl) ?_
  refine lv_aload_n hx hb dX1_settles_26 rfl (lv_at hl 0 rfl) ?_
  refine r_getr hx hb hts cfX1 hown hK hR (mls_0 hSk hm_b0) 10 (by decide) rfl (mlr_10 hSk hm_b0) (hts _ q185) (fun _ h => h) dX1_settles_27 ?_
  refine lv_iload_n hx hb dX1_settles_30 rfl (lv_at hl 1 rfl) ?_
  obtain ⟨v6, e5, h⟩ := obd h
  refine r_ldi hx hb hK hR (mls_7 hSk hm_b0) e5 dX1_settles_31 ?_
  have J45 : ∀ (x7 : Int32) (H : Heap) (locs : List Loc) (ls : Array Slot), Rep G sh g4 gl gr n H → va_S (own G) s.heap H locs → lv_has ls 2 [] → j_X1_settles_45 b0 a1 g4 x7 = some go → W p l e rm_X1_settles s m ([.ref (adr G b0), .int a1] : List Value).toArray below meth c H locs 0 0 (MQ below (QR G none sh go gl gr n) ([.ref (adr G b0), .int a1] : List Value).toArray s rm_X1_settles.cells rm_X1_settles.slots (own G)) (F0 m 45 ls [.int x7, .int a1, .ref (adr G (b0 + 6))]) := by
    intro x7 H locs ls hR hS hl h
    unfold j_X1_settles_45 at h
    obtain ⟨g9, e8, h⟩ := obd h
    refine r_sti hx hb hK hR hS (mls_6 hSk hm_b0) e8 dX1_settles_45 (fun H locs hR hS => ?_)
    obtain rfl := s1i h
    exact r_vret0 hx hb hr hlk hR hS (Nat.zero_le _) (Nat.zero_le _) dX1_settles_46
  refine lv_if_ne (tgt := 39) hx hb dX1_settles_32 (by decide) (fun c10 => ?_) (fun c10 => ?_)
  · replace h := ifn h c10
    refine lv_aload_n hx hb dX1_settles_39 rfl (lv_at hl 0 rfl) ?_
    refine r_getr hx hb hts cfX1 hown hK hR (mls_0 hSk hm_b0) 9 (by decide) rfl (mlr_9 hSk hm_b0) (hts _ q182) (fun _ h => h) dX1_settles_40 ?_
    refine lv_iload_n hx hb dX1_settles_43 rfl (lv_at hl 1 rfl) ?_
    obtain ⟨v12, e11, h⟩ := obd h
    refine r_ldi hx hb hK hR (mls_6 hSk hm_b0) e11 dX1_settles_44 ?_
    exact J45 v12 _ _ _ hR hS (lv_sub hl [] rfl) h
  · replace h := ifp h c10
    refine lv_iconst (v := (-1)) hx hb dX1_settles_35 ki_m1 ?_
    refine lv_goto (tgt := 45) hx hb dX1_settles_36 (by decide) ?_
    exact J45 (-1) _ _ _ hR hS (lv_sub hl [] rfl) h
def rm_X1_vatNow : Room := { frames := 1, cells := 0, slots := 0, locals := 12 }
theorem hd_X1_vatNow : yX1_vatNow.cls = "IntentVats$Mill" ∧ yX1_vatNow.cls ≠ "java/lang/invoke/MethodHandle" ∧ yX1_vatNow.cls ≠ "java/lang/invoke/VarHandle" ∧ (parseMethodDescriptor yX1_vatNow.desc).map (fun d => d.parameters.length) = some 0 := by decide +kernel
theorem he_X1_vatNow : yX1_vatNow.cls ≠ "java/lang/invoke/MethodHandle" ∧ yX1_vatNow.cls ≠ "java/lang/invoke/VarHandle" ∧ (parseMethodDescriptor yX1_vatNow.desc).map (fun d => d.parameters.length) = some 0 := hd_X1_vatNow.2

set_option maxHeartbeats 4000000 in
set_option maxRecDepth 100000 in
theorem w_X1_vatNow {l : Launch} {G : Gx} {sh : SM} {g : GM} {gl : LM} {gr : RM} {n : Nat} (hSk : Sk sh gr) (b0 : Nat) (hm_b0 : isMl b0) {r : Int32} (h : f_X1_vatNow g b0 = some r) : MetI l G yX1_vatNow (ws_ yX1_vatNow cX1_vatNow 1 (Option.some Jvm.ClassFile.FieldType.int)) rm_X1_vatNow [.ref (adr G b0)] sh g gl gr n (some (.int r)) sh g gl gr n := by
  refine MetI.of (by decide) (Nat.le_of_ble_eq_true rfl) ?_
  intro p e s m below meth c ls hx hb hr hml hown hts hlk hnm hW hK hR hS hl
  have hown : s.vm.findClass RX1 = some m.cls := hown
  have hF : CallFix p m c cX1_vatNow 1 s ([.ref (adr G b0)] : List Value).toArray lw_all RX1 := ⟨hx, hb, hml, hown, hts⟩
  have hl : lv_has ls 1 [(0, .ref (adr G b0))] := hl
  unfold f_X1_vatNow at h
  refine lv_aload_n hx hb dX1_vatNow_0 rfl (lv_at hl 0 rfl) ?_
  refine r_getr hx hb hts cfX1 hown hK hR (mls_0 hSk hm_b0) 7 (by decide) rfl (mlr_7 hSk hm_b0) (hts _ q177) (fun _ h => h) dX1_vatNow_1 ?_
  refine lv_aload_n hx hb dX1_vatNow_4 rfl (lv_at hl 0 rfl) ?_
  refine r_geti hx hb hts cfX1 hown hK hR (mls_0 hSk hm_b0) 1 (by decide) rfl (hts _ q155) (fun _ h => h) dX1_vatNow_5 ?_
  refine lv_bipush (v := 6) hx hb dX1_vatNow_8 kb_6 ?_
  refine lv_irem hx hb dX1_vatNow_10 (by decide) ?_
  obtain ⟨v2, e1, h⟩ := obd h
  refine r_ldi hx hb hK hR (mls_4 hSk hm_b0) e1 dX1_vatNow_11 ?_
  obtain rfl := s1i h
  exact r_iret0 hx hb hr hlk hR hS (Nat.zero_le _) (Nat.zero_le _) dX1_vatNow_12
def rm_X1_depths : Room := { frames := 1, cells := 0, slots := 0, locals := 12 }
theorem hd_X1_depths : yX1_depths.cls = "IntentVats$Mill" ∧ yX1_depths.cls ≠ "java/lang/invoke/MethodHandle" ∧ yX1_depths.cls ≠ "java/lang/invoke/VarHandle" ∧ (parseMethodDescriptor yX1_depths.desc).map (fun d => d.parameters.length) = some 0 := by decide +kernel
theorem he_X1_depths : yX1_depths.cls ≠ "java/lang/invoke/MethodHandle" ∧ yX1_depths.cls ≠ "java/lang/invoke/VarHandle" ∧ (parseMethodDescriptor yX1_depths.desc).map (fun d => d.parameters.length) = some 0 := hd_X1_depths.2

set_option maxHeartbeats 4000000 in
set_option maxRecDepth 100000 in
theorem w_X1_depths {l : Launch} {G : Gx} {sh : SM} {g : GM} {gl : LM} {gr : RM} {n : Nat} (hSk : Sk sh gr) (b0 : Nat) (hm_b0 : isMl b0) {r : Int32} (h : f_X1_depths g b0 = some r) : MetI l G yX1_depths (ws_ yX1_depths cX1_depths 3 (Option.some Jvm.ClassFile.FieldType.int)) rm_X1_depths [.ref (adr G b0)] sh g gl gr n (some (.int r)) sh g gl gr n := by
  refine MetI.of (by decide) (Nat.le_of_ble_eq_true rfl) ?_
  intro p e s m below meth c ls hx hb hr hml hown hts hlk hnm hW hK hR hS hl
  have hown : s.vm.findClass RX1 = some m.cls := hown
  have hF : CallFix p m c cX1_depths 3 s ([.ref (adr G b0)] : List Value).toArray lw_all RX1 := ⟨hx, hb, hml, hown, hts⟩
  have hl : lv_has ls 3 [(0, .ref (adr G b0))] := hl
  unfold f_X1_depths at h
  refine lv_iconst (v := 0) hx hb dX1_depths_0 ki_0 ?_
  refine lv_istore_n (lv' := [(1, .int 0), (0, .ref (adr G b0))]) hx hb dX1_depths_1 rfl hl (by decide) rfl (fun ls hl => ?_)
  refine lv_iconst (v := 0) hx hb dX1_depths_2 ki_0 ?_
  refine lv_istore_n (lv' := [(2, .int 0), (1, .int 0), (0, .ref (adr G b0))]) hx hb dX1_depths_3 rfl hl (by decide) rfl (fun ls hl => ?_)
  have J4 : ∀ (k4 : Nat) (x1 : Int32) (x2 : Int32) (H : Heap) (locs : List Loc) (ls : Array Slot), Rep G sh g gl gr n H → va_S (own G) s.heap H locs → lv_has ls 3 [(0, .ref (adr G b0)), (1, .int x1), (2, .int x2)] → l_X1_depths_4 g b0 k4 x1 x2 = some r → W p l e rm_X1_depths s m ([.ref (adr G b0)] : List Value).toArray below meth c H locs 0 0 (MQ below (QR G (some (.int r)) sh g gl gr n) ([.ref (adr G b0)] : List Value).toArray s rm_X1_depths.cells rm_X1_depths.slots (own G)) (F0 m 4 ls []) := by
    intro k4
    induction k4 with
    | zero => intro _ _ _ _ _ _ _ _; exact nofun
    | succ k4 ih4 =>
      intro x1 x2 H locs ls hR hS hl h
      unfold l_X1_depths_4 b_X1_depths_4 at h
      refine lv_iload_n hx hb dX1_depths_4 rfl (lv_at hl 2 rfl) ?_
      refine lv_aload_n hx hb dX1_depths_5 rfl (lv_at hl 0 rfl) ?_
      refine r_geti hx hb hts cfX1 hown hK hR (mls_0 hSk hm_b0) 0 (by decide) rfl (hts _ q152) (fun _ h => h) dX1_depths_6 ?_
      refine lv_icmp_ge (tgt := 27) hx hb dX1_depths_9 (by decide) (fun c3 => ?_) (fun c3 => ?_)
      · replace h := ifp h c3
        refine lv_iload_n hx hb dX1_depths_27 rfl (lv_at hl 1 rfl) ?_
        obtain rfl := s1i h
        exact r_iret0 hx hb hr hlk hR hS (Nat.zero_le _) (Nat.zero_le _) dX1_depths_28
      · replace h := ifn h c3
        refine lv_iload_n hx hb dX1_depths_12 rfl (lv_at hl 1 rfl) ?_
        refine lv_aload_n hx hb dX1_depths_13 rfl (lv_at hl 0 rfl) ?_
        refine r_getr hx hb hts cfX1 hown hK hR (mls_0 hSk hm_b0) 10 (by decide) rfl (mlr_10 hSk hm_b0) (hts _ q185) (fun _ h => h) dX1_depths_14 ?_
        refine lv_iload_n hx hb dX1_depths_17 rfl (lv_at hl 2 rfl) ?_
        obtain ⟨v5, e4, h⟩ := obd h
        refine r_ldi hx hb hK hR (mls_7 hSk hm_b0) e4 dX1_depths_18 ?_
        refine lv_iadd hx hb dX1_depths_19 ?_
        refine lv_istore_n (lv' := [(1, .int (x1 + v5)), (0, .ref (adr G b0)), (2, .int x2)]) hx hb dX1_depths_20 rfl hl (by decide) rfl (fun ls hl => ?_)
        refine lv_iinc (v := x2 + 1) (lv' := [(2, .int (x2 + 1)), (1, .int (x1 + v5)), (0, .ref (adr G b0))]) hx hb dX1_depths_21 hl (k := 2) rfl rfl (by decide) rfl (fun ls hl => ?_)
        refine lv_goto (tgt := 4) hx hb dX1_depths_24 (by decide) ?_
        exact ih4 (x1 + v5) (x2 + 1) _ _ _ hR hS (lv_sub hl [2, 1, 0] rfl) h
  exact J4 fuel 0 0 _ _ _ hR hS (lv_sub hl [2, 1, 0] rfl) h
def rm_X1_draw : Room := { frames := 1, cells := 0, slots := 0, locals := 12 }
theorem hd_X1_draw : yX1_draw.cls = "IntentVats$Mill" ∧ yX1_draw.cls ≠ "java/lang/invoke/MethodHandle" ∧ yX1_draw.cls ≠ "java/lang/invoke/VarHandle" ∧ (parseMethodDescriptor yX1_draw.desc).map (fun d => d.parameters.length) = some 0 := by decide +kernel
theorem he_X1_draw : yX1_draw.cls ≠ "java/lang/invoke/MethodHandle" ∧ yX1_draw.cls ≠ "java/lang/invoke/VarHandle" ∧ (parseMethodDescriptor yX1_draw.desc).map (fun d => d.parameters.length) = some 0 := hd_X1_draw.2

set_option maxHeartbeats 4000000 in
set_option maxRecDepth 100000 in
theorem w_X1_draw {l : Launch} {G : Gx} {sh : SM} {g : GM} {gl : LM} {gr : RM} {n : Nat} (hSk : Sk sh gr) (b0 : Nat) (hm_b0 : isMl b0) {r : Int32} {go : GM} (h : f_X1_draw g b0 = some (r, go)) : MetI l G yX1_draw (ws_ yX1_draw cX1_draw 1 (Option.some Jvm.ClassFile.FieldType.int)) rm_X1_draw [.ref (adr G b0)] sh g gl gr n (some (.int r)) sh go gl gr n := by
  refine MetI.of (by decide) (Nat.le_of_ble_eq_true rfl) ?_
  intro p e s m below meth c ls hx hb hr hml hown hts hlk hnm hW hK hR hS hl
  have hown : s.vm.findClass RX1 = some m.cls := hown
  have hF : CallFix p m c cX1_draw 1 s ([.ref (adr G b0)] : List Value).toArray lw_all RX1 := ⟨hx, hb, hml, hown, hts⟩
  have hl : lv_has ls 1 [(0, .ref (adr G b0))] := hl
  unfold f_X1_draw at h
  refine lv_aload_n hx hb dX1_draw_0 rfl (lv_at hl 0 rfl) ?_
  refine lv_aload_n hx hb dX1_draw_1 rfl (lv_at hl 0 rfl) ?_
  refine r_geti hx hb hts cfX1 hown hK hR (mls_0 hSk hm_b0) 3 (by decide) rfl (hts _ q159) (fun _ h => h) dX1_draw_2 ?_
  refine lv_ldc (v := 1103515245) hx hb hown (hts _ q877) dX1_draw_5 ?_
  refine lv_imul hx hb dX1_draw_7 ?_
  refine lv_sipush (v := 12345) hx hb dX1_draw_8 ks_12345 ?_
  refine lv_iadd hx hb dX1_draw_11 ?_
  obtain ⟨g2, e1, h⟩ := obd h
  refine r_puti hx hb hts cfX1 hown hK hR hS (mls_0 hSk hm_b0) 3 (by decide) rfl (hts _ q159) (fun _ h => h) (Or.inl rfl) rfl rfl e1 dX1_draw_12 (fun H locs hR hS => ?_)
  refine lv_aload_n hx hb dX1_draw_15 rfl (lv_at hl 0 rfl) ?_
  refine r_geti hx hb hts cfX1 hown hK hR (mls_0 hSk hm_b0) 3 (by decide) rfl (hts _ q159) (fun _ h => h) dX1_draw_16 ?_
  refine lv_bipush (v := 16) hx hb dX1_draw_19 kb_16 ?_
  refine lv_iushr hx hb dX1_draw_21 rfl ?_
  obtain ⟨rfl, rfl⟩ := s2i h
  exact r_iret0 hx hb hr hlk hR hS (Nat.zero_le _) (Nat.zero_le _) dX1_draw_22
def rm_X1_aboutAny : Room := { frames := 1, cells := 0, slots := 0, locals := 12 }
theorem hd_X1_aboutAny : yX1_aboutAny.cls = "IntentVats$Mill" ∧ yX1_aboutAny.cls ≠ "java/lang/invoke/MethodHandle" ∧ yX1_aboutAny.cls ≠ "java/lang/invoke/VarHandle" ∧ (parseMethodDescriptor yX1_aboutAny.desc).map (fun d => d.parameters.length) = some 0 := by decide +kernel
theorem he_X1_aboutAny : yX1_aboutAny.cls ≠ "java/lang/invoke/MethodHandle" ∧ yX1_aboutAny.cls ≠ "java/lang/invoke/VarHandle" ∧ (parseMethodDescriptor yX1_aboutAny.desc).map (fun d => d.parameters.length) = some 0 := hd_X1_aboutAny.2

set_option maxHeartbeats 4000000 in
set_option maxRecDepth 100000 in
theorem w_X1_aboutAny {l : Launch} {G : Gx} {sh : SM} {g : GM} {gl : LM} {gr : RM} {n : Nat} (hSk : Sk sh gr) (b0 : Nat) (hm_b0 : isMl b0) {r : Int32} (h : f_X1_aboutAny g b0 = some r) : MetI l G yX1_aboutAny (ws_ yX1_aboutAny cX1_aboutAny 3 (Option.some Jvm.ClassFile.FieldType.int)) rm_X1_aboutAny [.ref (adr G b0)] sh g gl gr n (some (.int r)) sh g gl gr n := by
  refine MetI.of (by decide) (Nat.le_of_ble_eq_true rfl) ?_
  intro p e s m below meth c ls hx hb hr hml hown hts hlk hnm hW hK hR hS hl
  have hown : s.vm.findClass RX1 = some m.cls := hown
  have hF : CallFix p m c cX1_aboutAny 3 s ([.ref (adr G b0)] : List Value).toArray lw_all RX1 := ⟨hx, hb, hml, hown, hts⟩
  have hl : lv_has ls 3 [(0, .ref (adr G b0))] := hl
  unfold f_X1_aboutAny at h
  refine lv_iconst (v := 0) hx hb dX1_aboutAny_0 ki_0 ?_
  refine lv_istore_n (lv' := [(1, .int 0), (0, .ref (adr G b0))]) hx hb dX1_aboutAny_1 rfl hl (by decide) rfl (fun ls hl => ?_)
  refine lv_iconst (v := 0) hx hb dX1_aboutAny_2 ki_0 ?_
  refine lv_istore_n (lv' := [(2, .int 0), (1, .int 0), (0, .ref (adr G b0))]) hx hb dX1_aboutAny_3 rfl hl (by decide) rfl (fun ls hl => ?_)
  have J4 : ∀ (k4 : Nat) (x1 : Int32) (x2 : Int32) (H : Heap) (locs : List Loc) (ls : Array Slot), Rep G sh g gl gr n H → va_S (own G) s.heap H locs → lv_has ls 3 [(0, .ref (adr G b0)), (1, .int x1), (2, .int x2)] → l_X1_aboutAny_4 g b0 k4 x1 x2 = some r → W p l e rm_X1_aboutAny s m ([.ref (adr G b0)] : List Value).toArray below meth c H locs 0 0 (MQ below (QR G (some (.int r)) sh g gl gr n) ([.ref (adr G b0)] : List Value).toArray s rm_X1_aboutAny.cells rm_X1_aboutAny.slots (own G)) (F0 m 4 ls []) := by
    intro k4
    induction k4 with
    | zero => intro _ _ _ _ _ _ _ _; exact nofun
    | succ k4 ih4 =>
      intro x1 x2 H locs ls hR hS hl h
      unfold l_X1_aboutAny_4 b_X1_aboutAny_4 at h
      refine lv_iload_n hx hb dX1_aboutAny_4 rfl (lv_at hl 2 rfl) ?_
      refine lv_aload_n hx hb dX1_aboutAny_5 rfl (lv_at hl 0 rfl) ?_
      refine r_geti hx hb hts cfX1 hown hK hR (mls_0 hSk hm_b0) 0 (by decide) rfl (hts _ q152) (fun _ h => h) dX1_aboutAny_6 ?_
      refine lv_icmp_ge (tgt := 38) hx hb dX1_aboutAny_9 (by decide) (fun c3 => ?_) (fun c3 => ?_)
      · replace h := ifp h c3
        refine lv_iload_n hx hb dX1_aboutAny_38 rfl (lv_at hl 1 rfl) ?_
        obtain rfl := s1i h
        exact r_iret0 hx hb hr hlk hR hS (Nat.zero_le _) (Nat.zero_le _) dX1_aboutAny_39
      · replace h := ifn h c3
        refine lv_iload_n hx hb dX1_aboutAny_12 rfl (lv_at hl 1 rfl) ?_
        refine lv_aload_n hx hb dX1_aboutAny_13 rfl (lv_at hl 0 rfl) ?_
        refine r_getr hx hb hts cfX1 hown hK hR (mls_0 hSk hm_b0) 9 (by decide) rfl (mlr_9 hSk hm_b0) (hts _ q182) (fun _ h => h) dX1_aboutAny_14 ?_
        refine lv_iload_n hx hb dX1_aboutAny_17 rfl (lv_at hl 2 rfl) ?_
        obtain ⟨v5, e4, h⟩ := obd h
        refine r_ldi hx hb hK hR (mls_6 hSk hm_b0) e4 dX1_aboutAny_18 ?_
        refine lv_iconst (v := (-1)) hx hb dX1_aboutAny_19 ki_m1 ?_
        have J30 : ∀ (x6 : Int32) (H : Heap) (locs : List Loc) (ls : Array Slot), Rep G sh g gl gr n H → va_S (own G) s.heap H locs → lv_has ls 3 [(0, .ref (adr G b0)), (2, .int x2)] → j_X1_aboutAny_30 x1 x2 (l_X1_aboutAny_4 g b0 k4) x6 = some r → W p l e rm_X1_aboutAny s m ([.ref (adr G b0)] : List Value).toArray below meth c H locs 0 0 (MQ below (QR G (some (.int r)) sh g gl gr n) ([.ref (adr G b0)] : List Value).toArray s rm_X1_aboutAny.cells rm_X1_aboutAny.slots (own G)) (F0 m 30 ls [.int x6, .int x1]) := by
          intro x6 H locs ls hR hS hl h
          unfold j_X1_aboutAny_30 at h
          refine lv_ior hx hb dX1_aboutAny_30 ?_
          refine lv_istore_n (lv' := [(1, .int (x1 ||| x6)), (0, .ref (adr G b0)), (2, .int x2)]) hx hb dX1_aboutAny_31 rfl hl (by decide) rfl (fun ls hl => ?_)
          refine lv_iinc (v := x2 + 1) (lv' := [(2, .int (x2 + 1)), (1, .int (x1 ||| x6)), (0, .ref (adr G b0))]) hx hb dX1_aboutAny_32 hl (k := 2) rfl rfl (by decide) rfl (fun ls hl => ?_)
          refine lv_goto (tgt := 4) hx hb dX1_aboutAny_35 (by decide) ?_
          exact ih4 (x1 ||| x6) (x2 + 1) _ _ _ hR hS (lv_sub hl [2, 1, 0] rfl) h
        refine lv_icmp_ne (tgt := 27) hx hb dX1_aboutAny_20 (by decide) (fun c7 => ?_) (fun c7 => ?_)
        · replace h := ifn h c7
          refine lv_iconst (v := 1) hx hb dX1_aboutAny_27 ki_1 ?_
          refine lv_iload_n hx hb dX1_aboutAny_28 rfl (lv_at hl 2 rfl) ?_
          refine lv_ishl hx hb dX1_aboutAny_29 ?_
          exact J30 (1 <<< (x2 &&& 31)) _ _ _ hR hS (lv_sub hl [0, 2] rfl) h
        · replace h := ifp h c7
          refine lv_iconst (v := 0) hx hb dX1_aboutAny_23 ki_0 ?_
          refine lv_goto (tgt := 30) hx hb dX1_aboutAny_24 (by decide) ?_
          exact J30 0 _ _ _ hR hS (lv_sub hl [0, 2] rfl) h
  exact J4 fuel 0 0 _ _ _ hR hS (lv_sub hl [2, 1, 0] rfl) h
def rm_X1_isAtOdds : Room := { frames := 3, cells := 0, slots := 0, locals := 54 }
theorem hd_X1_isAtOdds : yX1_isAtOdds.cls = "IntentVats$Mill" ∧ yX1_isAtOdds.cls ≠ "java/lang/invoke/MethodHandle" ∧ yX1_isAtOdds.cls ≠ "java/lang/invoke/VarHandle" ∧ (parseMethodDescriptor yX1_isAtOdds.desc).map (fun d => d.parameters.length) = some 2 := by decide +kernel
theorem he_X1_isAtOdds : yX1_isAtOdds.cls ≠ "java/lang/invoke/MethodHandle" ∧ yX1_isAtOdds.cls ≠ "java/lang/invoke/VarHandle" ∧ (parseMethodDescriptor yX1_isAtOdds.desc).map (fun d => d.parameters.length) = some 2 := hd_X1_isAtOdds.2

set_option maxHeartbeats 4000000 in
set_option maxRecDepth 100000 in
theorem w_X1_isAtOdds {l : Launch} {G : Gx} {sh : SM} {g : GM} {gl : LM} {gr : RM} {n : Nat} (hSk : Sk sh gr) (b0 : Nat) (a1 : Int32) (a2 : Int32) (hm_b0 : isMl b0) {r : Int32} (h : f_X1_isAtOdds g b0 a1 a2 = some r) : MetI l G yX1_isAtOdds (ws_ yX1_isAtOdds cX1_isAtOdds 3 (Option.some Jvm.ClassFile.FieldType.boolean)) rm_X1_isAtOdds [.ref (adr G b0), .int a1, .int a2] sh g gl gr n (some (.int r)) sh g gl gr n := by
  refine MetI.of (by decide) (Nat.le_of_ble_eq_true rfl) ?_
  intro p e s m below meth c ls hx hb hr hml hown hts hlk hnm hW hK hR hS hl
  have hown : s.vm.findClass RX1 = some m.cls := hown
  have hF : CallFix p m c cX1_isAtOdds 3 s ([.ref (adr G b0), .int a1, .int a2] : List Value).toArray lw_all RX1 := ⟨hx, hb, hml, hown, hts⟩
  have hl : lv_has ls 3 [(0, .ref (adr G b0)), (1, .int a1), (2, .int a2)] := hl
  unfold f_X1_isAtOdds at h
  refine lv_aload_n hx hb dX1_isAtOdds_0 rfl (lv_at hl 0 rfl) ?_
  refine lv_iload_n hx hb dX1_isAtOdds_1 rfl (lv_at hl 1 rfl) ?_
  obtain ⟨r2, e1, h⟩ := obd h
  refine rc_V0 (rest := []) (st1 := [.int r2]) hF (w_X1_isHung hSk b0 a1 hm_b0 e1) (cwV 1 hts (lw_V q898 q720 q721 q101 q722) rfl rfl rfl hd_X1_isHung ⟨Nat.le_of_ble_eq_true rfl, Nat.le_of_ble_eq_true rfl⟩) cfX1 (mls_0 hSk hm_b0) hK hW hR hS rfl hl.1 rfl (Nat.le_of_ble_eq_true rfl) rfl dX1_isAtOdds_2 ⟨rfl, rfl⟩ ⟨Nat.zero_le _, Nat.zero_le _⟩ (fun H locs hR hS => ?_)
  have J56 : ∀ (x3 : Int32) (H : Heap) (locs : List Loc) (ls : Array Slot), Rep G sh g gl gr n H → va_S (own G) s.heap H locs → lv_has ls 3 [] → j_X1_isAtOdds_56  x3 = some r → W p l e rm_X1_isAtOdds s m ([.ref (adr G b0), .int a1, .int a2] : List Value).toArray below meth c H locs 0 0 (MQ below (QR G (some (.int r)) sh g gl gr n) ([.ref (adr G b0), .int a1, .int a2] : List Value).toArray s rm_X1_isAtOdds.cells rm_X1_isAtOdds.slots (own G)) (F0 m 56 ls [.int x3]) := by
    intro x3 H locs ls hR hS hl h
    unfold j_X1_isAtOdds_56 at h
    obtain ⟨c4, h⟩ := ogrd h
    obtain rfl := s1i h
    exact r_zret0 hx hb hr hlk hR hS (Nat.zero_le _) (Nat.zero_le _) (nb01 c4) dX1_isAtOdds_56
  have J55 : ∀  (H : Heap) (locs : List Loc) (ls : Array Slot), Rep G sh g gl gr n H → va_S (own G) s.heap H locs → lv_has ls 3 [] → j_X1_isAtOdds_55   = some r → W p l e rm_X1_isAtOdds s m ([.ref (adr G b0), .int a1, .int a2] : List Value).toArray below meth c H locs 0 0 (MQ below (QR G (some (.int r)) sh g gl gr n) ([.ref (adr G b0), .int a1, .int a2] : List Value).toArray s rm_X1_isAtOdds.cells rm_X1_isAtOdds.slots (own G)) (F0 m 55 ls []) := by
    intro  H locs ls hR hS hl h
    unfold j_X1_isAtOdds_55 at h
    refine lv_iconst (v := 0) hx hb dX1_isAtOdds_55 ki_0 ?_
    exact J56 0 _ _ _ hR hS (lv_sub hl [] rfl) h
  refine lv_if_ne (tgt := 55) hx hb dX1_isAtOdds_5 (by decide) (fun c5 => ?_) (fun c5 => ?_)
  · replace h := ifn h c5
    exact J55  _ _ _ hR hS (lv_sub hl [] rfl) h
  · replace h := ifp h c5
    refine lv_aload_n hx hb dX1_isAtOdds_8 rfl (lv_at hl 0 rfl) ?_
    refine lv_iload_n hx hb dX1_isAtOdds_9 rfl (lv_at hl 2 rfl) ?_
    obtain ⟨r7, e6, h⟩ := obd h
    refine rc_V0 (rest := []) (st1 := [.int r7]) hF (w_X1_isHung hSk b0 a2 hm_b0 e6) (cwV 1 hts (lw_V q898 q720 q721 q101 q722) rfl rfl rfl hd_X1_isHung ⟨Nat.le_of_ble_eq_true rfl, Nat.le_of_ble_eq_true rfl⟩) cfX1 (mls_0 hSk hm_b0) hK hW hR hS rfl hl.1 rfl (Nat.le_of_ble_eq_true rfl) rfl dX1_isAtOdds_10 ⟨rfl, rfl⟩ ⟨Nat.zero_le _, Nat.zero_le _⟩ (fun H locs hR hS => ?_)
    refine lv_if_ne (tgt := 55) hx hb dX1_isAtOdds_13 (by decide) (fun c8 => ?_) (fun c8 => ?_)
    · replace h := ifn h c8
      exact J55  _ _ _ hR hS (lv_sub hl [] rfl) h
    · replace h := ifp h c8
      refine lv_aload_n hx hb dX1_isAtOdds_16 rfl (lv_at hl 0 rfl) ?_
      refine r_getr hx hb hts cfX1 hown hK hR (mls_0 hSk hm_b0) 9 (by decide) rfl (mlr_9 hSk hm_b0) (hts _ q182) (fun _ h => h) dX1_isAtOdds_17 ?_
      refine lv_iload_n hx hb dX1_isAtOdds_20 rfl (lv_at hl 1 rfl) ?_
      obtain ⟨v10, e9, h⟩ := obd h
      refine r_ldi hx hb hK hR (mls_6 hSk hm_b0) e9 dX1_isAtOdds_21 ?_
      refine lv_iconst (v := (-1)) hx hb dX1_isAtOdds_22 ki_m1 ?_
      refine lv_icmp_eq (tgt := 55) hx hb dX1_isAtOdds_23 (by decide) (fun c11 => ?_) (fun c11 => ?_)
      · replace h := ifp h c11
        exact J55  _ _ _ hR hS (lv_sub hl [] rfl) h
      · replace h := ifn h c11
        refine lv_aload_n hx hb dX1_isAtOdds_26 rfl (lv_at hl 0 rfl) ?_
        refine r_getr hx hb hts cfX1 hown hK hR (mls_0 hSk hm_b0) 9 (by decide) rfl (mlr_9 hSk hm_b0) (hts _ q182) (fun _ h => h) dX1_isAtOdds_27 ?_
        refine lv_iload_n hx hb dX1_isAtOdds_30 rfl (lv_at hl 2 rfl) ?_
        obtain ⟨v13, e12, h⟩ := obd h
        refine r_ldi hx hb hK hR (mls_6 hSk hm_b0) e12 dX1_isAtOdds_31 ?_
        refine lv_iconst (v := (-1)) hx hb dX1_isAtOdds_32 ki_m1 ?_
        refine lv_icmp_eq (tgt := 55) hx hb dX1_isAtOdds_33 (by decide) (fun c14 => ?_) (fun c14 => ?_)
        · replace h := ifp h c14
          exact J55  _ _ _ hR hS (lv_sub hl [] rfl) h
        · replace h := ifn h c14
          refine lv_aload_n hx hb dX1_isAtOdds_36 rfl (lv_at hl 0 rfl) ?_
          refine r_getr hx hb hts cfX1 hown hK hR (mls_0 hSk hm_b0) 9 (by decide) rfl (mlr_9 hSk hm_b0) (hts _ q182) (fun _ h => h) dX1_isAtOdds_37 ?_
          refine lv_iload_n hx hb dX1_isAtOdds_40 rfl (lv_at hl 1 rfl) ?_
          obtain ⟨v16, e15, h⟩ := obd h
          refine r_ldi hx hb hK hR (mls_6 hSk hm_b0) e15 dX1_isAtOdds_41 ?_
          refine lv_aload_n hx hb dX1_isAtOdds_42 rfl (lv_at hl 0 rfl) ?_
          refine r_getr hx hb hts cfX1 hown hK hR (mls_0 hSk hm_b0) 9 (by decide) rfl (mlr_9 hSk hm_b0) (hts _ q182) (fun _ h => h) dX1_isAtOdds_43 ?_
          refine lv_iload_n hx hb dX1_isAtOdds_46 rfl (lv_at hl 2 rfl) ?_
          obtain ⟨v18, e17, h⟩ := obd h
          refine r_ldi hx hb hK hR (mls_6 hSk hm_b0) e17 dX1_isAtOdds_47 ?_
          refine lv_icmp_eq (tgt := 55) hx hb dX1_isAtOdds_48 (by decide) (fun c19 => ?_) (fun c19 => ?_)
          · replace h := ifp h c19
            exact J55  _ _ _ hR hS (lv_sub hl [] rfl) h
          · replace h := ifn h c19
            refine lv_iconst (v := 1) hx hb dX1_isAtOdds_51 ki_1 ?_
            refine lv_goto (tgt := 56) hx hb dX1_isAtOdds_52 (by decide) ?_
            exact J56 1 _ _ _ hR hS (lv_sub hl [] rfl) h
def rm_X1_atOdds : Room := { frames := 4, cells := 0, slots := 0, locals := 76 }
theorem hd_X1_atOdds : yX1_atOdds.cls = "IntentVats$Mill" ∧ yX1_atOdds.cls ≠ "java/lang/invoke/MethodHandle" ∧ yX1_atOdds.cls ≠ "java/lang/invoke/VarHandle" ∧ (parseMethodDescriptor yX1_atOdds.desc).map (fun d => d.parameters.length) = some 0 := by decide +kernel
theorem he_X1_atOdds : yX1_atOdds.cls ≠ "java/lang/invoke/MethodHandle" ∧ yX1_atOdds.cls ≠ "java/lang/invoke/VarHandle" ∧ (parseMethodDescriptor yX1_atOdds.desc).map (fun d => d.parameters.length) = some 0 := hd_X1_atOdds.2

set_option maxHeartbeats 4000000 in
set_option maxRecDepth 100000 in
theorem w_X1_atOdds {l : Launch} {G : Gx} {sh : SM} {g : GM} {gl : LM} {gr : RM} {n : Nat} (hSk : Sk sh gr) (b0 : Nat) (hm_b0 : isMl b0) {r : Int32} (h : f_X1_atOdds g b0 = some r) : MetI l G yX1_atOdds (ws_ yX1_atOdds cX1_atOdds 4 (Option.some Jvm.ClassFile.FieldType.int)) rm_X1_atOdds [.ref (adr G b0)] sh g gl gr n (some (.int r)) sh g gl gr n := by
  refine MetI.of (by decide) (Nat.le_of_ble_eq_true rfl) ?_
  intro p e s m below meth c ls hx hb hr hml hown hts hlk hnm hW hK hR hS hl
  have hown : s.vm.findClass RX1 = some m.cls := hown
  have hF : CallFix p m c cX1_atOdds 4 s ([.ref (adr G b0)] : List Value).toArray lw_all RX1 := ⟨hx, hb, hml, hown, hts⟩
  have hl : lv_has ls 4 [(0, .ref (adr G b0))] := hl
  unfold f_X1_atOdds at h
  refine lv_iconst (v := 0) hx hb dX1_atOdds_0 ki_0 ?_
  refine lv_istore_n (lv' := [(1, .int 0), (0, .ref (adr G b0))]) hx hb dX1_atOdds_1 rfl hl (by decide) rfl (fun ls hl => ?_)
  refine lv_iconst (v := 0) hx hb dX1_atOdds_2 ki_0 ?_
  refine lv_istore_n (lv' := [(2, .int 0), (1, .int 0), (0, .ref (adr G b0))]) hx hb dX1_atOdds_3 rfl hl (by decide) rfl (fun ls hl => ?_)
  have J4 : ∀ (k4 : Nat) (x1 : Int32) (x2 : Int32) (H : Heap) (locs : List Loc) (ls : Array Slot), Rep G sh g gl gr n H → va_S (own G) s.heap H locs → lv_has ls 4 [(0, .ref (adr G b0)), (1, .int x1), (2, .int x2)] → l_X1_atOdds_4 g b0 k4 x1 x2 = some r → W p l e rm_X1_atOdds s m ([.ref (adr G b0)] : List Value).toArray below meth c H locs 0 0 (MQ below (QR G (some (.int r)) sh g gl gr n) ([.ref (adr G b0)] : List Value).toArray s rm_X1_atOdds.cells rm_X1_atOdds.slots (own G)) (F0 m 4 ls []) := by
    intro k4
    induction k4 with
    | zero => intro _ _ _ _ _ _ _ _; exact nofun
    | succ k4 ih4 =>
      intro x1 x2 H locs ls hR hS hl h
      unfold l_X1_atOdds_4 b_X1_atOdds_4 at h
      refine lv_iload_n hx hb dX1_atOdds_4 rfl (lv_at hl 2 rfl) ?_
      refine lv_aload_n hx hb dX1_atOdds_5 rfl (lv_at hl 0 rfl) ?_
      refine r_geti hx hb hts cfX1 hown hK hR (mls_0 hSk hm_b0) 0 (by decide) rfl (hts _ q152) (fun _ h => h) dX1_atOdds_6 ?_
      refine lv_icmp_ge (tgt := 53) hx hb dX1_atOdds_9 (by decide) (fun c3 => ?_) (fun c3 => ?_)
      · replace h := ifp h c3
        refine lv_iload_n hx hb dX1_atOdds_53 rfl (lv_at hl 1 rfl) ?_
        obtain rfl := s1i h
        exact r_iret0 hx hb hr hlk hR hS (Nat.zero_le _) (Nat.zero_le _) dX1_atOdds_54
      · replace h := ifn h c3
        refine lv_iload_n hx hb dX1_atOdds_12 rfl (lv_at hl 2 rfl) ?_
        refine lv_iconst (v := 1) hx hb dX1_atOdds_13 ki_1 ?_
        refine lv_iadd hx hb dX1_atOdds_14 ?_
        refine lv_istore_n (lv' := [(3, .int (x2 + 1)), (0, .ref (adr G b0)), (1, .int x1), (2, .int x2)]) hx hb dX1_atOdds_15 rfl hl (by decide) rfl (fun ls hl => ?_)
        have J16 : ∀ (k16 : Nat) (x4 : Int32) (x5 : Int32) (H : Heap) (locs : List Loc) (ls : Array Slot), Rep G sh g gl gr n H → va_S (own G) s.heap H locs → lv_has ls 4 [(0, .ref (adr G b0)), (1, .int x4), (2, .int x2), (3, .int x5)] → l_X1_atOdds_16 g b0 x2 (l_X1_atOdds_4 g b0 k4) k16 x4 x5 = some r → W p l e rm_X1_atOdds s m ([.ref (adr G b0)] : List Value).toArray below meth c H locs 0 0 (MQ below (QR G (some (.int r)) sh g gl gr n) ([.ref (adr G b0)] : List Value).toArray s rm_X1_atOdds.cells rm_X1_atOdds.slots (own G)) (F0 m 16 ls []) := by
          intro k16
          induction k16 with
          | zero => intro _ _ _ _ _ _ _ _; exact nofun
          | succ k16 ih16 =>
            intro x4 x5 H locs ls hR hS hl h
            unfold l_X1_atOdds_16 b_X1_atOdds_16 at h
            refine lv_iload_n hx hb dX1_atOdds_16 rfl (lv_at hl 3 rfl) ?_
            refine lv_aload_n hx hb dX1_atOdds_17 rfl (lv_at hl 0 rfl) ?_
            refine r_geti hx hb hts cfX1 hown hK hR (mls_0 hSk hm_b0) 0 (by decide) rfl (hts _ q152) (fun _ h => h) dX1_atOdds_18 ?_
            refine lv_icmp_ge (tgt := 47) hx hb dX1_atOdds_21 (by decide) (fun c6 => ?_) (fun c6 => ?_)
            · replace h := ifp h c6
              refine lv_iinc (v := x2 + 1) (lv' := [(2, .int (x2 + 1)), (0, .ref (adr G b0)), (1, .int x4), (3, .int x5)]) hx hb dX1_atOdds_47 hl (k := 2) rfl rfl (by decide) rfl (fun ls hl => ?_)
              refine lv_goto (tgt := 4) hx hb dX1_atOdds_50 (by decide) ?_
              exact ih4 x4 (x2 + 1) _ _ _ hR hS (lv_sub hl [1, 2, 0] rfl) h
            · replace h := ifn h c6
              refine lv_iload_n hx hb dX1_atOdds_24 rfl (lv_at hl 1 rfl) ?_
              refine lv_aload_n hx hb dX1_atOdds_25 rfl (lv_at hl 0 rfl) ?_
              refine lv_iload_n hx hb dX1_atOdds_26 rfl (lv_at hl 2 rfl) ?_
              refine lv_iload_n hx hb dX1_atOdds_27 rfl (lv_at hl 3 rfl) ?_
              obtain ⟨r8, e7, h⟩ := obd h
              refine rc_V0 (rest := [.int x4]) (st1 := [.int r8, .int x4]) hF (w_X1_isAtOdds hSk b0 x2 x5 hm_b0 e7) (cwV 2 hts (lw_V q894 q895 q896 q101 q897) rfl rfl rfl hd_X1_isAtOdds ⟨Nat.le_of_ble_eq_true rfl, Nat.le_of_ble_eq_true rfl⟩) cfX1 (mls_0 hSk hm_b0) hK hW hR hS rfl hl.1 rfl (Nat.le_of_ble_eq_true rfl) rfl dX1_atOdds_28 ⟨rfl, rfl⟩ ⟨Nat.zero_le _, Nat.zero_le _⟩ (fun H locs hR hS => ?_)
              have J39 : ∀ (x9 : Int32) (H : Heap) (locs : List Loc) (ls : Array Slot), Rep G sh g gl gr n H → va_S (own G) s.heap H locs → lv_has ls 4 [(0, .ref (adr G b0)), (2, .int x2), (3, .int x5)] → j_X1_atOdds_39 x4 x5 (l_X1_atOdds_16 g b0 x2 (l_X1_atOdds_4 g b0 k4) k16) x9 = some r → W p l e rm_X1_atOdds s m ([.ref (adr G b0)] : List Value).toArray below meth c H locs 0 0 (MQ below (QR G (some (.int r)) sh g gl gr n) ([.ref (adr G b0)] : List Value).toArray s rm_X1_atOdds.cells rm_X1_atOdds.slots (own G)) (F0 m 39 ls [.int x9, .int x4]) := by
                intro x9 H locs ls hR hS hl h
                unfold j_X1_atOdds_39 at h
                refine lv_iadd hx hb dX1_atOdds_39 ?_
                refine lv_istore_n (lv' := [(1, .int (x4 + x9)), (0, .ref (adr G b0)), (2, .int x2), (3, .int x5)]) hx hb dX1_atOdds_40 rfl hl (by decide) rfl (fun ls hl => ?_)
                refine lv_iinc (v := x5 + 1) (lv' := [(3, .int (x5 + 1)), (1, .int (x4 + x9)), (0, .ref (adr G b0)), (2, .int x2)]) hx hb dX1_atOdds_41 hl (k := 3) rfl rfl (by decide) rfl (fun ls hl => ?_)
                refine lv_goto (tgt := 16) hx hb dX1_atOdds_44 (by decide) ?_
                exact ih16 (x4 + x9) (x5 + 1) _ _ _ hR hS (lv_sub hl [2, 1, 3, 0] rfl) h
              refine lv_if_eq (tgt := 38) hx hb dX1_atOdds_31 (by decide) (fun c10 => ?_) (fun c10 => ?_)
              · replace h := ifp h c10
                refine lv_iconst (v := 0) hx hb dX1_atOdds_38 ki_0 ?_
                exact J39 0 _ _ _ hR hS (lv_sub hl [0, 2, 3] rfl) h
              · replace h := ifn h c10
                refine lv_iconst (v := 1) hx hb dX1_atOdds_34 ki_1 ?_
                refine lv_goto (tgt := 39) hx hb dX1_atOdds_35 (by decide) ?_
                exact J39 1 _ _ _ hR hS (lv_sub hl [0, 2, 3] rfl) h
        exact J16 fuel x1 (x2 + 1) _ _ _ hR hS (lv_sub hl [1, 2, 3, 0] rfl) h
  exact J4 fuel 0 0 _ _ _ hR hS (lv_sub hl [2, 1, 0] rfl) h
def rm_X1_purposes : Room := { frames := 1, cells := 0, slots := 0, locals := 12 }
theorem hd_X1_purposes : yX1_purposes.cls = "IntentVats$Mill" ∧ yX1_purposes.cls ≠ "java/lang/invoke/MethodHandle" ∧ yX1_purposes.cls ≠ "java/lang/invoke/VarHandle" ∧ (parseMethodDescriptor yX1_purposes.desc).map (fun d => d.parameters.length) = some 0 := by decide +kernel
theorem he_X1_purposes : yX1_purposes.cls ≠ "java/lang/invoke/MethodHandle" ∧ yX1_purposes.cls ≠ "java/lang/invoke/VarHandle" ∧ (parseMethodDescriptor yX1_purposes.desc).map (fun d => d.parameters.length) = some 0 := hd_X1_purposes.2

set_option maxHeartbeats 4000000 in
set_option maxRecDepth 100000 in
theorem w_X1_purposes {l : Launch} {G : Gx} {sh : SM} {g : GM} {gl : LM} {gr : RM} {n : Nat} (hSk : Sk sh gr) (b0 : Nat) (hm_b0 : isMl b0) {r : Int32} (h : f_X1_purposes g b0 = some r) : MetI l G yX1_purposes (ws_ yX1_purposes cX1_purposes 3 (Option.some Jvm.ClassFile.FieldType.int)) rm_X1_purposes [.ref (adr G b0)] sh g gl gr n (some (.int r)) sh g gl gr n := by
  refine MetI.of (by decide) (Nat.le_of_ble_eq_true rfl) ?_
  intro p e s m below meth c ls hx hb hr hml hown hts hlk hnm hW hK hR hS hl
  have hown : s.vm.findClass RX1 = some m.cls := hown
  have hF : CallFix p m c cX1_purposes 3 s ([.ref (adr G b0)] : List Value).toArray lw_all RX1 := ⟨hx, hb, hml, hown, hts⟩
  have hl : lv_has ls 3 [(0, .ref (adr G b0))] := hl
  unfold f_X1_purposes at h
  refine lv_iconst (v := 0) hx hb dX1_purposes_0 ki_0 ?_
  refine lv_istore_n (lv' := [(1, .int 0), (0, .ref (adr G b0))]) hx hb dX1_purposes_1 rfl hl (by decide) rfl (fun ls hl => ?_)
  refine lv_iconst (v := 0) hx hb dX1_purposes_2 ki_0 ?_
  refine lv_istore_n (lv' := [(2, .int 0), (1, .int 0), (0, .ref (adr G b0))]) hx hb dX1_purposes_3 rfl hl (by decide) rfl (fun ls hl => ?_)
  have J4 : ∀ (k4 : Nat) (x1 : Int32) (x2 : Int32) (H : Heap) (locs : List Loc) (ls : Array Slot), Rep G sh g gl gr n H → va_S (own G) s.heap H locs → lv_has ls 3 [(0, .ref (adr G b0)), (1, .int x1), (2, .int x2)] → l_X1_purposes_4 g b0 k4 x1 x2 = some r → W p l e rm_X1_purposes s m ([.ref (adr G b0)] : List Value).toArray below meth c H locs 0 0 (MQ below (QR G (some (.int r)) sh g gl gr n) ([.ref (adr G b0)] : List Value).toArray s rm_X1_purposes.cells rm_X1_purposes.slots (own G)) (F0 m 4 ls []) := by
    intro k4
    induction k4 with
    | zero => intro _ _ _ _ _ _ _ _; exact nofun
    | succ k4 ih4 =>
      intro x1 x2 H locs ls hR hS hl h
      unfold l_X1_purposes_4 b_X1_purposes_4 at h
      refine lv_iload_n hx hb dX1_purposes_4 rfl (lv_at hl 2 rfl) ?_
      refine lv_aload_n hx hb dX1_purposes_5 rfl (lv_at hl 0 rfl) ?_
      refine r_geti hx hb hts cfX1 hown hK hR (mls_0 hSk hm_b0) 0 (by decide) rfl (hts _ q152) (fun _ h => h) dX1_purposes_6 ?_
      refine lv_icmp_ge (tgt := 43) hx hb dX1_purposes_9 (by decide) (fun c3 => ?_) (fun c3 => ?_)
      · replace h := ifp h c3
        refine lv_iload_n hx hb dX1_purposes_43 rfl (lv_at hl 1 rfl) ?_
        obtain rfl := s1i h
        exact r_iret0 hx hb hr hlk hR hS (Nat.zero_le _) (Nat.zero_le _) dX1_purposes_44
      · replace h := ifn h c3
        refine lv_iload_n hx hb dX1_purposes_12 rfl (lv_at hl 1 rfl) ?_
        refine lv_aload_n hx hb dX1_purposes_13 rfl (lv_at hl 0 rfl) ?_
        refine r_getr hx hb hts cfX1 hown hK hR (mls_0 hSk hm_b0) 9 (by decide) rfl (mlr_9 hSk hm_b0) (hts _ q182) (fun _ h => h) dX1_purposes_14 ?_
        refine lv_iload_n hx hb dX1_purposes_17 rfl (lv_at hl 2 rfl) ?_
        obtain ⟨v5, e4, h⟩ := obd h
        refine r_ldi hx hb hK hR (mls_6 hSk hm_b0) e4 dX1_purposes_18 ?_
        refine lv_iconst (v := (-1)) hx hb dX1_purposes_19 ki_m1 ?_
        have J35 : ∀ (x6 : Int32) (H : Heap) (locs : List Loc) (ls : Array Slot), Rep G sh g gl gr n H → va_S (own G) s.heap H locs → lv_has ls 3 [(0, .ref (adr G b0)), (2, .int x2)] → j_X1_purposes_35 x1 x2 (l_X1_purposes_4 g b0 k4) x6 = some r → W p l e rm_X1_purposes s m ([.ref (adr G b0)] : List Value).toArray below meth c H locs 0 0 (MQ below (QR G (some (.int r)) sh g gl gr n) ([.ref (adr G b0)] : List Value).toArray s rm_X1_purposes.cells rm_X1_purposes.slots (own G)) (F0 m 35 ls [.int x6, .int x1]) := by
          intro x6 H locs ls hR hS hl h
          unfold j_X1_purposes_35 at h
          refine lv_ior hx hb dX1_purposes_35 ?_
          refine lv_istore_n (lv' := [(1, .int (x1 ||| x6)), (0, .ref (adr G b0)), (2, .int x2)]) hx hb dX1_purposes_36 rfl hl (by decide) rfl (fun ls hl => ?_)
          refine lv_iinc (v := x2 + 1) (lv' := [(2, .int (x2 + 1)), (1, .int (x1 ||| x6)), (0, .ref (adr G b0))]) hx hb dX1_purposes_37 hl (k := 2) rfl rfl (by decide) rfl (fun ls hl => ?_)
          refine lv_goto (tgt := 4) hx hb dX1_purposes_40 (by decide) ?_
          exact ih4 (x1 ||| x6) (x2 + 1) _ _ _ hR hS (lv_sub hl [2, 1, 0] rfl) h
        refine lv_icmp_ne (tgt := 27) hx hb dX1_purposes_20 (by decide) (fun c7 => ?_) (fun c7 => ?_)
        · replace h := ifn h c7
          refine lv_iconst (v := 1) hx hb dX1_purposes_27 ki_1 ?_
          refine lv_aload_n hx hb dX1_purposes_28 rfl (lv_at hl 0 rfl) ?_
          refine r_getr hx hb hts cfX1 hown hK hR (mls_0 hSk hm_b0) 9 (by decide) rfl (mlr_9 hSk hm_b0) (hts _ q182) (fun _ h => h) dX1_purposes_29 ?_
          refine lv_iload_n hx hb dX1_purposes_32 rfl (lv_at hl 2 rfl) ?_
          obtain ⟨v9, e8, h⟩ := obd h
          refine r_ldi hx hb hK hR (mls_6 hSk hm_b0) e8 dX1_purposes_33 ?_
          refine lv_ishl hx hb dX1_purposes_34 ?_
          exact J35 (1 <<< (v9 &&& 31)) _ _ _ hR hS (lv_sub hl [0, 2] rfl) h
        · replace h := ifp h c7
          refine lv_iconst (v := 0) hx hb dX1_purposes_23 ki_0 ?_
          refine lv_goto (tgt := 35) hx hb dX1_purposes_24 (by decide) ?_
          exact J35 0 _ _ _ hR hS (lv_sub hl [0, 2] rfl) h
  exact J4 fuel 0 0 _ _ _ hR hS (lv_sub hl [2, 1, 0] rfl) h
def rm_X10_row : Room := { frames := 1, cells := 0, slots := 0, locals := 12 }
theorem hd_X10_row : yX10_row.cls = "IntentVats$Sheet" ∧ yX10_row.cls ≠ "java/lang/invoke/MethodHandle" ∧ yX10_row.cls ≠ "java/lang/invoke/VarHandle" ∧ (parseMethodDescriptor yX10_row.desc).map (fun d => d.parameters.length) = some 0 := by decide +kernel
theorem he_X10_row : yX10_row.cls ≠ "java/lang/invoke/MethodHandle" ∧ yX10_row.cls ≠ "java/lang/invoke/VarHandle" ∧ (parseMethodDescriptor yX10_row.desc).map (fun d => d.parameters.length) = some 0 := hd_X10_row.2

set_option maxHeartbeats 4000000 in
set_option maxRecDepth 100000 in
theorem w_X10_row {l : Launch} {G : Gx} {sh : SM} {g : GM} {gl : LM} {gr : RM} {n : Nat} (hSk : Sk sh gr) (b0 : Nat)  {r : Option Nat} (h : f_X10_row sh g gr b0 = some r) : MetI l G yX10_row (ws_ yX10_row cX10_row 1 (Option.some (Jvm.ClassFile.FieldType.object "java/lang/Object"))) rm_X10_row [.ref (adr G b0)] sh g gl gr n (some (va_rf (Option.map (adr G) r))) sh g gl gr n := by
  refine MetI.of (by decide) (Nat.le_of_ble_eq_true rfl) ?_
  intro p e s m below meth c ls hx hb hr hml hown hts hlk hnm hW hK hR hS hl
  have hown : s.vm.findClass RX10 = some m.cls := hown
  have hF : CallFix p m c cX10_row 1 s ([.ref (adr G b0)] : List Value).toArray lw_all RX10 := ⟨hx, hb, hml, hown, hts⟩
  have hl : lv_has ls 1 [(0, .ref (adr G b0))] := hl
  unfold f_X10_row at h
  refine lv_aload_n hx hb dX10_row_0 rfl (lv_at hl 0 rfl) ?_
  obtain ⟨c1, h⟩ := ogrd h
  refine r_geti hx hb hts cfX10 hown hK hR c1 4 (by decide) rfl (hts _ q389) (fun _ h => h) dX10_row_1 ?_
  by_cases c2 : (g b0 4) = 0
  · replace h := ifp h c2
    refine lv_tableIn (off := 32) (tgt := 36) hx hb dX10_row_4 (by rw [c2]; decide) (by rw [c2]; decide) (by rw [c2]; decide) (by decide) ?_
    refine lv_aload_n hx hb dX10_row_36 rfl (lv_at hl 0 rfl) ?_
    obtain ⟨c3, h⟩ := ogrd h
    obtain ⟨o5, e4, h⟩ := obd h
    refine r_geto2 hx hb hts cfX10 hown hK hR c3 0 (by decide) rfl e4 (hts _ q385) (fun _ h => h) dX10_row_37 ?_
    obtain rfl := s1i h
    exact r_aret0 (v := Option.map (adr G) o5) hx hb hr (Or.inl ⟨_, rfl⟩) hlk hR hS (Nat.zero_le _) (Nat.zero_le _) dX10_row_40
  · replace h := ifn h c2
    by_cases c6 : (g b0 4) = 1
    · replace h := ifp h c6
      refine lv_tableIn (off := 37) (tgt := 41) hx hb dX10_row_4 (by rw [c6]; decide) (by rw [c6]; decide) (by rw [c6]; decide) (by decide) ?_
      refine lv_aload_n hx hb dX10_row_41 rfl (lv_at hl 0 rfl) ?_
      obtain ⟨c7, h⟩ := ogrd h
      obtain ⟨o9, e8, h⟩ := obd h
      refine r_geto2 hx hb hts cfX10 hown hK hR c7 1 (by decide) rfl e8 (hts _ q386) (fun _ h => h) dX10_row_42 ?_
      obtain rfl := s1i h
      exact r_aret0 (v := Option.map (adr G) o9) hx hb hr (Or.inl ⟨_, rfl⟩) hlk hR hS (Nat.zero_le _) (Nat.zero_le _) dX10_row_45
    · replace h := ifn h c6
      by_cases c10 : (g b0 4) = 2
      · replace h := ifp h c10
        refine lv_tableIn (off := 42) (tgt := 46) hx hb dX10_row_4 (by rw [c10]; decide) (by rw [c10]; decide) (by rw [c10]; decide) (by decide) ?_
        refine lv_aload_n hx hb dX10_row_46 rfl (lv_at hl 0 rfl) ?_
        obtain ⟨c11, h⟩ := ogrd h
        obtain ⟨o13, e12, h⟩ := obd h
        refine r_geto2 hx hb hts cfX10 hown hK hR c11 2 (by decide) rfl e12 (hts _ q387) (fun _ h => h) dX10_row_47 ?_
        obtain rfl := s1i h
        exact r_aret0 (v := Option.map (adr G) o13) hx hb hr (Or.inl ⟨_, rfl⟩) hlk hR hS (Nat.zero_le _) (Nat.zero_le _) dX10_row_50
      · replace h := ifn h c10
        by_cases c14 : (g b0 4) = 3
        · replace h := ifp h c14
          refine lv_tableIn (off := 47) (tgt := 51) hx hb dX10_row_4 (by rw [c14]; decide) (by rw [c14]; decide) (by rw [c14]; decide) (by decide) ?_
          refine lv_aload_n hx hb dX10_row_51 rfl (lv_at hl 0 rfl) ?_
          obtain ⟨c15, h⟩ := ogrd h
          obtain ⟨o17, e16, h⟩ := obd h
          refine r_geto2 hx hb hts cfX10 hown hK hR c15 3 (by decide) rfl e16 (hts _ q388) (fun _ h => h) dX10_row_52 ?_
          obtain rfl := s1i h
          exact r_aret0 (v := Option.map (adr G) o17) hx hb hr (Or.inl ⟨_, rfl⟩) hlk hR hS (Nat.zero_le _) (Nat.zero_le _) dX10_row_55
        · replace h := ifn h c14
          have dc2 : Int32.toInt (g b0 4) ≠ 0 := ne32 c2 (by decide)
          have dc6 : Int32.toInt (g b0 4) ≠ 1 := ne32 c6 (by decide)
          have dc10 : Int32.toInt (g b0 4) ≠ 2 := ne32 c10 (by decide)
          have dc14 : Int32.toInt (g b0 4) ≠ 3 := ne32 c14 (by decide)
          refine lv_tableOut (tgt := 56) hx hb dX10_row_4 (by omega) (by decide) ?_
          refine lv_null hx hb dX10_row_56 ?_
          obtain rfl := s1i h
          exact r_aret0 (v := none) hx hb hr (Or.inl ⟨_, rfl⟩) hlk hR hS (Nat.zero_le _) (Nat.zero_le _) dX10_row_57
def rm_X2_takes : Room := { frames := 1, cells := 0, slots := 0, locals := 12 }
theorem hd_X2_takes : yX2_takes.cls = "IntentVats$Plain" ∧ yX2_takes.cls ≠ "java/lang/invoke/MethodHandle" ∧ yX2_takes.cls ≠ "java/lang/invoke/VarHandle" ∧ (parseMethodDescriptor yX2_takes.desc).map (fun d => d.parameters.length) = some 2 := by decide +kernel
theorem he_X2_takes : yX2_takes.cls ≠ "java/lang/invoke/MethodHandle" ∧ yX2_takes.cls ≠ "java/lang/invoke/VarHandle" ∧ (parseMethodDescriptor yX2_takes.desc).map (fun d => d.parameters.length) = some 2 := hd_X2_takes.2
theorem hs_X2_takes : yX2_takes.name ≠ "<init>" ∧ (parseMethodDescriptor yX2_takes.desc).map (fun d => d.parameters.length) = some 2 := by decide +kernel
set_option maxHeartbeats 4000000 in
set_option maxRecDepth 100000 in
theorem w_X2_takes {l : Launch} {G : Gx} {sh : SM} {g : GM} {gl : LM} {gr : RM} {n : Nat} (hSk : Sk sh gr) (w0 : Nat) (b1 : Nat) (a2 : Int32) (hw_w0 : isWay w0) (hm_b1 : isMl b1) {r : Int32} (h : f_X2_takes g w0 b1 a2 = some r) : MetI l G yX2_takes (ws_ yX2_takes cX2_takes 3 (Option.some Jvm.ClassFile.FieldType.int)) rm_X2_takes [.ref (adr G w0), .ref (adr G b1), .int a2] sh g gl gr n (some (.int r)) sh g gl gr n := by
  refine MetI.of (by decide) (Nat.le_of_ble_eq_true rfl) ?_
  intro p e s m below meth c ls hx hb hr hml hown hts hlk hnm hW hK hR hS hl
  have hown : s.vm.findClass RX2 = some m.cls := hown
  have hF : CallFix p m c cX2_takes 3 s ([.ref (adr G w0), .ref (adr G b1), .int a2] : List Value).toArray lw_all RX2 := ⟨hx, hb, hml, hown, hts⟩
  have hl : lv_has ls 3 [(0, .ref (adr G w0)), (1, .ref (adr G b1)), (2, .int a2)] := hl
  unfold f_X2_takes at h
  refine lv_aload_n hx hb dX2_takes_0 rfl (lv_at hl 1 rfl) ?_
  refine r_getrN hx hb hts cfX1 hown hK hR (mls_0 hSk hm_b1) 6 (by decide) rfl (mlr_6 hSk hm_b1) (hW.nestF q174) (fun _ h => h) dX2_takes_1 ?_
  refine lv_iload_n hx hb dX2_takes_4 rfl (lv_at hl 2 rfl) ?_
  obtain ⟨v2, e1, h⟩ := obd h
  refine r_ldi hx hb hK hR (mls_3 hSk hm_b1) e1 dX2_takes_5 ?_
  refine lv_aload_n hx hb dX2_takes_6 rfl (lv_at hl 1 rfl) ?_
  refine r_getrN hx hb hts cfX1 hown hK hR (mls_0 hSk hm_b1) 4 (by decide) rfl (mlr_4 hSk hm_b1) (hW.nestF q163) (fun _ h => h) dX2_takes_7 ?_
  refine lv_iconst (v := 0) hx hb dX2_takes_10 ki_0 ?_
  obtain ⟨v4, e3, h⟩ := obd h
  refine r_ldi hx hb hK hR (mls_1 hSk hm_b1) e3 dX2_takes_11 ?_
  refine lv_iadd hx hb dX2_takes_12 ?_
  obtain rfl := s1i h
  exact r_iret0 hx hb hr hlk hR hS (Nat.zero_le _) (Nat.zero_le _) dX2_takes_13
def rm_X2_fights : Room := { frames := 1, cells := 0, slots := 0, locals := 12 }
theorem hd_X2_fights : yX2_fights.cls = "IntentVats$Plain" ∧ yX2_fights.cls ≠ "java/lang/invoke/MethodHandle" ∧ yX2_fights.cls ≠ "java/lang/invoke/VarHandle" ∧ (parseMethodDescriptor yX2_fights.desc).map (fun d => d.parameters.length) = some 2 := by decide +kernel
theorem he_X2_fights : yX2_fights.cls ≠ "java/lang/invoke/MethodHandle" ∧ yX2_fights.cls ≠ "java/lang/invoke/VarHandle" ∧ (parseMethodDescriptor yX2_fights.desc).map (fun d => d.parameters.length) = some 2 := hd_X2_fights.2
theorem hs_X2_fights : yX2_fights.name ≠ "<init>" ∧ (parseMethodDescriptor yX2_fights.desc).map (fun d => d.parameters.length) = some 2 := by decide +kernel
set_option maxHeartbeats 4000000 in
set_option maxRecDepth 100000 in
theorem w_X2_fights {l : Launch} {G : Gx} {sh : SM} {g : GM} {gl : LM} {gr : RM} {n : Nat} (hSk : Sk sh gr) (w0 : Nat) (b1 : Nat) (a2 : Int32) (hw_w0 : isWay w0) (hm_b1 : isMl b1) {r : Int32} (h : f_X2_fights g w0 b1 a2 = some r) : MetI l G yX2_fights (ws_ yX2_fights cX2_fights 3 (Option.some Jvm.ClassFile.FieldType.int)) rm_X2_fights [.ref (adr G w0), .ref (adr G b1), .int a2] sh g gl gr n (some (.int r)) sh g gl gr n := by
  refine MetI.of (by decide) (Nat.le_of_ble_eq_true rfl) ?_
  intro p e s m below meth c ls hx hb hr hml hown hts hlk hnm hW hK hR hS hl
  have hown : s.vm.findClass RX2 = some m.cls := hown
  have hF : CallFix p m c cX2_fights 3 s ([.ref (adr G w0), .ref (adr G b1), .int a2] : List Value).toArray lw_all RX2 := ⟨hx, hb, hml, hown, hts⟩
  have hl : lv_has ls 3 [(0, .ref (adr G w0)), (1, .ref (adr G b1)), (2, .int a2)] := hl
  unfold f_X2_fights at h
  refine lv_aload_n hx hb dX2_fights_0 rfl (lv_at hl 1 rfl) ?_
  refine r_getrN hx hb hts cfX1 hown hK hR (mls_0 hSk hm_b1) 6 (by decide) rfl (mlr_6 hSk hm_b1) (hW.nestF q174) (fun _ h => h) dX2_fights_1 ?_
  refine lv_iload_n hx hb dX2_fights_4 rfl (lv_at hl 2 rfl) ?_
  obtain ⟨v2, e1, h⟩ := obd h
  refine r_ldi hx hb hK hR (mls_3 hSk hm_b1) e1 dX2_fights_5 ?_
  obtain rfl := s1i h
  exact r_iret0 hx hb hr hlk hR hS (Nat.zero_le _) (Nat.zero_le _) dX2_fights_6
def rm_X22_fades : Room := { frames := 1, cells := 0, slots := 0, locals := 12 }
theorem hd_X22_fades : yX22_fades.cls = "IntentVats$Fighting" ∧ yX22_fades.cls ≠ "java/lang/invoke/MethodHandle" ∧ yX22_fades.cls ≠ "java/lang/invoke/VarHandle" ∧ (parseMethodDescriptor yX22_fades.desc).map (fun d => d.parameters.length) = some 1 := by decide +kernel
theorem he_X22_fades : yX22_fades.cls ≠ "java/lang/invoke/MethodHandle" ∧ yX22_fades.cls ≠ "java/lang/invoke/VarHandle" ∧ (parseMethodDescriptor yX22_fades.desc).map (fun d => d.parameters.length) = some 1 := hd_X22_fades.2

set_option maxHeartbeats 4000000 in
set_option maxRecDepth 100000 in
theorem w_X22_fades {l : Launch} {G : Gx} {sh : SM} {g : GM} {gl : LM} {gr : RM} {n : Nat} (hSk : Sk sh gr) (w0 : Nat) (b1 : Nat) (hw_w0 : isWay w0) (hm_b1 : isMl b1) {r : Int32} (h : f_X22_fades g w0 b1 = some r) : MetI l G yX22_fades (ws_ yX22_fades cX22_fades 2 (Option.some Jvm.ClassFile.FieldType.int)) rm_X22_fades [.ref (adr G w0), .ref (adr G b1)] sh g gl gr n (some (.int r)) sh g gl gr n := by
  refine MetI.of (by decide) (Nat.le_of_ble_eq_true rfl) ?_
  intro p e s m below meth c ls hx hb hr hml hown hts hlk hnm hW hK hR hS hl
  have hown : s.vm.findClass RX22 = some m.cls := hown
  have hF : CallFix p m c cX22_fades 2 s ([.ref (adr G w0), .ref (adr G b1)] : List Value).toArray lw_all RX22 := ⟨hx, hb, hml, hown, hts⟩
  have hl : lv_has ls 2 [(0, .ref (adr G w0)), (1, .ref (adr G b1))] := hl
  unfold f_X22_fades at h
  refine lv_aload_n hx hb dX22_fades_0 rfl (lv_at hl 1 rfl) ?_
  refine r_getrN hx hb hts cfX1 hown hK hR (mls_0 hSk hm_b1) 4 (by decide) rfl (mlr_4 hSk hm_b1) (hW.nestF q162) (fun _ h => h) dX22_fades_1 ?_
  refine lv_iconst (v := 1) hx hb dX22_fades_4 ki_1 ?_
  obtain ⟨v2, e1, h⟩ := obd h
  refine r_ldi hx hb hK hR (mls_1 hSk hm_b1) e1 dX22_fades_5 ?_
  obtain rfl := s1i h
  exact r_iret0 hx hb hr hlk hR hS (Nat.zero_le _) (Nat.zero_le _) dX22_fades_6
def rm_X3_takes : Room := { frames := 2, cells := 0, slots := 0, locals := 34 }
theorem hd_X3_takes : yX3_takes.cls = "IntentVats$Wool" ∧ yX3_takes.cls ≠ "java/lang/invoke/MethodHandle" ∧ yX3_takes.cls ≠ "java/lang/invoke/VarHandle" ∧ (parseMethodDescriptor yX3_takes.desc).map (fun d => d.parameters.length) = some 2 := by decide +kernel
theorem he_X3_takes : yX3_takes.cls ≠ "java/lang/invoke/MethodHandle" ∧ yX3_takes.cls ≠ "java/lang/invoke/VarHandle" ∧ (parseMethodDescriptor yX3_takes.desc).map (fun d => d.parameters.length) = some 2 := hd_X3_takes.2
theorem hs_X3_takes : yX3_takes.name ≠ "<init>" ∧ (parseMethodDescriptor yX3_takes.desc).map (fun d => d.parameters.length) = some 2 := by decide +kernel
set_option maxHeartbeats 4000000 in
set_option maxRecDepth 100000 in
theorem w_X3_takes {l : Launch} {G : Gx} {sh : SM} {g : GM} {gl : LM} {gr : RM} {n : Nat} (hSk : Sk sh gr) (w0 : Nat) (b1 : Nat) (a2 : Int32) (hw_w0 : isWay w0) (hm_b1 : isMl b1) {r : Int32} (h : f_X3_takes g w0 b1 a2 = some r) : MetI l G yX3_takes (ws_ yX3_takes cX3_takes 3 (Option.some Jvm.ClassFile.FieldType.int)) rm_X3_takes [.ref (adr G w0), .ref (adr G b1), .int a2] sh g gl gr n (some (.int r)) sh g gl gr n := by
  refine MetI.of (by decide) (Nat.le_of_ble_eq_true rfl) ?_
  intro p e s m below meth c ls hx hb hr hml hown hts hlk hnm hW hK hR hS hl
  have hown : s.vm.findClass RX3 = some m.cls := hown
  have hF : CallFix p m c cX3_takes 3 s ([.ref (adr G w0), .ref (adr G b1), .int a2] : List Value).toArray lw_all RX3 := ⟨hx, hb, hml, hown, hts⟩
  have hl : lv_has ls 3 [(0, .ref (adr G w0)), (1, .ref (adr G b1)), (2, .int a2)] := hl
  unfold f_X3_takes at h
  refine lv_aload_n hx hb dX3_takes_0 rfl (lv_at hl 0 rfl) ?_
  refine lv_aload_n hx hb dX3_takes_1 rfl (lv_at hl 1 rfl) ?_
  refine lv_iload_n hx hb dX3_takes_2 rfl (lv_at hl 2 rfl) ?_
  obtain ⟨r2, e1, h⟩ := obd h
  obtain ⟨ci_e1, q_e1, hc_e1, hs_e1⟩ := way_sh hSk hw_w0
  refine rc_SU0 hc_e1 (rest := []) (st1 := [.int r2]) hF (w_X2_takes hSk w0 b1 a2 hw_w0 hm_b1 e1) (va_cwSU 2 hts (lw_SU q744 q737 q230 q735 q102 q745) rfl rfl rfl hs_X2_takes ⟨Nat.le_of_ble_eq_true rfl, Nat.le_of_ble_eq_true rfl⟩) hs_e1 hK hW hR hS rfl hl.1 rfl (Nat.le_of_ble_eq_true rfl) rfl dX3_takes_3 ⟨rfl, rfl⟩ ⟨Nat.zero_le _, Nat.zero_le _⟩ (fun H locs hR hS => ?_)
  refine lv_iconst (v := 3) hx hb dX3_takes_6 ki_3 ?_
  refine lv_iadd hx hb dX3_takes_7 ?_
  obtain rfl := s1i h
  exact r_iret0 hx hb hr hlk hR hS (Nat.zero_le _) (Nat.zero_le _) dX3_takes_8
def rm_X3_fights : Room := { frames := 2, cells := 0, slots := 0, locals := 34 }
theorem hd_X3_fights : yX3_fights.cls = "IntentVats$Wool" ∧ yX3_fights.cls ≠ "java/lang/invoke/MethodHandle" ∧ yX3_fights.cls ≠ "java/lang/invoke/VarHandle" ∧ (parseMethodDescriptor yX3_fights.desc).map (fun d => d.parameters.length) = some 2 := by decide +kernel
theorem he_X3_fights : yX3_fights.cls ≠ "java/lang/invoke/MethodHandle" ∧ yX3_fights.cls ≠ "java/lang/invoke/VarHandle" ∧ (parseMethodDescriptor yX3_fights.desc).map (fun d => d.parameters.length) = some 2 := hd_X3_fights.2
theorem hs_X3_fights : yX3_fights.name ≠ "<init>" ∧ (parseMethodDescriptor yX3_fights.desc).map (fun d => d.parameters.length) = some 2 := by decide +kernel
set_option maxHeartbeats 4000000 in
set_option maxRecDepth 100000 in
theorem w_X3_fights {l : Launch} {G : Gx} {sh : SM} {g : GM} {gl : LM} {gr : RM} {n : Nat} (hSk : Sk sh gr) (w0 : Nat) (b1 : Nat) (a2 : Int32) (hw_w0 : isWay w0) (hm_b1 : isMl b1) {r : Int32} (h : f_X3_fights g w0 b1 a2 = some r) : MetI l G yX3_fights (ws_ yX3_fights cX3_fights 3 (Option.some Jvm.ClassFile.FieldType.int)) rm_X3_fights [.ref (adr G w0), .ref (adr G b1), .int a2] sh g gl gr n (some (.int r)) sh g gl gr n := by
  refine MetI.of (by decide) (Nat.le_of_ble_eq_true rfl) ?_
  intro p e s m below meth c ls hx hb hr hml hown hts hlk hnm hW hK hR hS hl
  have hown : s.vm.findClass RX3 = some m.cls := hown
  have hF : CallFix p m c cX3_fights 3 s ([.ref (adr G w0), .ref (adr G b1), .int a2] : List Value).toArray lw_all RX3 := ⟨hx, hb, hml, hown, hts⟩
  have hl : lv_has ls 3 [(0, .ref (adr G w0)), (1, .ref (adr G b1)), (2, .int a2)] := hl
  unfold f_X3_fights at h
  refine lv_aload_n hx hb dX3_fights_0 rfl (lv_at hl 0 rfl) ?_
  refine lv_aload_n hx hb dX3_fights_1 rfl (lv_at hl 1 rfl) ?_
  refine lv_iload_n hx hb dX3_fights_2 rfl (lv_at hl 2 rfl) ?_
  obtain ⟨r2, e1, h⟩ := obd h
  obtain ⟨ci_e1, q_e1, hc_e1, hs_e1⟩ := way_sh hSk hw_w0
  refine rc_SU0 hc_e1 (rest := []) (st1 := [.int r2]) hF (w_X2_fights hSk w0 b1 a2 hw_w0 hm_b1 e1) (va_cwSU 2 hts (lw_SU q769 q762 q230 q760 q102 q770) rfl rfl rfl hs_X2_fights ⟨Nat.le_of_ble_eq_true rfl, Nat.le_of_ble_eq_true rfl⟩) hs_e1 hK hW hR hS rfl hl.1 rfl (Nat.le_of_ble_eq_true rfl) rfl dX3_fights_3 ⟨rfl, rfl⟩ ⟨Nat.zero_le _, Nat.zero_le _⟩ (fun H locs hR hS => ?_)
  refine lv_aload_n hx hb dX3_fights_6 rfl (lv_at hl 1 rfl) ?_
  refine r_getrN hx hb hts cfX1 hown hK hR (mls_0 hSk hm_b1) 4 (by decide) rfl (mlr_4 hSk hm_b1) (hW.nestF q166) (fun _ h => h) dX3_fights_7 ?_
  refine lv_iconst (v := 2) hx hb dX3_fights_10 ki_2 ?_
  obtain ⟨v4, e3, h⟩ := obd h
  refine r_ldi hx hb hK hR (mls_1 hSk hm_b1) e3 dX3_fights_11 ?_
  refine lv_isub hx hb dX3_fights_12 ?_
  obtain rfl := s1i h
  exact r_iret0 hx hb hr hlk hR hS (Nat.zero_le _) (Nat.zero_le _) dX3_fights_13
def rm_X3_fades : Room := { frames := 2, cells := 0, slots := 0, locals := 33 }
theorem hd_X3_fades : yX3_fades.cls = "IntentVats$Wool" ∧ yX3_fades.cls ≠ "java/lang/invoke/MethodHandle" ∧ yX3_fades.cls ≠ "java/lang/invoke/VarHandle" ∧ (parseMethodDescriptor yX3_fades.desc).map (fun d => d.parameters.length) = some 1 := by decide +kernel
theorem he_X3_fades : yX3_fades.cls ≠ "java/lang/invoke/MethodHandle" ∧ yX3_fades.cls ≠ "java/lang/invoke/VarHandle" ∧ (parseMethodDescriptor yX3_fades.desc).map (fun d => d.parameters.length) = some 1 := hd_X3_fades.2
theorem hs_X3_fades : yX3_fades.name ≠ "<init>" ∧ (parseMethodDescriptor yX3_fades.desc).map (fun d => d.parameters.length) = some 1 := by decide +kernel
set_option maxHeartbeats 4000000 in
set_option maxRecDepth 100000 in
theorem w_X3_fades {l : Launch} {G : Gx} {sh : SM} {g : GM} {gl : LM} {gr : RM} {n : Nat} (hSk : Sk sh gr) (w0 : Nat) (b1 : Nat) (hw_w0 : isWay w0) (hm_b1 : isMl b1) {r : Int32} (h : f_X3_fades g w0 b1 = some r) : MetI l G yX3_fades (ws_ yX3_fades cX3_fades 2 (Option.some Jvm.ClassFile.FieldType.int)) rm_X3_fades [.ref (adr G w0), .ref (adr G b1)] sh g gl gr n (some (.int r)) sh g gl gr n := by
  refine MetI.of (by decide) (Nat.le_of_ble_eq_true rfl) ?_
  intro p e s m below meth c ls hx hb hr hml hown hts hlk hnm hW hK hR hS hl
  have hown : s.vm.findClass RX3 = some m.cls := hown
  have hF : CallFix p m c cX3_fades 2 s ([.ref (adr G w0), .ref (adr G b1)] : List Value).toArray lw_all RX3 := ⟨hx, hb, hml, hown, hts⟩
  have hl : lv_has ls 2 [(0, .ref (adr G w0)), (1, .ref (adr G b1))] := hl
  unfold f_X3_fades at h
  refine lv_aload_n hx hb dX3_fades_0 rfl (lv_at hl 0 rfl) ?_
  refine lv_aload_n hx hb dX3_fades_1 rfl (lv_at hl 1 rfl) ?_
  obtain ⟨r2, e1, h⟩ := obd h
  refine r_sfades (rest := []) hF (by decide) (w_X22_fades hSk w0 b1 hw_w0 hm_b1 e1) hSk hw_w0 (Nat.le_of_ble_eq_true rfl) (Nat.le_of_ble_eq_true rfl) hK hW hR hS hl.1 (Nat.le_of_ble_eq_true rfl) dX3_fades_2 ⟨Nat.zero_le _, Nat.zero_le _⟩ (fun H locs hR hS => ?_)
  refine lv_iconst (v := 1) hx hb dX3_fades_5 ki_1 ?_
  refine lv_isub hx hb dX3_fades_6 ?_
  obtain rfl := s1i h
  exact r_iret0 hx hb hr hlk hR hS (Nat.zero_le _) (Nat.zero_le _) dX3_fades_7
def rm_X4_takes : Room := { frames := 2, cells := 0, slots := 0, locals := 34 }
theorem hd_X4_takes : yX4_takes.cls = "IntentVats$Linen" ∧ yX4_takes.cls ≠ "java/lang/invoke/MethodHandle" ∧ yX4_takes.cls ≠ "java/lang/invoke/VarHandle" ∧ (parseMethodDescriptor yX4_takes.desc).map (fun d => d.parameters.length) = some 2 := by decide +kernel
theorem he_X4_takes : yX4_takes.cls ≠ "java/lang/invoke/MethodHandle" ∧ yX4_takes.cls ≠ "java/lang/invoke/VarHandle" ∧ (parseMethodDescriptor yX4_takes.desc).map (fun d => d.parameters.length) = some 2 := hd_X4_takes.2
theorem hs_X4_takes : yX4_takes.name ≠ "<init>" ∧ (parseMethodDescriptor yX4_takes.desc).map (fun d => d.parameters.length) = some 2 := by decide +kernel
set_option maxHeartbeats 4000000 in
set_option maxRecDepth 100000 in
theorem w_X4_takes {l : Launch} {G : Gx} {sh : SM} {g : GM} {gl : LM} {gr : RM} {n : Nat} (hSk : Sk sh gr) (w0 : Nat) (b1 : Nat) (a2 : Int32) (hw_w0 : isWay w0) (hm_b1 : isMl b1) {r : Int32} (h : f_X4_takes g w0 b1 a2 = some r) : MetI l G yX4_takes (ws_ yX4_takes cX4_takes 3 (Option.some Jvm.ClassFile.FieldType.int)) rm_X4_takes [.ref (adr G w0), .ref (adr G b1), .int a2] sh g gl gr n (some (.int r)) sh g gl gr n := by
  refine MetI.of (by decide) (Nat.le_of_ble_eq_true rfl) ?_
  intro p e s m below meth c ls hx hb hr hml hown hts hlk hnm hW hK hR hS hl
  have hown : s.vm.findClass RX4 = some m.cls := hown
  have hF : CallFix p m c cX4_takes 3 s ([.ref (adr G w0), .ref (adr G b1), .int a2] : List Value).toArray lw_all RX4 := ⟨hx, hb, hml, hown, hts⟩
  have hl : lv_has ls 3 [(0, .ref (adr G w0)), (1, .ref (adr G b1)), (2, .int a2)] := hl
  unfold f_X4_takes at h
  refine lv_aload_n hx hb dX4_takes_0 rfl (lv_at hl 0 rfl) ?_
  refine lv_aload_n hx hb dX4_takes_1 rfl (lv_at hl 1 rfl) ?_
  refine lv_iload_n hx hb dX4_takes_2 rfl (lv_at hl 2 rfl) ?_
  obtain ⟨r2, e1, h⟩ := obd h
  obtain ⟨ci_e1, q_e1, hc_e1, hs_e1⟩ := way_sh hSk hw_w0
  refine rc_SU0 hc_e1 (rest := []) (st1 := [.int r2]) hF (w_X2_takes hSk w0 b1 a2 hw_w0 hm_b1 e1) (va_cwSU 2 hts (lw_SU q749 q737 q237 q735 q102 q745) rfl rfl rfl hs_X2_takes ⟨Nat.le_of_ble_eq_true rfl, Nat.le_of_ble_eq_true rfl⟩) hs_e1 hK hW hR hS rfl hl.1 rfl (Nat.le_of_ble_eq_true rfl) rfl dX4_takes_3 ⟨rfl, rfl⟩ ⟨Nat.zero_le _, Nat.zero_le _⟩ (fun H locs hR hS => ?_)
  refine lv_aload_n hx hb dX4_takes_6 rfl (lv_at hl 1 rfl) ?_
  refine r_getrN hx hb hts cfX1 hown hK hR (mls_0 hSk hm_b1) 4 (by decide) rfl (mlr_4 hSk hm_b1) (hW.nestF q164) (fun _ h => h) dX4_takes_7 ?_
  refine lv_iconst (v := 1) hx hb dX4_takes_10 ki_1 ?_
  obtain ⟨v4, e3, h⟩ := obd h
  refine r_ldi hx hb hK hR (mls_1 hSk hm_b1) e3 dX4_takes_11 ?_
  refine lv_isub hx hb dX4_takes_12 ?_
  obtain rfl := s1i h
  exact r_iret0 hx hb hr hlk hR hS (Nat.zero_le _) (Nat.zero_le _) dX4_takes_13
def rm_X4_fights : Room := { frames := 2, cells := 0, slots := 0, locals := 34 }
theorem hd_X4_fights : yX4_fights.cls = "IntentVats$Linen" ∧ yX4_fights.cls ≠ "java/lang/invoke/MethodHandle" ∧ yX4_fights.cls ≠ "java/lang/invoke/VarHandle" ∧ (parseMethodDescriptor yX4_fights.desc).map (fun d => d.parameters.length) = some 2 := by decide +kernel
theorem he_X4_fights : yX4_fights.cls ≠ "java/lang/invoke/MethodHandle" ∧ yX4_fights.cls ≠ "java/lang/invoke/VarHandle" ∧ (parseMethodDescriptor yX4_fights.desc).map (fun d => d.parameters.length) = some 2 := hd_X4_fights.2
theorem hs_X4_fights : yX4_fights.name ≠ "<init>" ∧ (parseMethodDescriptor yX4_fights.desc).map (fun d => d.parameters.length) = some 2 := by decide +kernel
set_option maxHeartbeats 4000000 in
set_option maxRecDepth 100000 in
theorem w_X4_fights {l : Launch} {G : Gx} {sh : SM} {g : GM} {gl : LM} {gr : RM} {n : Nat} (hSk : Sk sh gr) (w0 : Nat) (b1 : Nat) (a2 : Int32) (hw_w0 : isWay w0) (hm_b1 : isMl b1) {r : Int32} (h : f_X4_fights g w0 b1 a2 = some r) : MetI l G yX4_fights (ws_ yX4_fights cX4_fights 3 (Option.some Jvm.ClassFile.FieldType.int)) rm_X4_fights [.ref (adr G w0), .ref (adr G b1), .int a2] sh g gl gr n (some (.int r)) sh g gl gr n := by
  refine MetI.of (by decide) (Nat.le_of_ble_eq_true rfl) ?_
  intro p e s m below meth c ls hx hb hr hml hown hts hlk hnm hW hK hR hS hl
  have hown : s.vm.findClass RX4 = some m.cls := hown
  have hF : CallFix p m c cX4_fights 3 s ([.ref (adr G w0), .ref (adr G b1), .int a2] : List Value).toArray lw_all RX4 := ⟨hx, hb, hml, hown, hts⟩
  have hl : lv_has ls 3 [(0, .ref (adr G w0)), (1, .ref (adr G b1)), (2, .int a2)] := hl
  unfold f_X4_fights at h
  refine lv_aload_n hx hb dX4_fights_0 rfl (lv_at hl 0 rfl) ?_
  refine lv_aload_n hx hb dX4_fights_1 rfl (lv_at hl 1 rfl) ?_
  refine lv_iload_n hx hb dX4_fights_2 rfl (lv_at hl 2 rfl) ?_
  obtain ⟨r2, e1, h⟩ := obd h
  obtain ⟨ci_e1, q_e1, hc_e1, hs_e1⟩ := way_sh hSk hw_w0
  refine rc_SU0 hc_e1 (rest := []) (st1 := [.int r2]) hF (w_X2_fights hSk w0 b1 a2 hw_w0 hm_b1 e1) (va_cwSU 2 hts (lw_SU q774 q762 q237 q760 q102 q770) rfl rfl rfl hs_X2_fights ⟨Nat.le_of_ble_eq_true rfl, Nat.le_of_ble_eq_true rfl⟩) hs_e1 hK hW hR hS rfl hl.1 rfl (Nat.le_of_ble_eq_true rfl) rfl dX4_fights_3 ⟨rfl, rfl⟩ ⟨Nat.zero_le _, Nat.zero_le _⟩ (fun H locs hR hS => ?_)
  refine lv_aload_n hx hb dX4_fights_6 rfl (lv_at hl 1 rfl) ?_
  refine r_getrN hx hb hts cfX1 hown hK hR (mls_0 hSk hm_b1) 4 (by decide) rfl (mlr_4 hSk hm_b1) (hW.nestF q164) (fun _ h => h) dX4_fights_7 ?_
  refine lv_iconst (v := 2) hx hb dX4_fights_10 ki_2 ?_
  obtain ⟨v4, e3, h⟩ := obd h
  refine r_ldi hx hb hK hR (mls_1 hSk hm_b1) e3 dX4_fights_11 ?_
  refine lv_iadd hx hb dX4_fights_12 ?_
  obtain rfl := s1i h
  exact r_iret0 hx hb hr hlk hR hS (Nat.zero_le _) (Nat.zero_le _) dX4_fights_13
def rm_X4_fades : Room := { frames := 2, cells := 0, slots := 0, locals := 33 }
theorem hd_X4_fades : yX4_fades.cls = "IntentVats$Linen" ∧ yX4_fades.cls ≠ "java/lang/invoke/MethodHandle" ∧ yX4_fades.cls ≠ "java/lang/invoke/VarHandle" ∧ (parseMethodDescriptor yX4_fades.desc).map (fun d => d.parameters.length) = some 1 := by decide +kernel
theorem he_X4_fades : yX4_fades.cls ≠ "java/lang/invoke/MethodHandle" ∧ yX4_fades.cls ≠ "java/lang/invoke/VarHandle" ∧ (parseMethodDescriptor yX4_fades.desc).map (fun d => d.parameters.length) = some 1 := hd_X4_fades.2
theorem hs_X4_fades : yX4_fades.name ≠ "<init>" ∧ (parseMethodDescriptor yX4_fades.desc).map (fun d => d.parameters.length) = some 1 := by decide +kernel
set_option maxHeartbeats 4000000 in
set_option maxRecDepth 100000 in
theorem w_X4_fades {l : Launch} {G : Gx} {sh : SM} {g : GM} {gl : LM} {gr : RM} {n : Nat} (hSk : Sk sh gr) (w0 : Nat) (b1 : Nat) (hw_w0 : isWay w0) (hm_b1 : isMl b1) {r : Int32} (h : f_X4_fades g w0 b1 = some r) : MetI l G yX4_fades (ws_ yX4_fades cX4_fades 2 (Option.some Jvm.ClassFile.FieldType.int)) rm_X4_fades [.ref (adr G w0), .ref (adr G b1)] sh g gl gr n (some (.int r)) sh g gl gr n := by
  refine MetI.of (by decide) (Nat.le_of_ble_eq_true rfl) ?_
  intro p e s m below meth c ls hx hb hr hml hown hts hlk hnm hW hK hR hS hl
  have hown : s.vm.findClass RX4 = some m.cls := hown
  have hF : CallFix p m c cX4_fades 2 s ([.ref (adr G w0), .ref (adr G b1)] : List Value).toArray lw_all RX4 := ⟨hx, hb, hml, hown, hts⟩
  have hl : lv_has ls 2 [(0, .ref (adr G w0)), (1, .ref (adr G b1))] := hl
  unfold f_X4_fades at h
  refine lv_aload_n hx hb dX4_fades_0 rfl (lv_at hl 0 rfl) ?_
  refine lv_aload_n hx hb dX4_fades_1 rfl (lv_at hl 1 rfl) ?_
  obtain ⟨r2, e1, h⟩ := obd h
  refine r_sfades (rest := []) hF (by decide) (w_X22_fades hSk w0 b1 hw_w0 hm_b1 e1) hSk hw_w0 (Nat.le_of_ble_eq_true rfl) (Nat.le_of_ble_eq_true rfl) hK hW hR hS hl.1 (Nat.le_of_ble_eq_true rfl) dX4_fades_2 ⟨Nat.zero_le _, Nat.zero_le _⟩ (fun H locs hR hS => ?_)
  refine lv_iconst (v := 1) hx hb dX4_fades_5 ki_1 ?_
  refine lv_iadd hx hb dX4_fades_6 ?_
  obtain rfl := s1i h
  exact r_iret0 hx hb hr hlk hR hS (Nat.zero_le _) (Nat.zero_le _) dX4_fades_7
