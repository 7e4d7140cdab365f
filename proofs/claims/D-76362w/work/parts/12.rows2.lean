/-! ROWS: lengths, arrays of references, calls, ends -/
section MC
variable {p : Program} {l : Launch} {e : Env} {R : Room} {s : State} {m : MethodId} {args : Array Value} {below : List Frame} {meth : Method} {c : Code} {H : Heap} {locs : List Loc} {cells slots : Nat} {Q : State → Prop}
variable {cc : ByteArray} {pc : Nat} {ls : Array Slot} {rest st0 : List Value} {G : Gx} {sh : SM} {g : GM} {gl : LM} {gr : RM} {n : Nat} {a : Nat}
theorem vp_cell_arr (cA : ClassId) (x : vp_A) : ∃ z : Nat → Value, vp_cell cA x = arrV cA x.1 z := by
  obtain ⟨n, f | f | f | f | f⟩ := x
  · exact ⟨_, vp_cell_i cA n f⟩
  · exact ⟨_, vp_cell_l cA n f⟩
  · exact ⟨_, vp_cell_f cA n f⟩
  · exact ⟨_, vp_cell_d cA n f⟩
  · exact ⟨_, vp_cell_q cA n f⟩
theorem r_alen (hx : p.tables.exec = Jvm.exec) (hb : c.code = cc) (hK : va_K G.1 cl0 (tys0 G) s) (hR : Rep G sh g gl gr n H) {k L : Nat} (hs : sh a = (k, L)) (h0 : k ≠ 0) (h20 : k < 20) (t0 : Nat) {ty : FieldType} (ht : (tys0 G)[t0]? = some (G.2.1 k, ty)) (hdg : decode cc pc = .ok (.arraylength, 1))
    (kk : W p l e R s m args below meth c H locs cells slots Q (F0 m (pc + 1) ls (.int (nI L) :: rest))) : W p l e R s m args below meth c H locs cells slots Q (F0 m pc ls (.ref (adr G a) :: rest)) := by
  have hA := hR.arr hs h0 h20
  obtain ⟨z, hz⟩ := vp_cell_arr (G.2.1 k) (L, pay G k (g a) (gl a) (gr a))
  rw [hz] at hA
  exact W.alen (n := nI L) hx hb hA ((hK.2 t0 _ ht).1 L z) (by rw [arrV_size]; rfl) rfl rfl hdg kk
theorem pay_q (k : Nat) (h5 : 5 ≤ k) (f : Nat → Int32) (fl : Nat → Int64) (fr : Nat → Option Nat) : pay G k f fl fr = .inr (.inr (.inr (.inr fun j => (fr j).map (adr G)))) := by
  unfold pay
  rw [if_neg (by omega), if_pos h5]
theorem r_ldo (hx : p.tables.exec = Jvm.exec) (hb : c.code = cc) (hK : va_K G.1 cl0 (tys0 G) s) (hR : Rep G sh g gl gr n H) {k L : Nat} (hs : sh a = (k, L)) (h5 : 5 ≤ k) (h20 : k < 20) (t0 : Nat) {C : String} (ht : (tys0 G)[t0]? = some (G.2.1 k, .object C)) {i : Int32} {v : Option Nat} (h : ldR gr a L i = some v) (hdg : decode cc pc = .ok (.aaload, 1))
    (kk : W p l e R s m args below meth c H locs cells slots Q (F0 m (pc + 1) ls (va_rf (v.map (adr G)) :: rest))) : W p l e R s m args below meth c H locs cells slots Q (F0 m pc ls (.int i :: .ref (adr G a) :: rest)) := by
  obtain ⟨hin, rfl⟩ := ldR_s h
  have hlt : i.toNatClampNeg < L := Nat.not_le.mp fun q => hin (Or.inr q)
  have hA := hR.arr hs (by omega) h20
  rw [pay_q k h5] at hA
  exact W.aald (v := va_rf ((gr a i.toNatClampNeg).map (adr G))) (ty := .object C) hx hb hA ((hK.2 t0 _ ht).1 L (fun j => va_rf ((gr a j).map (adr G)))) rfl (fun q => by cases q) (by show ¬ (i < 0 ∨ (arrV _ _ _).slots.size ≤ _); rw [arrV_size]; exact hin) (by show (arrV _ _ _).slots[_]? = _; rw [arrV_read _ _ hlt]) rfl rfl hdg kk
/-- a place of an array of references whose cells are known -/
theorem r_ldr (hx : p.tables.exec = Jvm.exec) (hb : c.code = cc) (hK : va_K G.1 cl0 (tys0 G) s) (hR : Rep G sh g gl gr n H) {k L : Nat} (hs : sh a = (k, L)) (h5 : 5 ≤ k) (h20 : k < 20) (t0 : Nat) {C : String} (ht : (tys0 G)[t0]? = some (G.2.1 k, .object C)) {i : Int32} {j b : Nat} (h : chk L i = some j) (hb2 : gr a j = some b) (hdg : decode cc pc = .ok (.aaload, 1))
    (kk : W p l e R s m args below meth c H locs cells slots Q (F0 m (pc + 1) ls (.ref (adr G b) :: rest))) : W p l e R s m args below meth c H locs cells slots Q (F0 m pc ls (.int i :: .ref (adr G a) :: rest)) := by
  obtain ⟨hin, rfl, hlt⟩ := chk_s h
  refine r_ldo hx hb hK hR hs h5 h20 t0 ht (v := some b) ?_ hdg kk
  unfold ldR
  rw [if_neg hin, hb2]
/-! calls -/
theorem rc_run {v : Option Value} {sh1 : SM} {g1 : GM} {gl1 : LM} {gr1 : RM} {n1 mc ms : Nat} {a0 : Array Value} (hr : va_Run p l e R s m args below meth c H locs cells slots mc ms (F0 m pc ls st0) rest (QR G v sh1 g1 gl1 gr1 n1 a0) (own G)) (hS : va_S (own G) s.heap H locs)
    (kk : ∀ (H1 : Heap) (locs1 : List Loc), Rep G sh1 g1 gl1 gr1 n1 H1 → va_S (own G) s.heap H1 locs1 → W p l e R s m args below meth c H1 locs1 (cells + mc) (slots + ms) Q (F0 m (pc + 3) ls (v.toList ++ rest))) : W p l e R s m args below meth c H locs cells slots Q (F0 m pc ls st0) := by
  intro T hT X
  obtain ⟨v', st₀, t, T', L, h0, X', hL, e1, e2, ⟨hv, hRt, hz, hk⟩, st⟩ := hr T hT X
  cases hv
  rw [h0] at hz hk
  obtain ⟨t2, a1, b1⟩ := kk T'.heap (locs ++ L) (by rw [e1]; exact hRt)
    ⟨Nat.le_trans hS.1 (by rw [e1]; exact hz), fun q h1 h2 => by rw [e1, hk q (Nat.lt_of_lt_of_le h1 hS.1) h2]; exact hS.2.1 q h1 h2, fun q hq => by
      rcases List.mem_append.mp hq with h | h
      · exact hS.2.2 q h
      · exact hL q h⟩ T' rfl X'
  exact ⟨t2, st t2 a1, b1⟩
theorem rc_recv {ci N L : Nat} {C : String} {T : u_T} {ty : Nat → FieldType} (hC : ClF ci C T N ty) (hK : va_K G.1 cl0 (tys0 G) s) (hR : Rep G sh g gl gr n H) (hs : sh a = (20 + ci, L)) : ∃ cellB : Cell, H[adr G a]? = some cellB ∧ cellB.vm.isStatics = false ∧ s.vm.findClass C = some cellB.cls := by
  obtain ⟨r, h1, cell, q1, q2, q3, q4⟩ := hR.obj hs
  have hr : r = (C, T, N) := Option.some.inj (h1.symm.trans hC.2.1)
  subst hr
  exact ⟨cell, q1, by rw [q3]; rfl, by rw [q2]; exact (hK.1 ci _ hC.2.1).2.1⟩
variable {v : Option Value} {sh1 : SM} {g1 : GM} {gl1 : LM} {gr1 : RM} {n1 nL k maxL index : Nat} {y : MethodName} {bytes : ByteArray} {ret : Option FieldType} {rm : Room} {As : List Value} {own0 C : String}
/-- a method of this object's class -/
theorem rc_V {ci N L : Nat} {T : u_T} {ty : Nat → FieldType} (S : CallFix p m c cc nL s args lw_all own0) (hM : MetI l G y (ws_ y bytes maxL ret) rm (.ref (adr G a) :: As) sh g gl gr n v sh1 g1 gl1 gr1 n1) (cw : CallW R s args own0 C index y bytes maxL ret (ws_ y bytes maxL ret) rm rm.cells rm.slots k)
    (hC : ClF ci C T N ty) (hs : sh a = (20 + ci, L)) (hK : va_K G.1 cl0 (tys0 G) s) (hW : Wld G s) (hR : Rep G sh g gl gr n H) (hS : va_S (own G) s.heap H locs) (hn : As.length = k) (hz : ls.size = nL) (hst : st0 = As.reverse ++ .ref (adr G a) :: rest) (hrm : (rest.map fun v => v.category).sum ≤ 8) (hdg : decode cc pc = .ok (.invokevirtual index, 3)) (hf : cells + rm.cells ≤ R.cells ∧ slots + rm.slots ≤ R.slots)
    (kk : ∀ (H1 : Heap) (locs1 : List Loc), Rep G sh1 g1 gl1 gr1 n1 H1 → va_S (own G) s.heap H1 locs1 → W p l e R s m args below meth c H1 locs1 (cells + rm.cells) (slots + rm.slots) Q (F0 m (pc + 3) ls (v.toList ++ rest))) : W p l e R s m args below meth c H locs cells slots Q (F0 m pc ls st0) :=
  rc_run (va_runV (g := F0 m pc ls st0) S hM cw ⟨blindI, rc_recv hC hK hR hs, fun U hU hWm => ⟨rfl, hW.warm hWm, by rw [hU]; exact hR⟩⟩ rfl hn hz hst (lv_room hrm) hdg hf) hS kk
/-- a private method of a nest mate -/
theorem rc_VN {host : String} {ci N L : Nat} {T : u_T} {ty : Nat → FieldType} (S : CallFix p m c cc nL s args lw_all own0) (hM : MetI l G y (ws_ y bytes maxL ret) rm (.ref (adr G a) :: As) sh g gl gr n v sh1 g1 gl1 gr1 n1) (cw : va_CN R s args own0 index y host bytes maxL ret (ws_ y bytes maxL ret) rm rm.cells rm.slots k ∧ (Cond.instanceMethod y).before args s = true ∧ (Cond.selects C y y).before args s = true)
    (hC : ClF ci C T N ty) (hs : sh a = (20 + ci, L)) (hK : va_K G.1 cl0 (tys0 G) s) (hW : Wld G s) (hR : Rep G sh g gl gr n H) (hS : va_S (own G) s.heap H locs) (hn : As.length = k) (hz : ls.size = nL) (hst : st0 = As.reverse ++ .ref (adr G a) :: rest) (hrm : (rest.map fun v => v.category).sum ≤ 8) (hdg : decode cc pc = .ok (.invokevirtual index, 3)) (hf : cells + rm.cells ≤ R.cells ∧ slots + rm.slots ≤ R.slots)
    (kk : ∀ (H1 : Heap) (locs1 : List Loc), Rep G sh1 g1 gl1 gr1 n1 H1 → va_S (own G) s.heap H1 locs1 → W p l e R s m args below meth c H1 locs1 (cells + rm.cells) (slots + rm.slots) Q (F0 m (pc + 3) ls (v.toList ++ rest))) : W p l e R s m args below meth c H locs cells slots Q (F0 m pc ls st0) :=
  rc_run (va_runVN (g := F0 m pc ls st0) S hM cw ⟨blindI, rc_recv hC hK hR hs, fun U hU hWm => ⟨rfl, hW.warm hWm, by rw [hU]; exact hR⟩⟩ rfl hn hz hst (lv_room hrm) hdg hf) hS kk
theorem rc_S (S : CallFix p m c cc nL s args lw_all own0) (hM : MetI l G y (ws_ y bytes maxL ret) rm As sh g gl gr n v sh1 g1 gl1 gr1 n1) (cw : CallB R s args own0 index y bytes maxL ret (ws_ y bytes maxL ret) rm rm.cells rm.slots k ∧ (Cond.static y).before args s = true)
    (hW : Wld G s) (hR : Rep G sh g gl gr n H) (hS : va_S (own G) s.heap H locs) (hn : As.length = k) (hz : ls.size = nL) (hst : st0 = As.reverse ++ rest) (hrm : (rest.map fun v => v.category).sum ≤ 8) (hdg : decode cc pc = .ok (.invokestatic index, 3)) (hf : cells + rm.cells ≤ R.cells ∧ slots + rm.slots ≤ R.slots)
    (kk : ∀ (H1 : Heap) (locs1 : List Loc), Rep G sh1 g1 gl1 gr1 n1 H1 → va_S (own G) s.heap H1 locs1 → W p l e R s m args below meth c H1 locs1 (cells + rm.cells) (slots + rm.slots) Q (F0 m (pc + 3) ls (v.toList ++ rest))) : W p l e R s m args below meth c H locs cells slots Q (F0 m pc ls st0) :=
  rc_run (va_runS (g := F0 m pc ls st0) S hM cw ⟨blindI, fun U hU hWm => ⟨rfl, hW.warm hWm, by rw [hU]; exact hR⟩⟩ rfl hn hz hst (lv_room hrm) hdg hf) hS kk
theorem rc_SN {host : String} (S : CallFix p m c cc nL s args lw_all own0) (hM : MetI l G y (ws_ y bytes maxL ret) rm As sh g gl gr n v sh1 g1 gl1 gr1 n1) (cw : va_CN R s args own0 index y host bytes maxL ret (ws_ y bytes maxL ret) rm rm.cells rm.slots k ∧ (Cond.static y).before args s = true ∧ True)
    (hW : Wld G s) (hR : Rep G sh g gl gr n H) (hS : va_S (own G) s.heap H locs) (hn : As.length = k) (hz : ls.size = nL) (hst : st0 = As.reverse ++ rest) (hrm : (rest.map fun v => v.category).sum ≤ 8) (hdg : decode cc pc = .ok (.invokestatic index, 3)) (hf : cells + rm.cells ≤ R.cells ∧ slots + rm.slots ≤ R.slots)
    (kk : ∀ (H1 : Heap) (locs1 : List Loc), Rep G sh1 g1 gl1 gr1 n1 H1 → va_S (own G) s.heap H1 locs1 → W p l e R s m args below meth c H1 locs1 (cells + rm.cells) (slots + rm.slots) Q (F0 m (pc + 3) ls (v.toList ++ rest))) : W p l e R s m args below meth c H locs cells slots Q (F0 m pc ls st0) :=
  rc_run (va_runSN (g := F0 m pc ls st0) S hM cw ⟨blindI, fun U hU hWm => ⟨rfl, hW.warm hWm, by rw [hU]; exact hR⟩⟩ rfl hn hz hst (lv_room hrm) hdg hf) hS kk
theorem Wld.nestM {a0 : String} {i : Nat} {x : MethodName} {h : String} {s : State} (hW : Wld G s) (hw : Cond.methodLinkNest a0 i x h ∈ lw_tbl) : va_Nw (.methodLinkNest a0 i x h) s := by
  obtain ⟨⟨av, ht, -⟩, hv⟩ := hW
  exact va_Nw.warmM hv (va_Nw.of rfl (ht _ hw))
theorem Wld.nestF {a0 : String} {i : Nat} {b n0 d h : String} {s : State} {args : Array Value} (hW : Wld G s) (hw : Cond.fieldLinkNest a0 i b n0 d h ∈ lw_tbl) : (Cond.fieldLinkNest a0 i b n0 d h).before args s = true := by
  obtain ⟨⟨av, ht, -⟩, hv⟩ := hW
  exact va_Nw.use rfl (va_Nw.warmF hv (va_Nw.of rfl (ht _ hw)))
/-! ends -/
variable {kc ks : Nat}
theorem r_iret0 (hx : p.tables.exec = Jvm.exec) (hb : c.code = cc) (hr : meth.sig.returnType = some .int) (hlk : meth.locks = false) (hR : Rep G sh g gl gr n H) (hS : va_S (own G) s.heap H locs) (hc : cells ≤ kc) (hs : slots ≤ ks) {v : Int32} (hdg : decode cc pc = .ok (.ireturn, 1)) : W p l e R s m args below meth c H locs cells slots (MQ below (QR G (some (.int v)) sh g gl gr n) args s kc ks (own G)) (F0 m pc ls [.int v]) := by
  refine W.widen (k := kc) (n := ks) hc hs ?_
  exact W.iret hx hb hr (fun t ht _ => ⟨rfl, by rw [ht]; exact hR, hS.F ht⟩) hS.2.2 hdg hlk
theorem r_zret0 (hx : p.tables.exec = Jvm.exec) (hb : c.code = cc) {ty : FieldType} (hr : meth.sig.returnType = some ty) (hlk : meth.locks = false) (hR : Rep G sh g gl gr n H) (hS : va_S (own G) s.heap H locs) (hc : cells ≤ kc) (hs : slots ≤ ks) {v : Int32} (hn : narrow ty (.int v) = .int v) (hdg : decode cc pc = .ok (.ireturn, 1)) : W p l e R s m args below meth c H locs cells slots (MQ below (QR G (some (.int v)) sh g gl gr n) args s kc ks (own G)) (F0 m pc ls [.int v]) := by
  refine W.widen (k := kc) (n := ks) hc hs ?_
  exact W.zret hx hb hr hn (fun t ht _ => ⟨rfl, by rw [ht]; exact hR, hS.F ht⟩) hS.2.2 hdg hlk
theorem r_vret0 (hx : p.tables.exec = Jvm.exec) (hb : c.code = cc) (hr : meth.sig.returnType = none) (hlk : meth.locks = false) (hR : Rep G sh g gl gr n H) (hS : va_S (own G) s.heap H locs) (hc : cells ≤ kc) (hs : slots ≤ ks) (hdg : decode cc pc = .ok (.return_, 1)) : W p l e R s m args below meth c H locs cells slots (MQ below (QR G none sh g gl gr n) args s kc ks (own G)) (F0 m pc ls []) := by
  refine W.widen (k := kc) (n := ks) hc hs ?_
  exact W.vret hx hb hr (fun t ht _ => ⟨rfl, by rw [ht]; exact hR, hS.F ht⟩) hS.2.2 hdg hlk
theorem r_aret0 (hx : p.tables.exec = Jvm.exec) (hb : c.code = cc) {rt : FieldType} (hr : meth.sig.returnType = some rt) (hrt : (∃ n, rt = .object n) ∨ ∃ t, rt = .array t) (hlk : meth.locks = false) (hR : Rep G sh g gl gr n H) (hS : va_S (own G) s.heap H locs) (hc : cells ≤ kc) (hs : slots ≤ ks) {v : Option Nat} (hdg : decode cc pc = .ok (.areturn, 1)) : W p l e R s m args below meth c H locs cells slots (MQ below (QR G (some (va_rf v)) sh g gl gr n) args s kc ks (own G)) (F0 m pc ls [va_rf v]) := by
  refine W.widen (k := kc) (n := ks) hc hs ?_
  exact W.aret hx hb hr hrt (by cases v; exact Or.inl rfl; exact Or.inr ⟨_, rfl⟩) (fun t ht _ => ⟨rfl, by rw [ht]; exact hR, hS.F ht⟩) hS.2.2 hdg hlk
theorem r_lret0 (hx : p.tables.exec = Jvm.exec) (hb : c.code = cc) (hr : meth.sig.returnType = some .long) (hlk : meth.locks = false) (hR : Rep G sh g gl gr n H) (hS : va_S (own G) s.heap H locs) (hc : cells ≤ kc) (hs : slots ≤ ks) {v : Int64} (hdg : decode cc pc = .ok (.lreturn, 1)) : W p l e R s m args below meth c H locs cells slots (MQ below (QR G (some (.long v)) sh g gl gr n) args s kc ks (own G)) (F0 m pc ls [.long v]) := by
  refine W.widen (k := kc) (n := ks) hc hs ?_
  exact W.lret hx hb hr (fun t ht _ => ⟨rfl, by rw [ht]; exact hR, hS.F ht⟩) hS.2.2 hdg hlk
theorem nb01 {v : Int32} (h : v = 0 ∨ v = 1) : narrow .boolean (.int v) = .int v := by
  rcases h with rfl | rfl <;> decide
theorem fb01 {v : Int32} (h : v = 0 ∨ v = 1) : fits .boolean (.int v) = true := by
  rcases h with rfl | rfl <;> decide
theorem ne32 {x y : Int32} (h : ¬ x = y) {z : Int} (hz : y.toInt = z) : x.toInt ≠ z := fun e => h (Int32.toInt_inj.mp (e.trans hz.symm))
end MC
