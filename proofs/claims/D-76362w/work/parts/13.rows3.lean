/-! ROWS: calls of methods that make nothing -/
def imax (x y : Int32) : Int32 := if x < y then y else x
def imin (x y : Int32) : Int32 := if y < x then y else x
def iabs (x : Int32) : Int32 := if 0 ≤ x then x else 0 - x
def labs (x : Int64) : Int64 := if 0 < x then x else -x
theorem s1i {α : Type} {a b : α} (h : some a = some b) : a = b := Option.some.inj h
theorem s2i {α β : Type} {a c : α} {b d : β} (h : some (a, b) = some (c, d)) : a = c ∧ b = d := ⟨congrArg Prod.fst (Option.some.inj h), congrArg Prod.snd (Option.some.inj h)⟩
theorem s3i {α β γ : Type} {a c : α} {b d : β} {x y : γ} (h : some (a, b, x) = some (c, d, y)) : a = c ∧ b = d ∧ x = y := ⟨(s2i h).1, s2i (congrArg some (s2i h).2)⟩
section MC3
variable {p : Program} {l : Launch} {e : Env} {R : Room} {s : State} {m : MethodId} {args : Array Value} {below : List Frame} {meth : Method} {c : Code} {H : Heap} {locs : List Loc} {cells slots : Nat} {Q : State → Prop}
variable {cc : ByteArray} {pc : Nat} {ls : Array Slot} {rest st0 st1 : List Value} {G : Gx} {sh : SM} {g : GM} {gl : LM} {gr : RM} {n : Nat} {a : Nat}
variable {v : Option Value} {sh1 : SM} {g1 : GM} {gl1 : LM} {gr1 : RM} {n1 nL k maxL index : Nat} {y : MethodName} {bytes : ByteArray} {ret : Option FieldType} {rm : Room} {As : List Value} {own0 C : String}
theorem rc_V0 {ci N L : Nat} {T : u_T} {ty : Nat → FieldType} (S : CallFix p m c cc nL s args lw_all own0) (hM : MetI l G y (ws_ y bytes maxL ret) rm (.ref (adr G a) :: As) sh g gl gr n v sh1 g1 gl1 gr1 n1) (cw : CallW R s args own0 C index y bytes maxL ret (ws_ y bytes maxL ret) rm rm.cells rm.slots k)
    (hC : ClF ci C T N ty) (hs : sh a = (20 + ci, L)) (hK : va_K G.1 cl0 (tys0 G) s) (hW : Wld G s) (hR : Rep G sh g gl gr n H) (hS : va_S (own G) s.heap H locs) (hn : As.length = k) (hz : ls.size = nL) (hst : st0 = As.reverse ++ .ref (adr G a) :: rest) (hrm : (rest.map fun v => v.category).sum ≤ 8) (h1 : v.toList ++ rest = st1) (hdg : decode cc pc = .ok (.invokevirtual index, 3)) (h0 : rm.cells = 0 ∧ rm.slots = 0) (hf : cells ≤ R.cells ∧ slots ≤ R.slots)
    (kk : ∀ (H1 : Heap) (locs1 : List Loc), Rep G sh1 g1 gl1 gr1 n1 H1 → va_S (own G) s.heap H1 locs1 → W p l e R s m args below meth c H1 locs1 cells slots Q (F0 m (pc + 3) ls st1)) : W p l e R s m args below meth c H locs cells slots Q (F0 m pc ls st0) :=
  rc_V S hM cw hC hs hK hW hR hS hn hz hst hrm hdg (by rw [h0.1, h0.2]; exact hf) (by rw [h0.1, h0.2, h1]; exact kk)
theorem rc_VN0 {host : String} {ci N L : Nat} {T : u_T} {ty : Nat → FieldType} (S : CallFix p m c cc nL s args lw_all own0) (hM : MetI l G y (ws_ y bytes maxL ret) rm (.ref (adr G a) :: As) sh g gl gr n v sh1 g1 gl1 gr1 n1) (cw : va_CN R s args own0 index y host bytes maxL ret (ws_ y bytes maxL ret) rm rm.cells rm.slots k ∧ (Cond.instanceMethod y).before args s = true ∧ (Cond.selects C y y).before args s = true)
    (hC : ClF ci C T N ty) (hs : sh a = (20 + ci, L)) (hK : va_K G.1 cl0 (tys0 G) s) (hW : Wld G s) (hR : Rep G sh g gl gr n H) (hS : va_S (own G) s.heap H locs) (hn : As.length = k) (hz : ls.size = nL) (hst : st0 = As.reverse ++ .ref (adr G a) :: rest) (hrm : (rest.map fun v => v.category).sum ≤ 8) (h1 : v.toList ++ rest = st1) (hdg : decode cc pc = .ok (.invokevirtual index, 3)) (h0 : rm.cells = 0 ∧ rm.slots = 0) (hf : cells ≤ R.cells ∧ slots ≤ R.slots)
    (kk : ∀ (H1 : Heap) (locs1 : List Loc), Rep G sh1 g1 gl1 gr1 n1 H1 → va_S (own G) s.heap H1 locs1 → W p l e R s m args below meth c H1 locs1 cells slots Q (F0 m (pc + 3) ls st1)) : W p l e R s m args below meth c H locs cells slots Q (F0 m pc ls st0) :=
  rc_VN S hM cw hC hs hK hW hR hS hn hz hst hrm hdg (by rw [h0.1, h0.2]; exact hf) (by rw [h0.1, h0.2, h1]; exact kk)
theorem rc_S0 (S : CallFix p m c cc nL s args lw_all own0) (hM : MetI l G y (ws_ y bytes maxL ret) rm As sh g gl gr n v sh1 g1 gl1 gr1 n1) (cw : CallB R s args own0 index y bytes maxL ret (ws_ y bytes maxL ret) rm rm.cells rm.slots k ∧ (Cond.static y).before args s = true)
    (hW : Wld G s) (hR : Rep G sh g gl gr n H) (hS : va_S (own G) s.heap H locs) (hn : As.length = k) (hz : ls.size = nL) (hst : st0 = As.reverse ++ rest) (hrm : (rest.map fun v => v.category).sum ≤ 8) (h1 : v.toList ++ rest = st1) (hdg : decode cc pc = .ok (.invokestatic index, 3)) (h0 : rm.cells = 0 ∧ rm.slots = 0) (hf : cells ≤ R.cells ∧ slots ≤ R.slots)
    (kk : ∀ (H1 : Heap) (locs1 : List Loc), Rep G sh1 g1 gl1 gr1 n1 H1 → va_S (own G) s.heap H1 locs1 → W p l e R s m args below meth c H1 locs1 cells slots Q (F0 m (pc + 3) ls st1)) : W p l e R s m args below meth c H locs cells slots Q (F0 m pc ls st0) :=
  rc_S S hM cw hW hR hS hn hz hst hrm hdg (by rw [h0.1, h0.2]; exact hf) (by rw [h0.1, h0.2, h1]; exact kk)
theorem rc_SN0 {host : String} (S : CallFix p m c cc nL s args lw_all own0) (hM : MetI l G y (ws_ y bytes maxL ret) rm As sh g gl gr n v sh1 g1 gl1 gr1 n1) (cw : va_CN R s args own0 index y host bytes maxL ret (ws_ y bytes maxL ret) rm rm.cells rm.slots k ∧ (Cond.static y).before args s = true ∧ True)
    (hW : Wld G s) (hR : Rep G sh g gl gr n H) (hS : va_S (own G) s.heap H locs) (hn : As.length = k) (hz : ls.size = nL) (hst : st0 = As.reverse ++ rest) (hrm : (rest.map fun v => v.category).sum ≤ 8) (h1 : v.toList ++ rest = st1) (hdg : decode cc pc = .ok (.invokestatic index, 3)) (h0 : rm.cells = 0 ∧ rm.slots = 0) (hf : cells ≤ R.cells ∧ slots ≤ R.slots)
    (kk : ∀ (H1 : Heap) (locs1 : List Loc), Rep G sh1 g1 gl1 gr1 n1 H1 → va_S (own G) s.heap H1 locs1 → W p l e R s m args below meth c H1 locs1 cells slots Q (F0 m (pc + 3) ls st1)) : W p l e R s m args below meth c H locs cells slots Q (F0 m pc ls st0) :=
  rc_SN S hM cw hW hR hS hn hz hst hrm hdg (by rw [h0.1, h0.2]; exact hf) (by rw [h0.1, h0.2, h1]; exact kk)
/-- .. of a receiver that is shown otherwise (a text constant) -/
theorem rc_Vs0 (S : CallFix p m c cc nL s args lw_all own0) (hM : MetI l G y (ws_ y bytes maxL ret) rm (.ref (adr G a) :: As) sh g gl gr n v sh1 g1 gl1 gr1 n1) (cw : CallW R s args own0 C index y bytes maxL ret (ws_ y bytes maxL ret) rm rm.cells rm.slots k)
    (hrecv : ∃ cellB : Cell, H[adr G a]? = some cellB ∧ cellB.vm.isStatics = false ∧ s.vm.findClass C = some cellB.cls) (hW : Wld G s) (hR : Rep G sh g gl gr n H) (hS : va_S (own G) s.heap H locs) (hn : As.length = k) (hz : ls.size = nL) (hst : st0 = As.reverse ++ .ref (adr G a) :: rest) (hrm : (rest.map fun v => v.category).sum ≤ 8) (h1 : v.toList ++ rest = st1) (hdg : decode cc pc = .ok (.invokevirtual index, 3)) (h0 : rm.cells = 0 ∧ rm.slots = 0) (hf : cells ≤ R.cells ∧ slots ≤ R.slots)
    (kk : ∀ (H1 : Heap) (locs1 : List Loc), Rep G sh1 g1 gl1 gr1 n1 H1 → va_S (own G) s.heap H1 locs1 → W p l e R s m args below meth c H1 locs1 cells slots Q (F0 m (pc + 3) ls st1)) : W p l e R s m args below meth c H locs cells slots Q (F0 m pc ls st0) :=
  rc_run (va_runV (g := F0 m pc ls st0) S hM cw ⟨blindI, hrecv, fun U hU hWm => ⟨rfl, hW.warm hWm, by rw [hU]; exact hR⟩⟩ rfl hn hz hst (lv_room hrm) hdg (by rw [h0.1, h0.2]; exact hf)) hS (by rw [h0.1, h0.2, h1]; exact kk)
theorem va_ldcSW (hexec : p.tables.exec = Jvm.exec) (hb : c.code = cc) {own tx : String} {index q : Nat} (hown : s.vm.findClass own = some m.cls) (hZ : vk_R own index tx q s) (hdg : decode cc pc = .ok (.ldc_w index, 3))
    (k : W p l e R s m args below meth c H locs cells slots Q (F0 m (pc + 3) ls (.ref q :: rest))) : W p l e R s m args below meth c H locs cells slots Q (F0 m pc ls rest) := by
  intro T hT X
  obtain ⟨t, a1, b1⟩ := k T hT X
  exact ⟨t, X.ldcStringW hexec hown (text := tx) (a := q) hZ.1 hZ.2 (g := F0 m pc ls rest) rfl (by rw [hb]; exact hdg) t a1, b1⟩
end MC3
