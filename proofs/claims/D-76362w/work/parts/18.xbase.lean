/-! METHODS THAT MAY THROW: what they come to, their contracts, calls and ends -/
abbrev XS : Type := SM × GM × LM × RM
abbrev XO : Type := (Option Value × XS) ⊕ (Nat × XS)
/-- exceptions by number: 9 Fault, 11 Beyond, 12 Nothing (the objects that are kept); 1 ClassCast, 2 NegativeArraySize, 3 Arithmetic (the machine's) -/
def ecN (k : Nat) : String := match k with
  | 9 => RX9
  | 11 => RX11
  | 12 => RX12
  | 1 => "java/lang/ClassCastException"
  | 2 => "java/lang/NegativeArraySizeException"
  | _ => "java/lang/ArithmeticException"
def ecA (k : Nat) : Option Nat := match k with
  | 9 => some 112
  | 11 => some 120
  | 12 => some 121
  | _ => none
def QX (G : Gx) (n : Nat) (o : XO) : Array Value → State → Outcome → State → Prop := fun _ st oc t => ∃ (v : Option Value) (sh : SM) (g : GM) (gl : LM) (gr : RM), o = .inl (v, sh, g, gl, gr) ∧ oc = .returned v ∧ (∃ n1, n ≤ n1 ∧ Rep G sh g gl gr n1 t.heap) ∧ va_F (own G) st t
def XX (G : Gx) (n : Nat) (o : XO) : Addr → String → State → State → Prop := fun q E st t => ∃ (ec : Nat) (sh : SM) (g : GM) (gl : LM) (gr : RM), o = .inr (ec, sh, g, gl, gr) ∧ E = ecN ec ∧ (∀ a, ecA ec = some a → q = adr G a) ∧ (∃ n1, n ≤ n1 ∧ Rep G sh g gl gr n1 t.heap) ∧ va_F (own G) st t
def MetX (l : Launch) (G : Gx) (y : MethodName) (ws : List Cond) (rm : Room) (As : List Value) (sh : SM) (g : GM) (gl : LM) (gr : RM) (n : Nat) (o : XO) : Prop :=
  vx_Met l y ws rm (va_Pc As (fun U => Wld G U ∧ Rep G sh g gl gr n U.heap)) (QX G n o) (XX G n o) rm.cells rm.slots (own G)
abbrev XQ (G : Gx) (below : List Frame) (n : Nat) (o : XO) (args : Array Value) (s : State) (rm : Room) : State → Prop := vx_MQ below (QX G n o) (XX G n o) args s rm.cells rm.slots (own G)
theorem MetX.of {l : Launch} {G : Gx} {y : MethodName} {rm : Room} {As : List Value} {sh : SM} {g : GM} {gl : LM} {gr : RM} {n : Nat} {o : XO} {cc : ByteArray} {nL : Nat} {ret : Option FieldType}
    (hy : plainName y.cls = true) (hn : (lg_sl As).length ≤ nL)
    (body : ∀ (p : Program) (e : Env) (s : State) (m : MethodId) (below : List Frame) (meth : Method) (c : Code) (ls : Array Slot), p.tables.exec = Jvm.exec → c.code = cc → meth.sig.returnType = ret → c.maxLocals = nL → s.vm.findClass y.cls = some m.cls → (∀ w ∈ lw_all, w.before As.toArray s = true) → meth.locks = false → (∀ x ∈ c.exceptionTable.toList, False) → Wld G s → va_K G.1 cl0 (tys0 G) s → Rep G sh g gl gr n s.heap → va_S (own G) s.heap s.heap [] → lv_has ls nL (lv_args 0 As) →
      W p l e rm s m As.toArray below meth c s.heap [] 0 0 (XQ G below n o As.toArray s rm) (F0 m 0 ls [])) : MetX l G y (ws_ y cc nL ret) rm As sh g gl gr n o := by
  refine vx_ofW (cc := cc) (maxL := nL) (ret := ret) hy rfl ?_
  intro p e s m args below meth c s₁ B hml htb hv
  obtain ⟨rfl, hW, hR⟩ := hv
  have hts := atoms_spec (ws := ws_ y cc nL ret) B.pre
  have hl := lv_entry As (n := nL) hn
  rw [lg_entry_eq]
  exact body p e s m below meth c _ B.exec B.bytes B.returns hml (findClass_of_methodNamed B.named) (fun w h => hts w (List.mem_cons_of_mem _ h)) B.notSynchronized htb hW hW.K hR va_S.rf hl
/-- .. with handlers -/
theorem MetX.ofW {l : Launch} {G : Gx} {y : MethodName} {rm : Room} {As : List Value} {sh : SM} {g : GM} {gl : LM} {gr : RM} {n : Nat} {o : XO} {cc : ByteArray} {nL : Nat} {ret : Option FieldType} {hh : List (Nat × Nat × Nat × Nat)}
    (hy : plainName y.cls = true) (hn : (lg_sl As).length ≤ nL)
    (body : ∀ (p : Program) (e : Env) (s : State) (m : MethodId) (below : List Frame) (meth : Method) (c : Code) (ls : Array Slot), p.tables.exec = Jvm.exec → c.code = cc → meth.sig.returnType = ret → c.maxLocals = nL → s.vm.findClass y.cls = some m.cls → (∀ w ∈ lw_all, w.before As.toArray s = true) → meth.locks = false → c.exceptionTable.toList = tableOf hh → Wld G s → va_K G.1 cl0 (tys0 G) s → Rep G sh g gl gr n s.heap → va_S (own G) s.heap s.heap [] → lv_has ls nL (lv_args 0 As) →
      W p l e rm s m As.toArray below meth c s.heap [] 0 0 (XQ G below n o As.toArray s rm) (F0 m 0 ls [])) : MetX l G y (wsW_ y cc nL ret hh) rm As sh g gl gr n o := by
  refine vx_ofWH (cc := cc) (maxL := nL) (ret := ret) hy rfl ?_
  intro p e s m args below meth c s₁ B hml hv
  obtain ⟨rfl, hW, hR⟩ := hv
  have hts := atoms_spec (ws := wsW_ y cc nL ret hh) B.pre
  have htb := vx_table (x := y) B (hts _ List.mem_cons_self)
  have hl := lv_entry As (n := nL) hn
  rw [lg_entry_eq]
  exact body p e s m below meth c _ B.exec B.bytes B.returns hml (findClass_of_methodNamed B.named) (fun w h => hts w (List.mem_cons_of_mem _ h)) B.notSynchronized htb hW hW.K hR va_S.rf hl
section MX
variable {p : Program} {l : Launch} {e : Env} {R : Room} {s : State} {m : MethodId} {args : Array Value} {below : List Frame} {meth : Method} {c : Code} {H : Heap} {locs : List Loc} {cells slots : Nat} {Q : State → Prop}
variable {cc : ByteArray} {pc : Nat} {ls : Array Slot} {rest st0 st1 : List Value} {G : Gx} {sh : SM} {g : GM} {gl : LM} {gr : RM} {n n0 : Nat} {a : Nat} {rm : Room} {o : XO}
/-! ends -/
theorem x_iret (hx : p.tables.exec = Jvm.exec) (hb : c.code = cc) (hr : meth.sig.returnType = some .int) (hlk : meth.locks = false) (hn : n0 ≤ n) (hR : Rep G sh g gl gr n H) (hS : va_S (own G) s.heap H locs) (hc : cells ≤ rm.cells) (hs : slots ≤ rm.slots) {v : Int32} (ho : o = .inl (some (.int v), sh, g, gl, gr)) (hdg : decode cc pc = .ok (.ireturn, 1)) : W p l e R s m args below meth c H locs cells slots (XQ G below n0 o args s rm) (F0 m pc ls [.int v]) := by
  refine W.widen (k := rm.cells) (n := rm.slots) hc hs (vx_ret ?_)
  exact W.iret hx hb hr (fun t ht _ => ⟨_, _, _, _, _, ho, rfl, ⟨n, hn, by rw [ht]; exact hR⟩, hS.F ht⟩) hS.2.2 hdg hlk
theorem x_vret (hx : p.tables.exec = Jvm.exec) (hb : c.code = cc) (hr : meth.sig.returnType = none) (hlk : meth.locks = false) (hn : n0 ≤ n) (hR : Rep G sh g gl gr n H) (hS : va_S (own G) s.heap H locs) (hc : cells ≤ rm.cells) (hs : slots ≤ rm.slots) (ho : o = .inl (none, sh, g, gl, gr)) (hdg : decode cc pc = .ok (.return_, 1)) : W p l e R s m args below meth c H locs cells slots (XQ G below n0 o args s rm) (F0 m pc ls []) := by
  refine W.widen (k := rm.cells) (n := rm.slots) hc hs (vx_ret ?_)
  exact W.vret hx hb hr (fun t ht _ => ⟨_, _, _, _, _, ho, rfl, ⟨n, hn, by rw [ht]; exact hR⟩, hS.F ht⟩) hS.2.2 hdg hlk
theorem x_aret (hx : p.tables.exec = Jvm.exec) (hb : c.code = cc) {rt : FieldType} (hr : meth.sig.returnType = some rt) (hrt : (∃ n, rt = .object n) ∨ ∃ t, rt = .array t) (hlk : meth.locks = false) (hn : n0 ≤ n) (hR : Rep G sh g gl gr n H) (hS : va_S (own G) s.heap H locs) (hc : cells ≤ rm.cells) (hs : slots ≤ rm.slots) {v : Option Nat} (ho : o = .inl (some (va_rf v), sh, g, gl, gr)) (hdg : decode cc pc = .ok (.areturn, 1)) : W p l e R s m args below meth c H locs cells slots (XQ G below n0 o args s rm) (F0 m pc ls [va_rf v]) := by
  refine W.widen (k := rm.cells) (n := rm.slots) hc hs (vx_ret ?_)
  exact W.aret hx hb hr hrt (by cases v; exact Or.inl rfl; exact Or.inr ⟨_, rfl⟩) (fun t ht _ => ⟨_, _, _, _, _, ho, rfl, ⟨n, hn, by rw [ht]; exact hR⟩, hS.F ht⟩) hS.2.2 hdg hlk
/-- it is thrown on to the caller -/
theorem x_out {ec : Nat} {q : Addr} {ce : Cell} (htb : ∀ x ∈ c.exceptionTable.toList, False) (hlk : meth.locks = false) (hn : n0 ≤ n) (hR : Rep G sh g gl gr n H) (hS : va_S (own G) s.heap H locs) (hc : cells ≤ rm.cells) (hs : slots ≤ rm.slots) (ho : o = .inr (ec, sh, g, gl, gr)) (hq : ∀ a, ecA ec = some a → q = adr G a) (hce : H[q]? = some ce) (hcv : ce.vm = .none) (hcl : s.vm.findClass (ecN ec) = some ce.cls) : vx_W p l e R s m args below meth c H locs cells slots (XQ G below n0 o args s rm) (F0 m pc ls rest) q :=
  vx_out (E := ecN ec) (ce := ce) (fun x hx => (htb x hx).elim) hlk hce hcv hcl (fun t ht _ => ⟨_, _, _, _, _, ho, rfl, hq, ⟨n, hn, by rw [ht]; exact hR⟩, hS.F ht⟩) hS.2.2 hc hs
/-- a kept exception is thrown, and goes on to the caller -/
theorem x_throw {ec b ci N L : Nat} {C : String} {T : u_T} {ty : Nat → FieldType} (hx : p.tables.exec = Jvm.exec) (hb : c.code = cc) (hC : ClF ci C T N ty) (hK : va_K G.1 cl0 (tys0 G) s) (hsh : sh b = (20 + ci, L)) (hEA : ecA ec = some b) (hEN : ecN ec = C) (htb : ∀ x ∈ c.exceptionTable.toList, False) (hlk : meth.locks = false) (hn : n0 ≤ n) (hR : Rep G sh g gl gr n H) (hS : va_S (own G) s.heap H locs) (hc : cells ≤ rm.cells) (hs : slots ≤ rm.slots) (ho : o = .inr (ec, sh, g, gl, gr)) (hdg : decode cc pc = .ok (.athrow, 1)) : W p l e R s m args below meth c H locs cells slots (XQ G below n0 o args s rm) (F0 m pc ls (.ref (adr G b) :: rest)) := by
  obtain ⟨r, h1, cell, q1, q2, q3, q4⟩ := hR.obj hsh
  have hr : r = (C, T, N) := Option.some.inj (h1.symm.trans hC.2.1)
  subst hr
  exact vx_athrow hx hb hdg (x_out htb hlk hn hR hS hc hs ho (fun a ha => by rw [hEA] at ha; cases ha; rfl) q1 q3 (by rw [hEN, q2]; exact (hK.1 ci _ hC.2.1).2.1))
/-! calls -/
variable {ox : XO} {nL k maxL index mc ms : Nat} {y : MethodName} {bytes : ByteArray} {ret : Option FieldType} {As : List Value} {own0 C : String} {rmc : Room} {a0 : Array Value}
theorem xc_r {v : Option Value} {sh1 : SM} {g1 : GM} {gl1 : LM} {gr1 : RM} (hr : vx_Run p l e R s m args below meth c H locs cells slots mc ms (F0 m pc ls st0) rest (QX G n (.inl (v, sh1, g1, gl1, gr1)) a0) (XX G n (.inl (v, sh1, g1, gl1, gr1))) (own G)) (hS : va_S (own G) s.heap H locs)
    (kk : ∀ (n1 : Nat) (H1 : Heap) (locs1 : List Loc), n ≤ n1 → Rep G sh1 g1 gl1 gr1 n1 H1 → va_S (own G) s.heap H1 locs1 → W p l e R s m args below meth c H1 locs1 (cells + mc) (slots + ms) Q (F0 m (pc + 3) ls (v.toList ++ rest))) : W p l e R s m args below meth c H locs cells slots Q (F0 m pc ls st0) := by
  intro T hT X
  rcases hr T hT X with ⟨v', st₀, t, T', L, h0, X', hL, e1, e2, ⟨v2, sh2, g2, gl2, gr2, ho, hv, ⟨n1, hn1, hRt⟩, hz, hk⟩, st⟩ | ⟨q, st₀, t, T', L, E, ce, h0, X', hL, e1, e2, ⟨_, _, _, _, _, ho, _⟩, _⟩
  · cases ho
    cases hv
    rw [h0] at hz hk
    obtain ⟨t2, a1, b1⟩ := kk n1 T'.heap (locs ++ L) hn1 (by rw [e1]; exact hRt)
      ⟨Nat.le_trans hS.1 (by rw [e1]; exact hz), fun q h1 h2 => by rw [e1, hk q (Nat.lt_of_lt_of_le h1 hS.1) h2]; exact hS.2.1 q h1 h2, fun q hq => by
        rcases List.mem_append.mp hq with h | h
        · exact hS.2.2 q h
        · exact hL q h⟩ T' rfl X'
    exact ⟨t2, st t2 a1, b1⟩
  · cases ho
theorem xc_x {ec : Nat} {sh1 : SM} {g1 : GM} {gl1 : LM} {gr1 : RM} (hr : vx_Run p l e R s m args below meth c H locs cells slots mc ms (F0 m pc ls st0) rest (QX G n (.inr (ec, sh1, g1, gl1, gr1)) a0) (XX G n (.inr (ec, sh1, g1, gl1, gr1))) (own G)) (hS : va_S (own G) s.heap H locs)
    (kk : ∀ (n1 : Nat) (H1 : Heap) (locs1 : List Loc) (q : Addr) (ce : Cell), n ≤ n1 → Rep G sh1 g1 gl1 gr1 n1 H1 → va_S (own G) s.heap H1 locs1 → (∀ a, ecA ec = some a → q = adr G a) → H1[q]? = some ce → ce.vm = .none → s.vm.findClass (ecN ec) = some ce.cls → vx_W p l e R s m args below meth c H1 locs1 (cells + mc) (slots + ms) Q (F0 m pc ls rest) q) : W p l e R s m args below meth c H locs cells slots Q (F0 m pc ls st0) := by
  intro T hT X
  rcases hr T hT X with ⟨v', st₀, t, T', L, h0, X', hL, e1, e2, ⟨v2, sh2, g2, gl2, gr2, ho, _⟩, st⟩ | ⟨q, st₀, t, T', L, E, ce, h0, X', hL, e1, e2, ⟨ec2, sh2, g2, gl2, gr2, ho, hE, hq, ⟨n1, hn1, hRt⟩, hz, hk⟩, hce, hcv, hcl, st⟩
  · cases ho
  · cases ho
    subst hE
    rw [h0] at hz hk
    obtain ⟨t2, a1, b1⟩ := kk n1 T'.heap (locs ++ L) q ce hn1 (by rw [e1]; exact hRt)
      ⟨Nat.le_trans hS.1 (by rw [e1]; exact hz), fun q h1 h2 => by rw [e1, hk q (Nat.lt_of_lt_of_le h1 hS.1) h2]; exact hS.2.1 q h1 h2, fun q hq => by
        rcases List.mem_append.mp hq with h | h
        · exact hS.2.2 q h
        · exact hL q h⟩ hq (by rw [e1]; exact hce) hcv hcl T' rfl X'
    exact ⟨t2, st.trans a1, b1⟩
theorem x_recv {ci N L : Nat} {C : String} {T : u_T} {ty : Nat → FieldType} (hC : ClF ci C T N ty) (hK : va_K G.1 cl0 (tys0 G) s) (hR : Rep G sh g gl gr n H) (hs : sh a = (20 + ci, L)) : ∃ cellB : Cell, H[adr G a]? = some cellB ∧ cellB.vm.isStatics = false ∧ s.vm.findClass C = some cellB.cls := rc_recv hC hK hR hs
/-- the run of a method of this object's class, that may throw -/
theorem xr_V {ci N L : Nat} {T : u_T} {ty : Nat → FieldType} (S : CallFix p m c cc nL s args lw_all own0) (hM : MetX l G y (ws_ y bytes maxL ret) rmc (.ref (adr G a) :: As) sh g gl gr n ox) (cw : CallW R s args own0 C index y bytes maxL ret (ws_ y bytes maxL ret) rmc rmc.cells rmc.slots k)
    (hC : ClF ci C T N ty) (hs : sh a = (20 + ci, L)) (hK : va_K G.1 cl0 (tys0 G) s) (hW : Wld G s) (hR : Rep G sh g gl gr n H) (hn : As.length = k) (hz : ls.size = nL) (hst : st0 = As.reverse ++ .ref (adr G a) :: rest) (hrm : (rest.map fun v => v.category).sum ≤ 8) (hdg : decode cc pc = .ok (.invokevirtual index, 3)) (hf : cells + rmc.cells ≤ R.cells ∧ slots + rmc.slots ≤ R.slots) :
    vx_Run p l e R s m args below meth c H locs cells slots rmc.cells rmc.slots (F0 m pc ls st0) rest (QX G n ox (Value.ref (adr G a) :: As).toArray) (XX G n ox) (own G) :=
  vx_runV (g := F0 m pc ls st0) S hM cw ⟨fun _ _ _ _ h => h, rc_recv hC hK hR hs, fun U hU hWm => ⟨rfl, hW.warm hWm, by rw [hU]; exact hR⟩⟩ rfl hn hz hst (lv_room hrm) hdg hf
theorem xr_S (S : CallFix p m c cc nL s args lw_all own0) (hM : MetX l G y (ws_ y bytes maxL ret) rmc As sh g gl gr n ox) (cw : CallB R s args own0 index y bytes maxL ret (ws_ y bytes maxL ret) rmc rmc.cells rmc.slots k ∧ (Cond.static y).before args s = true)
    (hW : Wld G s) (hR : Rep G sh g gl gr n H) (hn : As.length = k) (hz : ls.size = nL) (hst : st0 = As.reverse ++ rest) (hrm : (rest.map fun v => v.category).sum ≤ 8) (hdg : decode cc pc = .ok (.invokestatic index, 3)) (hf : cells + rmc.cells ≤ R.cells ∧ slots + rmc.slots ≤ R.slots) :
    vx_Run p l e R s m args below meth c H locs cells slots rmc.cells rmc.slots (F0 m pc ls st0) rest (QX G n ox As.toArray) (XX G n ox) (own G) :=
  vx_runS (g := F0 m pc ls st0) S hM cw ⟨fun _ _ _ _ h => h, fun U hU hWm => ⟨rfl, hW.warm hWm, by rw [hU]; exact hR⟩⟩ rfl hn hz hst (lv_room hrm) hdg hf
end MX
def bx11 {α γ ρ : Type} (o : Option (α ⊕ γ)) (k2 : γ → Option ρ) (k1 : α → Option ρ) : Option ρ := o.bind (fun x => x.elim k1 k2)
def bx12 {α γ δ ρ : Type} (o : Option (α ⊕ (γ × δ))) (k2 : γ → δ → Option ρ) (k1 : α → Option ρ) : Option ρ := o.bind (fun x => x.elim k1 (fun q => k2 q.1 q.2))
def bx22 {α β γ δ ρ : Type} (o : Option ((α × β) ⊕ (γ × δ))) (k2 : γ → δ → Option ρ) (k1 : α → β → Option ρ) : Option ρ := o.bind (fun x => x.elim (fun p => k1 p.1 p.2) (fun q => k2 q.1 q.2))
def bx23 {α β γ δ ε ρ : Type} (o : Option ((α × β) ⊕ (γ × δ × ε))) (k2 : γ → δ → ε → Option ρ) (k1 : α → β → Option ρ) : Option ρ := o.bind (fun x => x.elim (fun p => k1 p.1 p.2) (fun q => k2 q.1 q.2.1 q.2.2))
theorem obx11 {α γ ρ : Type} {o : Option (α ⊕ γ)} {k2 : γ → Option ρ} {k1 : α → Option ρ} {x : ρ} (h : bx11 o k2 k1 = some x) : (∃ c, o = some (.inr c) ∧ k2 c = some x) ∨ ∃ a, o = some (.inl a) ∧ k1 a = some x := by
  obtain ⟨y, h1, h2⟩ := Option.bind_eq_some_iff.mp h
  rcases y with a | c
  · exact Or.inr ⟨a, h1, h2⟩
  · exact Or.inl ⟨c, h1, h2⟩
theorem obx12 {α γ δ ρ : Type} {o : Option (α ⊕ (γ × δ))} {k2 : γ → δ → Option ρ} {k1 : α → Option ρ} {x : ρ} (h : bx12 o k2 k1 = some x) : (∃ c d, o = some (.inr (c, d)) ∧ k2 c d = some x) ∨ ∃ a, o = some (.inl a) ∧ k1 a = some x := by
  obtain ⟨y, h1, h2⟩ := Option.bind_eq_some_iff.mp h
  rcases y with a | ⟨c, d⟩
  · exact Or.inr ⟨a, h1, h2⟩
  · exact Or.inl ⟨c, d, h1, h2⟩
theorem obx22 {α β γ δ ρ : Type} {o : Option ((α × β) ⊕ (γ × δ))} {k2 : γ → δ → Option ρ} {k1 : α → β → Option ρ} {x : ρ} (h : bx22 o k2 k1 = some x) : (∃ c d, o = some (.inr (c, d)) ∧ k2 c d = some x) ∨ ∃ a b, o = some (.inl (a, b)) ∧ k1 a b = some x := by
  obtain ⟨y, h1, h2⟩ := Option.bind_eq_some_iff.mp h
  rcases y with ⟨a, b⟩ | ⟨c, d⟩
  · exact Or.inr ⟨a, b, h1, h2⟩
  · exact Or.inl ⟨c, d, h1, h2⟩
theorem obx23 {α β γ δ ε ρ : Type} {o : Option ((α × β) ⊕ (γ × δ × ε))} {k2 : γ → δ → ε → Option ρ} {k1 : α → β → Option ρ} {x : ρ} (h : bx23 o k2 k1 = some x) : (∃ c d f, o = some (.inr (c, d, f)) ∧ k2 c d f = some x) ∨ ∃ a b, o = some (.inl (a, b)) ∧ k1 a b = some x := by
  obtain ⟨y, h1, h2⟩ := Option.bind_eq_some_iff.mp h
  rcases y with ⟨a, b⟩ | ⟨c, d, f⟩
  · exact Or.inr ⟨a, b, h1, h2⟩
  · exact Or.inl ⟨c, d, f, h1, h2⟩
