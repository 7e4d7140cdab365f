/-! ROWS over the one memory -/
section MR
variable {p : Program} {l : Launch} {e : Env} {R : Room} {s : State} {m : MethodId} {args : Array Value} {below : List Frame} {meth : Method} {c : Code} {H : Heap} {locs : List Loc} {cells slots : Nat} {Q : State → Prop}
variable {cc : ByteArray} {pc : Nat} {ls : Array Slot} {rest : List Value} {G : Gx} {sh : SM} {g : GM} {gl : LM} {gr : RM} {n : Nat} {a : Nat}
/-- a class of the list: its place, its words -/
def ClF (ci : Nat) (C : String) (T : u_T) (N : Nat) (ty : Nat → FieldType) : Prop := (∀ w ∈ u_ws C T N, w ∈ lw_all) ∧ cl0[ci]? = some (C, T, N) ∧ (∀ k, k < N → parseFieldDescriptor (T k).2.2.1 = some (ty k)) ∧ ∀ a, a < N → ∀ b, b < N → a ≠ b → (T a).2.1 ≠ (T b).2.1
theorem r_get0 (hx : p.tables.exec = Jvm.exec) (hb : c.code = cc) {own ref C : String} {T : u_T} {N ci index : Nat} {ty : Nat → FieldType} (hts : ∀ w ∈ lw_all, w.before args s = true) (hC : ClF ci C T N ty) (hown : s.vm.findClass own = some m.cls) (hK : va_K G.1 cl0 (tys0 G) s) (hR : Rep G sh g gl gr n H) {L : Nat} (hs : sh a = (20 + ci, L)) (k : Nat) (hk : k < N)
    (hlink : (Cond.fieldLink own index ref (T k).2.1 (T k).2.2.1).before args s = true) (hsame : ∀ x, s.fieldFound? (T k).1 (T k).2.1 (T k).2.2.1 = some x → s.fieldFound? ref (T k).2.1 (T k).2.2.1 = some x) (hdg : decode cc pc = .ok (.getfield index, 3))
    (kk : W p l e R s m args below meth c H locs cells slots Q (F0 m (pc + 3) ls (fval G (isr ci k) (g a k) (gr a k) :: rest))) : W p l e R s m args below meth c H locs cells slots Q (F0 m pc ls (.ref (adr G a) :: rest)) := by
  obtain ⟨r, h1, cell, q1, q2, q3, q4⟩ := hR.obj hs
  have hr : r = (C, T, N) := Option.some.inj (h1.symm.trans hC.2.1)
  subst hr
  obtain ⟨hS, hfc, kC, hkC, hkind⟩ := hK.1 ci _ hC.2.1
  obtain ⟨cf, kf, fi, f, hi, hsl⟩ := hS k hk
  refine W.getf hx hb hown hlink (hsame _ hi) (u_facts hfc hkC (u_lays hts hC.1 hk) hi).1 q1 (by rw [q3]; exact fun h => by cases h) (v := fval G (isr ci k) (g a k) (gr a k)) ?_ rfl rfl hdg kk
  rw [hsl, q4 k hk]
theorem r_getN0 (hx : p.tables.exec = Jvm.exec) (hb : c.code = cc) {own ref C host : String} {T : u_T} {N ci index : Nat} {ty : Nat → FieldType} (hts : ∀ w ∈ lw_all, w.before args s = true) (hC : ClF ci C T N ty) (hown : s.vm.findClass own = some m.cls) (hK : va_K G.1 cl0 (tys0 G) s) (hR : Rep G sh g gl gr n H) {L : Nat} (hs : sh a = (20 + ci, L)) (k : Nat) (hk : k < N)
    (hlink : (Cond.fieldLinkNest own index ref (T k).2.1 (T k).2.2.1 host).before args s = true) (hsame : ∀ x, s.fieldFound? (T k).1 (T k).2.1 (T k).2.2.1 = some x → s.fieldFound? ref (T k).2.1 (T k).2.2.1 = some x) (hdg : decode cc pc = .ok (.getfield index, 3))
    (kk : W p l e R s m args below meth c H locs cells slots Q (F0 m (pc + 3) ls (fval G (isr ci k) (g a k) (gr a k) :: rest))) : W p l e R s m args below meth c H locs cells slots Q (F0 m pc ls (.ref (adr G a) :: rest)) := by
  obtain ⟨r, h1, cell, q1, q2, q3, q4⟩ := hR.obj hs
  have hr : r = (C, T, N) := Option.some.inj (h1.symm.trans hC.2.1)
  subst hr
  have hP : va_P G.1 cl0 [(adr G a, .inr (ci, (List.range N).map (fun k => fval G (isr ci k) (g a k) (gr a k))))] H := by
    intro j q hj
    have hz : j < 1 := (List.getElem?_eq_some_iff.mp hj).1
    rw [show j = 0 by omega] at hj
    cases hj
    refine ⟨_, hC.2.1, cell, q1, q2, q3, fun k hk => ?_⟩
    rw [q4 k hk]
    simp [vp_V, hk]
  exact va_getN hx hb hts hC.1 hown hK hP 0 rfl hC.2.1 k hk hlink hsame (by simp [hk]) hdg kk
/-- a field of an object, by its link in this class's pool: an int -/
theorem r_geti (hx : p.tables.exec = Jvm.exec) (hb : c.code = cc) {own ref C : String} {T : u_T} {N ci index : Nat} {ty : Nat → FieldType} (hts : ∀ w ∈ lw_all, w.before args s = true) (hC : ClF ci C T N ty) (hown : s.vm.findClass own = some m.cls) (hK : va_K G.1 cl0 (tys0 G) s) (hR : Rep G sh g gl gr n H) {L : Nat} (hs : sh a = (20 + ci, L)) (k : Nat) (hk : k < N) (hir : isr ci k = false)
    (hlink : (Cond.fieldLink own index ref (T k).2.1 (T k).2.2.1).before args s = true) (hsame : ∀ x, s.fieldFound? (T k).1 (T k).2.1 (T k).2.2.1 = some x → s.fieldFound? ref (T k).2.1 (T k).2.2.1 = some x) (hdg : decode cc pc = .ok (.getfield index, 3))
    (kk : W p l e R s m args below meth c H locs cells slots Q (F0 m (pc + 3) ls (.int (g a k) :: rest))) : W p l e R s m args below meth c H locs cells slots Q (F0 m pc ls (.ref (adr G a) :: rest)) :=
  r_get0 hx hb hts hC hown hK hR hs k hk hlink hsame hdg (by rw [hir]; exact kk)
theorem r_getr (hx : p.tables.exec = Jvm.exec) (hb : c.code = cc) {own ref C : String} {T : u_T} {N ci index : Nat} {ty : Nat → FieldType} (hts : ∀ w ∈ lw_all, w.before args s = true) (hC : ClF ci C T N ty) (hown : s.vm.findClass own = some m.cls) (hK : va_K G.1 cl0 (tys0 G) s) (hR : Rep G sh g gl gr n H) {L : Nat} (hs : sh a = (20 + ci, L)) (k : Nat) (hk : k < N) (hir : isr ci k = true) {b : Nat} (hg : gr a k = some b)
    (hlink : (Cond.fieldLink own index ref (T k).2.1 (T k).2.2.1).before args s = true) (hsame : ∀ x, s.fieldFound? (T k).1 (T k).2.1 (T k).2.2.1 = some x → s.fieldFound? ref (T k).2.1 (T k).2.2.1 = some x) (hdg : decode cc pc = .ok (.getfield index, 3))
    (kk : W p l e R s m args below meth c H locs cells slots Q (F0 m (pc + 3) ls (.ref (adr G b) :: rest))) : W p l e R s m args below meth c H locs cells slots Q (F0 m pc ls (.ref (adr G a) :: rest)) :=
  r_get0 hx hb hts hC hown hK hR hs k hk hlink hsame hdg (by rw [hir, hg]; exact kk)
theorem r_geto (hx : p.tables.exec = Jvm.exec) (hb : c.code = cc) {own ref C : String} {T : u_T} {N ci index : Nat} {ty : Nat → FieldType} (hts : ∀ w ∈ lw_all, w.before args s = true) (hC : ClF ci C T N ty) (hown : s.vm.findClass own = some m.cls) (hK : va_K G.1 cl0 (tys0 G) s) (hR : Rep G sh g gl gr n H) {L : Nat} (hs : sh a = (20 + ci, L)) (k : Nat) (hk : k < N) (hir : isr ci k = true)
    (hlink : (Cond.fieldLink own index ref (T k).2.1 (T k).2.2.1).before args s = true) (hsame : ∀ x, s.fieldFound? (T k).1 (T k).2.1 (T k).2.2.1 = some x → s.fieldFound? ref (T k).2.1 (T k).2.2.1 = some x) (hdg : decode cc pc = .ok (.getfield index, 3))
    (kk : W p l e R s m args below meth c H locs cells slots Q (F0 m (pc + 3) ls (va_rf ((gr a k).map (adr G)) :: rest))) : W p l e R s m args below meth c H locs cells slots Q (F0 m pc ls (.ref (adr G a) :: rest)) :=
  r_get0 hx hb hts hC hown hK hR hs k hk hlink hsame hdg (by rw [hir]; exact kk)
theorem r_getiN (hx : p.tables.exec = Jvm.exec) (hb : c.code = cc) {own ref C host : String} {T : u_T} {N ci index : Nat} {ty : Nat → FieldType} (hts : ∀ w ∈ lw_all, w.before args s = true) (hC : ClF ci C T N ty) (hown : s.vm.findClass own = some m.cls) (hK : va_K G.1 cl0 (tys0 G) s) (hR : Rep G sh g gl gr n H) {L : Nat} (hs : sh a = (20 + ci, L)) (k : Nat) (hk : k < N) (hir : isr ci k = false)
    (hlink : (Cond.fieldLinkNest own index ref (T k).2.1 (T k).2.2.1 host).before args s = true) (hsame : ∀ x, s.fieldFound? (T k).1 (T k).2.1 (T k).2.2.1 = some x → s.fieldFound? ref (T k).2.1 (T k).2.2.1 = some x) (hdg : decode cc pc = .ok (.getfield index, 3))
    (kk : W p l e R s m args below meth c H locs cells slots Q (F0 m (pc + 3) ls (.int (g a k) :: rest))) : W p l e R s m args below meth c H locs cells slots Q (F0 m pc ls (.ref (adr G a) :: rest)) :=
  r_getN0 hx hb hts hC hown hK hR hs k hk hlink hsame hdg (by rw [hir]; exact kk)
theorem r_getrN (hx : p.tables.exec = Jvm.exec) (hb : c.code = cc) {own ref C host : String} {T : u_T} {N ci index : Nat} {ty : Nat → FieldType} (hts : ∀ w ∈ lw_all, w.before args s = true) (hC : ClF ci C T N ty) (hown : s.vm.findClass own = some m.cls) (hK : va_K G.1 cl0 (tys0 G) s) (hR : Rep G sh g gl gr n H) {L : Nat} (hs : sh a = (20 + ci, L)) (k : Nat) (hk : k < N) (hir : isr ci k = true) {b : Nat} (hg : gr a k = some b)
    (hlink : (Cond.fieldLinkNest own index ref (T k).2.1 (T k).2.2.1 host).before args s = true) (hsame : ∀ x, s.fieldFound? (T k).1 (T k).2.1 (T k).2.2.1 = some x → s.fieldFound? ref (T k).2.1 (T k).2.2.1 = some x) (hdg : decode cc pc = .ok (.getfield index, 3))
    (kk : W p l e R s m args below meth c H locs cells slots Q (F0 m (pc + 3) ls (.ref (adr G b) :: rest))) : W p l e R s m args below meth c H locs cells slots Q (F0 m pc ls (.ref (adr G a) :: rest)) :=
  r_getN0 hx hb hts hC hown hK hR hs k hk hlink hsame hdg (by rw [hir, hg]; exact kk)
theorem r_getoN (hx : p.tables.exec = Jvm.exec) (hb : c.code = cc) {own ref C host : String} {T : u_T} {N ci index : Nat} {ty : Nat → FieldType} (hts : ∀ w ∈ lw_all, w.before args s = true) (hC : ClF ci C T N ty) (hown : s.vm.findClass own = some m.cls) (hK : va_K G.1 cl0 (tys0 G) s) (hR : Rep G sh g gl gr n H) {L : Nat} (hs : sh a = (20 + ci, L)) (k : Nat) (hk : k < N) (hir : isr ci k = true)
    (hlink : (Cond.fieldLinkNest own index ref (T k).2.1 (T k).2.2.1 host).before args s = true) (hsame : ∀ x, s.fieldFound? (T k).1 (T k).2.1 (T k).2.2.1 = some x → s.fieldFound? ref (T k).2.1 (T k).2.2.1 = some x) (hdg : decode cc pc = .ok (.getfield index, 3))
    (kk : W p l e R s m args below meth c H locs cells slots Q (F0 m (pc + 3) ls (va_rf ((gr a k).map (adr G)) :: rest))) : W p l e R s m args below meth c H locs cells slots Q (F0 m pc ls (.ref (adr G a) :: rest)) :=
  r_getN0 hx hb hts hC hown hK hR hs k hk hlink hsame hdg (by rw [hir]; exact kk)
/-! stores into fields: through the kit's rows over a world of one cell -/
theorem r_one {ci N : Nat} {C : String} {T : u_T} {ty : Nat → FieldType} (hC : ClF ci C T N ty) (hR : Rep G sh g gl gr n H) {L : Nat} (hs : sh a = (20 + ci, L)) : va_P G.1 cl0 [(adr G a, .inr (ci, (List.range N).map (fun k => fval G (isr ci k) (g a k) (gr a k))))] H := by
  obtain ⟨r, h1, cell, q1, q2, q3, q4⟩ := hR.obj hs
  have hr : r = (C, T, N) := Option.some.inj (h1.symm.trans hC.2.1)
  subst hr
  intro j q hj
  have hz : j < 1 := (List.getElem?_eq_some_iff.mp hj).1
  rw [show j = 0 by omega] at hj
  cases hj
  refine ⟨_, hC.2.1, cell, q1, q2, q3, fun k hk => ?_⟩
  rw [q4 k hk]
  simp [vp_V, hk]
theorem own_adr (hR : Rep G sh g gl gr n H) {q L : Nat} (hs : sh a = (q, L)) (h0 : q ≠ 0) : own G (adr G a) := by
  have h := hR.lo hs h0
  rw [adr_own G h.1]
  exact Nat.le_add_right _ _
theorem cOKo {ci L : Nat} {f : Nat → Int32} {fl : Nat → Int64} {fr : Nat → Option Nat} {q : Nat} {H : Heap} {r : vw_C} (h1 : cl0[ci]? = some r) (h2 : t_OB q (G.1.1 ci) r.2.2 (G.1.2 ci) H (fun k => fval G (isr ci k) (f k) (fr k))) : cOK G (20 + ci) L f fl fr q H := by
  unfold cOK
  rw [if_neg (by omega), show 20 + ci - 20 = ci by omega]
  exact ⟨r, h1, h2⟩
theorem cOKa {q0 L : Nat} {f : Nat → Int32} {fl : Nat → Int64} {fr : Nat → Option Nat} {q : Nat} {H : Heap} (h0 : q0 < 20) (h : H[q]? = some (vp_cell (G.2.1 q0) (L, pay G q0 f fl fr))) : cOK G q0 L f fl fr q H := by
  unfold cOK
  rw [if_pos h0]
  exact h
theorem r_put0 (hx : p.tables.exec = Jvm.exec) (hb : c.code = cc) {ow ref C : String} {T : u_T} {N ci index : Nat} {ty : Nat → FieldType} (hts : ∀ w ∈ lw_all, w.before args s = true) (hC : ClF ci C T N ty) (hown : s.vm.findClass ow = some m.cls) (hK : va_K G.1 cl0 (tys0 G) s) (hR : Rep G sh g gl gr n H) (hS : va_S (own G) s.heap H locs) {L : Nat} (hs : sh a = (20 + ci, L)) (k : Nat) (hk : k < N)
    (hlink : (Cond.fieldLink ow index ref (T k).2.1 (T k).2.2.1).before args s = true) (hsame : ∀ x, s.fieldFound? (T k).1 (T k).2.1 (T k).2.2.1 = some x → s.fieldFound? ref (T k).2.1 (T k).2.2.1 = some x) (hfin : (T k).2.2.2 = false ∨ ((T k).2.2.2 = true ∧ meth.name = "<init>" ∧ (T k).1 = ow)) {v : Value} (hn : narrow (ty k) v = v) (hfit : fits (ty k) v = true)
    {g1 : GM} {gr1 : RM} (e1 : ∀ b, b ≠ a → g1 b = g b) (e3 : ∀ b, b ≠ a → gr1 b = gr b) (ev : ∀ j, j < N → fval G (isr ci j) (g1 a j) (gr1 a j) = updV (fun k => fval G (isr ci k) (g a k) (gr a k)) k v j)
    (hdg : decode cc pc = .ok (.putfield index, 3)) (kk : ∀ (H1 : Heap) (locs1 : List Loc), Rep G sh g1 gl gr1 n H1 → va_S (own G) s.heap H1 locs1 → W p l e R s m args below meth c H1 locs1 cells slots Q (F0 m (pc + 3) ls rest)) : W p l e R s m args below meth c H locs cells slots Q (F0 m pc ls (v :: .ref (adr G a) :: rest)) := by
  have hap := va_apart (own := ow) hts hC.1 ty hC.2.2.1 hC.2.2.2 hK hC.2.1
  obtain ⟨r, h1, cell, q1, q2, q3, q4⟩ := hR.obj hs
  have hr : r = (C, T, N) := Option.some.inj (h1.symm.trans hC.2.1)
  subst hr
  obtain ⟨hS', hfc, kC, hkC, hkind⟩ := hK.1 ci _ hC.2.1
  obtain ⟨cf, kf, fi, f, hi, hsl⟩ := hS' k hk
  have hst := (u_facts hfc hkC (u_lays hts hC.1 hk) hi).1
  have hlay := hts _ (hC.1 _ (u_in_lay hk))
  unfold u_lay at hlay
  have fin : ∀ (H' : Heap) , H'[adr G a]? = some (cell.setSlot f.slot v) → H'.size = H.size → (∀ q, q ≠ adr G a → H'[q]? = H[q]?) → W p l e R s m args below meth c H' (locs ++ [⟨adr G a, f.slot⟩]) cells slots Q (F0 m (pc + 3) ls rest) := by
    intro H' e' z oq
    rw [hsl] at e' ⊢
    refine kk H' _ (hR.set hs (by omega) z oq e1 (fun _ _ => rfl) e3 (cOKo hC.2.1 ⟨_, e', q2, q3, fun j hj => ?_⟩)) (hS.put z oq (own_adr hR hs (by omega)))
    show _ = some (fval G (isr ci j) (g1 a j) (gr1 a j))
    rw [ev j hj]
    exact t_set q4 hap hk v j hj
  rcases hfin with hfin | ⟨hfin, hin2, hdecl⟩
  · rw [if_neg (by rw [hfin]; decide)] at hlay
    have h6 := u_store hfc hkC hkind hlay hi (hC.2.2.1 k hk) hn hfit
    exact W.putK hx hb (f := f) ⟨hown, hlink, ⟨_, _, _, hsame _ hi⟩, hst⟩ (by rw [q2]; exact h6) q1 q3 (by rw [hsl]; exact k2_hasslot (q4 k hk)) rfl rfl hdg fin
  · rw [if_pos hfin] at hlay
    have hcf : m.cls = cf := by
      obtain ⟨_, _, c', _, _, _, -, -, hf', -, -, -, hown2, -⟩ := Cond.laysFinal_spec hlay
      have e1 : c' = cf := by have := hi.symm.trans hf'; simp at this; exact this.1.symm
      rw [hdecl] at hown2
      rw [← e1]; exact Option.some.inj (hown.symm.trans hown2)
    have h6 := u_fits hfc hkC hkind (Or.inr hlay) hi (hC.2.2.1 k hk) hn hfit
    exact W.putFinK hx hb hown hlink (hsame _ hi) hst hcf hin2 (by rw [q2]; exact h6) q1 q3 (by rw [hsl]; exact k2_hasslot (q4 k hk)) rfl rfl hdg fin
theorem r_putN0 (hx : p.tables.exec = Jvm.exec) (hb : c.code = cc) {ow ref C host : String} {T : u_T} {N ci index : Nat} {ty : Nat → FieldType} (hts : ∀ w ∈ lw_all, w.before args s = true) (hC : ClF ci C T N ty) (hown : s.vm.findClass ow = some m.cls) (hK : va_K G.1 cl0 (tys0 G) s) (hR : Rep G sh g gl gr n H) (hS : va_S (own G) s.heap H locs) {L : Nat} (hs : sh a = (20 + ci, L)) (k : Nat) (hk : k < N)
    (hlink : (Cond.fieldLinkNest ow index ref (T k).2.1 (T k).2.2.1 host).before args s = true) (hsame : ∀ x, s.fieldFound? (T k).1 (T k).2.1 (T k).2.2.1 = some x → s.fieldFound? ref (T k).2.1 (T k).2.2.1 = some x) (hfin : (T k).2.2.2 = false) {v : Value} (hn : narrow (ty k) v = v) (hfit : fits (ty k) v = true)
    {g1 : GM} {gr1 : RM} (e1 : ∀ b, b ≠ a → g1 b = g b) (e3 : ∀ b, b ≠ a → gr1 b = gr b) (ev : ∀ j, j < N → fval G (isr ci j) (g1 a j) (gr1 a j) = updV (fun k => fval G (isr ci k) (g a k) (gr a k)) k v j)
    (hdg : decode cc pc = .ok (.putfield index, 3)) (kk : ∀ (H1 : Heap) (locs1 : List Loc), Rep G sh g1 gl gr1 n H1 → va_S (own G) s.heap H1 locs1 → W p l e R s m args below meth c H1 locs1 cells slots Q (F0 m (pc + 3) ls rest)) : W p l e R s m args below meth c H locs cells slots Q (F0 m pc ls (v :: .ref (adr G a) :: rest)) := by
  have hap := va_apart (own := ow) hts hC.1 ty hC.2.2.1 hC.2.2.2 hK hC.2.1
  obtain ⟨r, h1, cell, q1, q2, q3, q4⟩ := hR.obj hs
  have hr : r = (C, T, N) := Option.some.inj (h1.symm.trans hC.2.1)
  subst hr
  obtain ⟨hS', hfc, kC, hkC, hkind⟩ := hK.1 ci _ hC.2.1
  obtain ⟨cf, kf, fi, f, hi, hsl⟩ := hS' k hk
  have hst := (u_facts hfc hkC (u_lays hts hC.1 hk) hi).1
  have hlay := hts _ (hC.1 _ (u_in_lay hk))
  unfold u_lay at hlay
  have fin : ∀ (H' : Heap) , H'[adr G a]? = some (cell.setSlot f.slot v) → H'.size = H.size → (∀ q, q ≠ adr G a → H'[q]? = H[q]?) → W p l e R s m args below meth c H' (locs ++ [⟨adr G a, f.slot⟩]) cells slots Q (F0 m (pc + 3) ls rest) := by
    intro H' e' z oq
    rw [hsl] at e' ⊢
    refine kk H' _ (hR.set hs (by omega) z oq e1 (fun _ _ => rfl) e3 (cOKo hC.2.1 ⟨_, e', q2, q3, fun j hj => ?_⟩)) (hS.put z oq (own_adr hR hs (by omega)))
    show _ = some (fval G (isr ci j) (g1 a j) (gr1 a j))
    rw [ev j hj]
    exact t_set q4 hap hk v j hj
  rw [if_neg (by rw [hfin]; decide)] at hlay
  have h6 := u_store hfc hkC hkind hlay hi (hC.2.2.1 k hk) hn hfit
  exact va_WputK hx hb (f := f) hown hlink (hsame _ hi) hst (by rw [q2]; exact h6) q1 q3 (by rw [hsl]; exact k2_hasslot (q4 k hk)) rfl rfl hdg fin
theorem ev_int {ci k : Nat} (hir : isr ci k = false) (v : Int32) (j : Nat) : fval G (isr ci j) (pI g a k v a j) (gr a j) = updV (fun k => fval G (isr ci k) (g a k) (gr a k)) k (.int v) j := by
  rw [pI_self]
  by_cases hj : j = k
  · subst hj; rw [hir]; simp [updV, upd, fval]
  · simp [updV, upd, hj]
theorem ev_ref {ci k : Nat} (hir : isr ci k = true) (v : Option Nat) (j : Nat) : fval G (isr ci j) (g a j) (pR gr a k v a j) = updV (fun k => fval G (isr ci k) (g a k) (gr a k)) k (va_rf (v.map (adr G))) j := by
  rw [pR_self]
  by_cases hj : j = k
  · subst hj; rw [hir]; simp [updV, va_up, fval]
  · simp [updV, va_up, hj]
/-- an int goes into a field -/
theorem r_puti (hx : p.tables.exec = Jvm.exec) (hb : c.code = cc) {ow ref C : String} {T : u_T} {N ci index : Nat} {ty : Nat → FieldType} (hts : ∀ w ∈ lw_all, w.before args s = true) (hC : ClF ci C T N ty) (hown : s.vm.findClass ow = some m.cls) (hK : va_K G.1 cl0 (tys0 G) s) (hR : Rep G sh g gl gr n H) (hS : va_S (own G) s.heap H locs) {L : Nat} (hs : sh a = (20 + ci, L)) (k : Nat) (hk : k < N) (hir : isr ci k = false)
    (hlink : (Cond.fieldLink ow index ref (T k).2.1 (T k).2.2.1).before args s = true) (hsame : ∀ x, s.fieldFound? (T k).1 (T k).2.1 (T k).2.2.1 = some x → s.fieldFound? ref (T k).2.1 (T k).2.2.1 = some x) (hfin : (T k).2.2.2 = false ∨ ((T k).2.2.2 = true ∧ meth.name = "<init>" ∧ (T k).1 = ow)) {v : Int32} (hn : narrow (ty k) (.int v) = .int v) (hfit : fits (ty k) (.int v) = true)
    {g1 : GM} (he : puI g a k v = some g1)
    (hdg : decode cc pc = .ok (.putfield index, 3)) (kk : ∀ (H1 : Heap) (locs1 : List Loc), Rep G sh g1 gl gr n H1 → va_S (own G) s.heap H1 locs1 → W p l e R s m args below meth c H1 locs1 cells slots Q (F0 m (pc + 3) ls rest)) : W p l e R s m args below meth c H locs cells slots Q (F0 m pc ls (.int v :: .ref (adr G a) :: rest)) := by
  cases he
  exact r_put0 hx hb hts hC hown hK hR hS hs k hk hlink hsame hfin hn hfit (fun b h => pI_ne g k v h) (fun _ _ => rfl) (fun j _ => ev_int hir v j) hdg kk
/-- a reference goes into a field -/
theorem r_putr (hx : p.tables.exec = Jvm.exec) (hb : c.code = cc) {ow ref C : String} {T : u_T} {N ci index : Nat} {ty : Nat → FieldType} (hts : ∀ w ∈ lw_all, w.before args s = true) (hC : ClF ci C T N ty) (hown : s.vm.findClass ow = some m.cls) (hK : va_K G.1 cl0 (tys0 G) s) (hR : Rep G sh g gl gr n H) (hS : va_S (own G) s.heap H locs) {L : Nat} (hs : sh a = (20 + ci, L)) (k : Nat) (hk : k < N) (hir : isr ci k = true)
    (hlink : (Cond.fieldLink ow index ref (T k).2.1 (T k).2.2.1).before args s = true) (hsame : ∀ x, s.fieldFound? (T k).1 (T k).2.1 (T k).2.2.1 = some x → s.fieldFound? ref (T k).2.1 (T k).2.2.1 = some x) (hfin : (T k).2.2.2 = false ∨ ((T k).2.2.2 = true ∧ meth.name = "<init>" ∧ (T k).1 = ow)) (v : Option Nat) {V : Value} (hV : V = va_rf (v.map (adr G))) (hn : narrow (ty k) V = V) (hfit : fits (ty k) V = true)
    (hdg : decode cc pc = .ok (.putfield index, 3)) (kk : ∀ (H1 : Heap) (locs1 : List Loc), Rep G sh g gl (pR gr a k v) n H1 → va_S (own G) s.heap H1 locs1 → W p l e R s m args below meth c H1 locs1 cells slots Q (F0 m (pc + 3) ls rest)) : W p l e R s m args below meth c H locs cells slots Q (F0 m pc ls (V :: .ref (adr G a) :: rest)) := by
  subst hV
  exact r_put0 hx hb hts hC hown hK hR hS hs k hk hlink hsame hfin hn hfit (fun _ _ => rfl) (fun b h => pR_ne gr k v h) (fun j _ => ev_ref hir v j) hdg kk
theorem r_putiN (hx : p.tables.exec = Jvm.exec) (hb : c.code = cc) {ow ref C host : String} {T : u_T} {N ci index : Nat} {ty : Nat → FieldType} (hts : ∀ w ∈ lw_all, w.before args s = true) (hC : ClF ci C T N ty) (hown : s.vm.findClass ow = some m.cls) (hK : va_K G.1 cl0 (tys0 G) s) (hR : Rep G sh g gl gr n H) (hS : va_S (own G) s.heap H locs) {L : Nat} (hs : sh a = (20 + ci, L)) (k : Nat) (hk : k < N) (hir : isr ci k = false)
    (hlink : (Cond.fieldLinkNest ow index ref (T k).2.1 (T k).2.2.1 host).before args s = true) (hsame : ∀ x, s.fieldFound? (T k).1 (T k).2.1 (T k).2.2.1 = some x → s.fieldFound? ref (T k).2.1 (T k).2.2.1 = some x) (hfin : (T k).2.2.2 = false) {v : Int32} (hn : narrow (ty k) (.int v) = .int v) (hfit : fits (ty k) (.int v) = true)
    {g1 : GM} (he : puI g a k v = some g1)
    (hdg : decode cc pc = .ok (.putfield index, 3)) (kk : ∀ (H1 : Heap) (locs1 : List Loc), Rep G sh g1 gl gr n H1 → va_S (own G) s.heap H1 locs1 → W p l e R s m args below meth c H1 locs1 cells slots Q (F0 m (pc + 3) ls rest)) : W p l e R s m args below meth c H locs cells slots Q (F0 m pc ls (.int v :: .ref (adr G a) :: rest)) := by
  cases he
  exact r_putN0 hx hb hts hC hown hK hR hS hs k hk hlink hsame hfin hn hfit (fun b h => pI_ne g k v h) (fun _ _ => rfl) (fun j _ => ev_int hir v j) hdg kk
theorem r_putrN (hx : p.tables.exec = Jvm.exec) (hb : c.code = cc) {ow ref C host : String} {T : u_T} {N ci index : Nat} {ty : Nat → FieldType} (hts : ∀ w ∈ lw_all, w.before args s = true) (hC : ClF ci C T N ty) (hown : s.vm.findClass ow = some m.cls) (hK : va_K G.1 cl0 (tys0 G) s) (hR : Rep G sh g gl gr n H) (hS : va_S (own G) s.heap H locs) {L : Nat} (hs : sh a = (20 + ci, L)) (k : Nat) (hk : k < N) (hir : isr ci k = true)
    (hlink : (Cond.fieldLinkNest ow index ref (T k).2.1 (T k).2.2.1 host).before args s = true) (hsame : ∀ x, s.fieldFound? (T k).1 (T k).2.1 (T k).2.2.1 = some x → s.fieldFound? ref (T k).2.1 (T k).2.2.1 = some x) (hfin : (T k).2.2.2 = false) (v : Option Nat) {V : Value} (hV : V = va_rf (v.map (adr G))) (hn : narrow (ty k) V = V) (hfit : fits (ty k) V = true)
    (hdg : decode cc pc = .ok (.putfield index, 3)) (kk : ∀ (H1 : Heap) (locs1 : List Loc), Rep G sh g gl (pR gr a k v) n H1 → va_S (own G) s.heap H1 locs1 → W p l e R s m args below meth c H1 locs1 cells slots Q (F0 m (pc + 3) ls rest)) : W p l e R s m args below meth c H locs cells slots Q (F0 m pc ls (V :: .ref (adr G a) :: rest)) := by
  subst hV
  exact r_putN0 hx hb hts hC hown hK hR hS hs k hk hlink hsame hfin hn hfit (fun _ _ => rfl) (fun b h => pR_ne gr k v h) (fun j _ => ev_ref hir v j) hdg kk
theorem r_ldi (hx : p.tables.exec = Jvm.exec) (hb : c.code = cc) (hK : va_K G.1 cl0 (tys0 G) s) (hR : Rep G sh g gl gr n H) {L : Nat} (hs : sh a = (1, L)) {i : Int32} {v : Int32} (h : ldI g a L i = some v) (hdg : decode cc pc = .ok (.iaload, 1))
    (kk : W p l e R s m args below meth c H locs cells slots Q (F0 m (pc + 1) ls (.int v :: rest))) : W p l e R s m args below meth c H locs cells slots Q (F0 m pc ls (.int i :: .ref (adr G a) :: rest)) := by
  obtain ⟨hin, rfl⟩ := ldI_s h
  have hlt : i.toNatClampNeg < L := Nat.not_le.mp fun q => hin (Or.inr q)
  exact W.iald (v := .int (g a i.toNatClampNeg)) hx hb (hR.arr hs (by decide) (by decide)) ((hK.2 0 _ rfl).1 L (fun j => .int (g a j))) (fun q => by cases q) (by show ¬ (i < 0 ∨ (arrV _ _ _).slots.size ≤ _); rw [arrV_size]; exact hin) (by show (arrV _ _ _).slots[_]? = _; rw [arrV_read _ _ hlt]) rfl rfl hdg kk
theorem r_ldb (hx : p.tables.exec = Jvm.exec) (hb : c.code = cc) (hK : va_K G.1 cl0 (tys0 G) s) (hR : Rep G sh g gl gr n H) {L : Nat} (hs : sh a = (2, L)) {i : Int32} {v : Int32} (h : ldI g a L i = some v) (hdg : decode cc pc = .ok (.baload, 1))
    (kk : W p l e R s m args below meth c H locs cells slots Q (F0 m (pc + 1) ls (.int v :: rest))) : W p l e R s m args below meth c H locs cells slots Q (F0 m pc ls (.int i :: .ref (adr G a) :: rest)) := by
  obtain ⟨hin, rfl⟩ := ldI_s h
  have hlt : i.toNatClampNeg < L := Nat.not_le.mp fun q => hin (Or.inr q)
  exact W.bald (v := .int (g a i.toNatClampNeg)) hx hb (hR.arr hs (by decide) (by decide)) ((hK.2 1 _ rfl).1 L (fun j => .int (g a j))) (fun q => by cases q) (by show ¬ (i < 0 ∨ (arrV _ _ _).slots.size ≤ _); rw [arrV_size]; exact hin) (by show (arrV _ _ _).slots[_]? = _; rw [arrV_read _ _ hlt]) rfl rfl hdg kk
theorem r_lds (hx : p.tables.exec = Jvm.exec) (hb : c.code = cc) (hK : va_K G.1 cl0 (tys0 G) s) (hR : Rep G sh g gl gr n H) {L : Nat} (hs : sh a = (3, L)) {i : Int32} {v : Int32} (h : ldI g a L i = some v) (hdg : decode cc pc = .ok (.saload, 1))
    (kk : W p l e R s m args below meth c H locs cells slots Q (F0 m (pc + 1) ls (.int v :: rest))) : W p l e R s m args below meth c H locs cells slots Q (F0 m pc ls (.int i :: .ref (adr G a) :: rest)) := by
  obtain ⟨hin, rfl⟩ := ldI_s h
  have hlt : i.toNatClampNeg < L := Nat.not_le.mp fun q => hin (Or.inr q)
  exact W.sald (v := .int (g a i.toNatClampNeg)) hx hb (hR.arr hs (by decide) (by decide)) ((hK.2 2 _ rfl).1 L (fun j => .int (g a j))) (fun q => by cases q) (by show ¬ (i < 0 ∨ (arrV _ _ _).slots.size ≤ _); rw [arrV_size]; exact hin) (by show (arrV _ _ _).slots[_]? = _; rw [arrV_read _ _ hlt]) rfl rfl hdg kk
theorem r_ldl (hx : p.tables.exec = Jvm.exec) (hb : c.code = cc) (hK : va_K G.1 cl0 (tys0 G) s) (hR : Rep G sh g gl gr n H) {L : Nat} (hs : sh a = (4, L)) {i : Int32} {v : Int64} (h : ldL gl a L i = some v) (hdg : decode cc pc = .ok (.laload, 1))
    (kk : W p l e R s m args below meth c H locs cells slots Q (F0 m (pc + 1) ls (.long v :: rest))) : W p l e R s m args below meth c H locs cells slots Q (F0 m pc ls (.int i :: .ref (adr G a) :: rest)) := by
  obtain ⟨hin, rfl⟩ := ldL_s h
  have hlt : i.toNatClampNeg < L := Nat.not_le.mp fun q => hin (Or.inr q)
  exact W.lald (v := .long (gl a i.toNatClampNeg)) hx hb (hR.arr hs (by decide) (by decide)) ((hK.2 3 _ rfl).1 L (fun j => .long (gl a j))) (fun q => by cases q) (by show ¬ (i < 0 ∨ (arrV _ _ _).slots.size ≤ _); rw [arrV_size]; exact hin) (by show (arrV _ _ _).slots[_]? = _; rw [arrV_read _ _ hlt]) rfl rfl hdg kk
theorem r_sti (hx : p.tables.exec = Jvm.exec) (hb : c.code = cc) (hK : va_K G.1 cl0 (tys0 G) s) (hR : Rep G sh g gl gr n H) (hS : va_S (own G) s.heap H locs) {L : Nat} (hs : sh a = (1, L)) {i : Int32} {v : Int32} {g1 : GM} (h : stI g a L i v = some g1) (hdg : decode cc pc = .ok (.iastore, 1))
    (kk : ∀ (H1 : Heap) (locs1 : List Loc), Rep G sh g1 gl gr n H1 → va_S (own G) s.heap H1 locs1 → W p l e R s m args below meth c H1 locs1 cells slots Q (F0 m (pc + 1) ls rest)) : W p l e R s m args below meth c H locs cells slots Q (F0 m pc ls (.int v :: .int i :: .ref (adr G a) :: rest)) := by
  obtain ⟨hin, rfl⟩ := stI_s h
  refine W.iast hx hb (hR.arr hs (by decide) (by decide)) ((hK.2 0 _ rfl).1 L (fun j => .int (g a j))) (fun q => by cases q) (by show ¬ (i < 0 ∨ (arrV _ _ _).slots.size ≤ _); rw [arrV_size]; exact hin) rfl rfl hdg fun H1 e z oq => ?_
  refine kk H1 _ (hR.set hs (by decide) z oq (fun b hb2 => pI_ne g _ _ hb2) (fun _ _ => rfl) (fun _ _ => rfl) (cOKa (by decide) ?_)) (hS.put z oq (own_adr hR hs (by decide)))
  rw [e]
  show some ((vp_cell _ (L, .inl (g a))).setSlot _ _) = some (vp_cell _ (L, .inl (pI g a i.toNatClampNeg v a)))
  rw [vp_cell_i, vp_cell_i, arrV_store, pI_self]
  congr 2
  funext q
  by_cases hq : q = i.toNatClampNeg
  · subst hq
    simp [updV, upd, vp_nar]
    try rfl
  · simp [updV, upd, hq]
theorem r_stb (hx : p.tables.exec = Jvm.exec) (hb : c.code = cc) (hK : va_K G.1 cl0 (tys0 G) s) (hR : Rep G sh g gl gr n H) (hS : va_S (own G) s.heap H locs) {L : Nat} (hs : sh a = (2, L)) {i : Int32} {v : Int32} {g1 : GM} (h : stI g a L i (vp_nar .byte v) = some g1) (hdg : decode cc pc = .ok (.bastore, 1))
    (kk : ∀ (H1 : Heap) (locs1 : List Loc), Rep G sh g1 gl gr n H1 → va_S (own G) s.heap H1 locs1 → W p l e R s m args below meth c H1 locs1 cells slots Q (F0 m (pc + 1) ls rest)) : W p l e R s m args below meth c H locs cells slots Q (F0 m pc ls (.int v :: .int i :: .ref (adr G a) :: rest)) := by
  obtain ⟨hin, rfl⟩ := stI_s h
  refine W.bast hx hb (hR.arr hs (by decide) (by decide)) ((hK.2 1 _ rfl).1 L (fun j => .int (g a j))) (fun q => by cases q) (by show ¬ (i < 0 ∨ (arrV _ _ _).slots.size ≤ _); rw [arrV_size]; exact hin) rfl rfl hdg fun H1 e z oq => ?_
  refine kk H1 _ (hR.set hs (by decide) z oq (fun b hb2 => pI_ne g _ _ hb2) (fun _ _ => rfl) (fun _ _ => rfl) (cOKa (by decide) ?_)) (hS.put z oq (own_adr hR hs (by decide)))
  rw [e]
  show some ((vp_cell _ (L, .inl (g a))).setSlot _ _) = some (vp_cell _ (L, .inl (pI g a i.toNatClampNeg (vp_nar .byte v) a)))
  rw [vp_cell_i, vp_cell_i, arrV_store, pI_self]
  congr 2
  funext q
  by_cases hq : q = i.toNatClampNeg
  · subst hq
    simp [updV, upd, vp_nar]
    try rfl
  · simp [updV, upd, hq]
theorem r_sts (hx : p.tables.exec = Jvm.exec) (hb : c.code = cc) (hK : va_K G.1 cl0 (tys0 G) s) (hR : Rep G sh g gl gr n H) (hS : va_S (own G) s.heap H locs) {L : Nat} (hs : sh a = (3, L)) {i : Int32} {v : Int32} {g1 : GM} (h : stI g a L i (vp_nar .short v) = some g1) (hdg : decode cc pc = .ok (.sastore, 1))
    (kk : ∀ (H1 : Heap) (locs1 : List Loc), Rep G sh g1 gl gr n H1 → va_S (own G) s.heap H1 locs1 → W p l e R s m args below meth c H1 locs1 cells slots Q (F0 m (pc + 1) ls rest)) : W p l e R s m args below meth c H locs cells slots Q (F0 m pc ls (.int v :: .int i :: .ref (adr G a) :: rest)) := by
  obtain ⟨hin, rfl⟩ := stI_s h
  refine W.sast hx hb (hR.arr hs (by decide) (by decide)) ((hK.2 2 _ rfl).1 L (fun j => .int (g a j))) (fun q => by cases q) (by show ¬ (i < 0 ∨ (arrV _ _ _).slots.size ≤ _); rw [arrV_size]; exact hin) rfl rfl hdg fun H1 e z oq => ?_
  refine kk H1 _ (hR.set hs (by decide) z oq (fun b hb2 => pI_ne g _ _ hb2) (fun _ _ => rfl) (fun _ _ => rfl) (cOKa (by decide) ?_)) (hS.put z oq (own_adr hR hs (by decide)))
  rw [e]
  show some ((vp_cell _ (L, .inl (g a))).setSlot _ _) = some (vp_cell _ (L, .inl (pI g a i.toNatClampNeg (vp_nar .short v) a)))
  rw [vp_cell_i, vp_cell_i, arrV_store, pI_self]
  congr 2
  funext q
  by_cases hq : q = i.toNatClampNeg
  · subst hq
    simp [updV, upd, vp_nar]
    try rfl
  · simp [updV, upd, hq]
theorem r_stl (hx : p.tables.exec = Jvm.exec) (hb : c.code = cc) (hK : va_K G.1 cl0 (tys0 G) s) (hR : Rep G sh g gl gr n H) (hS : va_S (own G) s.heap H locs) {L : Nat} (hs : sh a = (4, L)) {i : Int32} {v : Int64} {g1 : LM} (h : stL gl a L i v = some g1) (hdg : decode cc pc = .ok (.lastore, 1))
    (kk : ∀ (H1 : Heap) (locs1 : List Loc), Rep G sh g g1 gr n H1 → va_S (own G) s.heap H1 locs1 → W p l e R s m args below meth c H1 locs1 cells slots Q (F0 m (pc + 1) ls rest)) : W p l e R s m args below meth c H locs cells slots Q (F0 m pc ls (.long v :: .int i :: .ref (adr G a) :: rest)) := by
  obtain ⟨hin, rfl⟩ := stL_s h
  refine W.last hx hb (hR.arr hs (by decide) (by decide)) ((hK.2 3 _ rfl).1 L (fun j => .long (gl a j))) (fun q => by cases q) (by show ¬ (i < 0 ∨ (arrV _ _ _).slots.size ≤ _); rw [arrV_size]; exact hin) rfl rfl hdg fun H1 e z oq => ?_
  refine kk H1 _ (hR.set hs (by decide) z oq (fun _ _ => rfl) (fun b hb2 => pL_ne gl _ _ hb2) (fun _ _ => rfl) (cOKa (by decide) ?_)) (hS.put z oq (own_adr hR hs (by decide)))
  rw [e]
  show some ((vp_cell _ (L, .inr (.inl (gl a)))).setSlot _ _) = some (vp_cell _ (L, .inr (.inl (pL gl a i.toNatClampNeg v a))))
  rw [vp_cell_l, vp_cell_l, arrV_store, pL_self]
  congr 2
  funext q
  by_cases hq : q = i.toNatClampNeg
  · subst hq
    simp [updV, vp_updL, vp_nar]
    try rfl
  · simp [updV, vp_updL, hq]
theorem r_putR (hx : p.tables.exec = Jvm.exec) (hb : c.code = cc) {ow ref C : String} {T : u_T} {N ci index : Nat} {ty : Nat → FieldType} (hts : ∀ w ∈ lw_all, w.before args s = true) (hC : ClF ci C T N ty) (hown : s.vm.findClass ow = some m.cls) (hK : va_K G.1 cl0 (tys0 G) s) (hR : Rep G sh g gl gr n H) (hS : va_S (own G) s.heap H locs) {L : Nat} (hs : sh a = (20 + ci, L)) (k : Nat) (hk : k < N) (hir : isr ci k = true)
    (hlink : (Cond.fieldLink ow index ref (T k).2.1 (T k).2.2.1).before args s = true) (hsame : ∀ x, s.fieldFound? (T k).1 (T k).2.1 (T k).2.2.1 = some x → s.fieldFound? ref (T k).2.1 (T k).2.2.1 = some x) (hfin : (T k).2.2.2 = false ∨ ((T k).2.2.2 = true ∧ meth.name = "<init>" ∧ (T k).1 = ow)) (v : Option Nat) {V : Value} (hV : V = va_rf (v.map (adr G))) (hn : narrow (ty k) V = V) (hfit : fits (ty k) V = true) {gr1 : RM} (he : puR gr a k v = some gr1)
    (hdg : decode cc pc = .ok (.putfield index, 3)) (kk : ∀ (H1 : Heap) (locs1 : List Loc), Rep G sh g gl gr1 n H1 → va_S (own G) s.heap H1 locs1 → W p l e R s m args below meth c H1 locs1 cells slots Q (F0 m (pc + 3) ls rest)) : W p l e R s m args below meth c H locs cells slots Q (F0 m pc ls (V :: .ref (adr G a) :: rest)) := by
  cases he
  exact r_putr hx hb hts hC hown hK hR hS hs k hk hir hlink hsame hfin v hV hn hfit hdg kk
theorem r_putRN (hx : p.tables.exec = Jvm.exec) (hb : c.code = cc) {ow ref C host : String} {T : u_T} {N ci index : Nat} {ty : Nat → FieldType} (hts : ∀ w ∈ lw_all, w.before args s = true) (hC : ClF ci C T N ty) (hown : s.vm.findClass ow = some m.cls) (hK : va_K G.1 cl0 (tys0 G) s) (hR : Rep G sh g gl gr n H) (hS : va_S (own G) s.heap H locs) {L : Nat} (hs : sh a = (20 + ci, L)) (k : Nat) (hk : k < N) (hir : isr ci k = true)
    (hlink : (Cond.fieldLinkNest ow index ref (T k).2.1 (T k).2.2.1 host).before args s = true) (hsame : ∀ x, s.fieldFound? (T k).1 (T k).2.1 (T k).2.2.1 = some x → s.fieldFound? ref (T k).2.1 (T k).2.2.1 = some x) (hfin : (T k).2.2.2 = false) (v : Option Nat) {V : Value} (hV : V = va_rf (v.map (adr G))) (hn : narrow (ty k) V = V) (hfit : fits (ty k) V = true) {gr1 : RM} (he : puR gr a k v = some gr1)
    (hdg : decode cc pc = .ok (.putfield index, 3)) (kk : ∀ (H1 : Heap) (locs1 : List Loc), Rep G sh g gl gr1 n H1 → va_S (own G) s.heap H1 locs1 → W p l e R s m args below meth c H1 locs1 cells slots Q (F0 m (pc + 3) ls rest)) : W p l e R s m args below meth c H locs cells slots Q (F0 m pc ls (V :: .ref (adr G a) :: rest)) := by
  cases he
  exact r_putrN hx hb hts hC hown hK hR hS hs k hk hir hlink hsame hfin v hV hn hfit hdg kk
end MR
