/-! ROWS: System.arraycopy of ints; super.m(..) -/
def pA (g : GM) (a : Nat) (f : Nat → Int32) : GM := fun b => if b = a then f else g b
def cpI (g : GM) (a La b Lb : Nat) (sp dp k : Int32) : Option GM := if sp < 0 ∨ dp < 0 ∨ k < 0 ∨ La < sp.toNatClampNeg + k.toNatClampNeg ∨ Lb < dp.toNatClampNeg + k.toNatClampNeg then none else some (pA g b (va_cpy (g a) (g b) sp.toNatClampNeg dp.toNatClampNeg k.toNatClampNeg))
theorem cpI_s {g g1 : GM} {a La b Lb : Nat} {sp dp k : Int32} (h : cpI g a La b Lb sp dp k = some g1) : ¬ sp < 0 ∧ ¬ dp < 0 ∧ ¬ k < 0 ∧ sp.toNatClampNeg + k.toNatClampNeg ≤ La ∧ dp.toNatClampNeg + k.toNatClampNeg ≤ Lb ∧ g1 = pA g b (va_cpy (g a) (g b) sp.toNatClampNeg dp.toNatClampNeg k.toNatClampNeg) := by
  unfold cpI at h
  by_cases hc : sp < 0 ∨ dp < 0 ∨ k < 0 ∨ La < sp.toNatClampNeg + k.toNatClampNeg ∨ Lb < dp.toNatClampNeg + k.toNatClampNeg
  · rw [if_pos hc] at h; cases h
  · rw [if_neg hc] at h; cases h
    simp only [not_or, Nat.not_lt] at hc
    exact ⟨hc.1, hc.2.1, hc.2.2.1, hc.2.2.2.1, hc.2.2.2.2, rfl⟩
theorem tx_put {gr gr1 : RM} (e : puR gr 109 4 (some 108) = some gr1) : gr1 109 4 = some 108 := by
  cases e
  rw [pR_self]
  exact if_pos rfl
section MC4
variable {p : Program} {l : Launch} {e : Env} {R : Room} {s : State} {m : MethodId} {args : Array Value} {below : List Frame} {meth : Method} {c : Code} {H : Heap} {locs : List Loc} {cells slots : Nat} {Q : State → Prop}
variable {cc : ByteArray} {pc : Nat} {ls : Array Slot} {rest st0 st1 : List Value} {G : Gx} {sh : SM} {g : GM} {gl : LM} {gr : RM} {n : Nat} {a : Nat}
theorem r_acp (hexec : p.tables.exec = Jvm.exec) (hb : c.code = cc) (hml : c.maxLocals = ls.size) {own0 : String} {index : Nat} (hown : s.vm.findClass own0 = some m.cls) (hlink : (Cond.methodLink own0 index arraycopyName).before args s = true) (hnat : (Cond.native arraycopyName).before args s = true) (hstat : (Cond.static arraycopyName).before args s = true) (hini : (Cond.initialized "java/lang/System").before args s = true)
    (hK : va_K G.1 cl0 (tys0 G) s) (hR : Rep G sh g gl gr n H) (hS : va_S (own G) s.heap H locs) {a0 n0 n1 : Nat} (hs0 : sh a0 = (1, n0)) (hs1 : sh a = (1, n1)) {sp dp k : Int32} {g1 : GM} (he : cpI g a0 n0 a n1 sp dp k = some g1)
    (hframes : 1 ≤ R.frames) (hlocals : (rest.map fun v => v.category).sum + (nativeFrameWords "java/lang/System" "arraycopy" 5 + 11) ≤ R.locals) (hdg : decode cc pc = .ok (.invokestatic index, 3))
    (kk : ∀ (H1 : Heap) (locs1 : List Loc), Rep G sh g1 gl gr n H1 → va_S (own G) s.heap H1 locs1 → W p l e R s m args below meth c H1 locs1 cells slots Q (F0 m (pc + 3) ls rest)) : W p l e R s m args below meth c H locs cells slots Q (F0 m pc ls (.int k :: .int dp :: .ref (adr G a) :: .int sp :: .ref (adr G a0) :: rest)) := by
  obtain ⟨h1, h2, h3, h4, h5, rfl⟩ := cpI_s he
  have nn : ∀ z : Int32, ¬ z < 0 → z.toInt = (z.toNatClampNeg : Int) := by
    intro z hz
    have hz0 : (0 : Int) ≤ z.toInt := by
      have := Int32.not_lt.mp hz
      simpa using Int32.le_iff_toInt_le.mp this
    show z.toInt = ((z.toInt.toNat : Nat) : Int)
    omega
  intro T hT X
  have hc0 : H[adr G a0]? = some (vp_cell (G.2.1 1) (n0, .inl (g a0))) := hR.arr hs0 (by decide) (by decide)
  have hc1 : H[adr G a]? = some (vp_cell (G.2.1 1) (n1, .inl (g a))) := hR.arr hs1 (by decide) (by decide)
  obtain ⟨-, k0, hk0, cm0, hkk0⟩ := (hK.2 0 _ rfl).1 n0 (fun j => .int (g a0 j))
  obtain ⟨-, k1, hk1, cm1, hkk1⟩ := (hK.2 0 _ rfl).1 n1 (fun j => .int (g a j))
  obtain ⟨vm', X', step⟩ := X.arraycopy hexec hown hlink hnat hstat hini (src := adr G a0) (dst := adr G a) (cs := vp_cell (G.2.1 1) (n0, .inl (g a0))) (cd := vp_cell (G.2.1 1) (n1, .inl (g a))) (srcPos := sp) (destPos := dp) (n := k) (by rw [hT]; exact hc0) (by rw [hT]; exact hc1)
    (fun _ h => by cases h) (fun _ h => by cases h) (fun h => by cases h) (fun h => by cases h) hk0 hk1 hkk0 hkk1 (by simp [refKind]) h1 h2 h3
    (by rw [nn sp h1, nn k h3]; show ¬ _ > ((arrV (G.2.1 1) n0 (fun j => .int (g a0 j))).slots.size : Int); rw [arrV_size]; omega)
    (by rw [nn dp h2, nn k h3]; show ¬ _ > ((arrV (G.2.1 1) n1 (fun j => .int (g a j))).slots.size : Int); rw [arrV_size]; omega)
    (fun vm₁ _ i hi => by
      have e : (vp_cell (G.2.1 1) (n0, .inl (g a0))).slots.getD (sp.toNatClampNeg + i) .null = .int (g a0 (sp.toNatClampNeg + i)) := by
        show (arrV (G.2.1 1) n0 (fun j => .int (g a0 j))).slots.getD _ _ = _
        rw [Array.getD_eq_getD_getElem?, arrV_read _ _ (by omega)]
        rfl
      refine ⟨?_, ?_⟩
      · rw [e]
        rfl
      · rw [e]
        exact trivial)
    (g := F0 m pc ls (.int k :: .int dp :: .ref (adr G a) :: .int sp :: .ref (adr G a0) :: rest)) rfl (by rw [hml]) (rest := rest) rfl (by rw [hb]; exact hdg) hframes (by show 2 * 0 + _ + _ ≤ _; omega)
  have e1 : copied (vp_cell (G.2.1 1) (n0, .inl (g a0))) (vp_cell (G.2.1 1) (n1, .inl (g a))) sp dp k = vp_cell (G.2.1 1) (n1, .inl (va_cpy (g a0) (g a) sp.toNatClampNeg dp.toNatClampNeg k.toNatClampNeg)) := va_copied (fun z => .int z) (G.2.1 1) (G.2.1 1) (g a0) (g a) h4
  rw [e1] at X' step
  have hl : adr G a < H.size := (Array.getElem?_eq_some_iff.mp hc1).1
  generalize hC : vp_cell (G.2.1 1) (n1, .inl (va_cpy (g a0) (g a) sp.toNatClampNeg dp.toNatClampNeg k.toNatClampNeg)) = C9 at X' step
  have hheap : ((T.setVm vm').setCell (adr G a) C9).heap = H.setIfInBounds (adr G a) C9 := by rw [← hT]; rfl
  have oq : ∀ q : Nat, q ≠ adr G a → (H.setIfInBounds (adr G a) C9)[q]? = H[q]? := fun q hq => by simp [Array.getElem?_setIfInBounds, Ne.symm hq]
  have hzz : (H.setIfInBounds (adr G a) C9).size = H.size := by simp
  obtain ⟨t, a1, b1⟩ := kk _ _ (hR.set hs1 (by decide) hzz oq (fun b hb2 => if_neg hb2) (fun _ _ => rfl) (fun _ _ => rfl) (cOKa (by decide) (by
      rw [show pA g a (va_cpy (g a0) (g a) sp.toNatClampNeg dp.toNatClampNeg k.toNatClampNeg) a = va_cpy (g a0) (g a) sp.toNatClampNeg dp.toNatClampNeg k.toNatClampNeg from if_pos rfl]
      show (H.setIfInBounds (adr G a) C9)[adr G a]? = some (vp_cell (G.2.1 1) (n1, .inl _))
      rw [hC]
      simp [Array.getElem?_setIfInBounds, hl]))) ⟨by rw [hzz]; exact hS.1, fun q g1 g2 => by
      rw [oq q (fun e => g2 (by rw [e]; exact own_adr hR hs1 (by decide)))]
      exact hS.2.1 q g1 g2, fun q hq => by
      rcases List.mem_append.mp hq with h | h
      · exact hS.2.2 q h
      · obtain ⟨z, -, hz⟩ := List.mem_map.mp h
        rw [← hz]
        exact own_adr hR hs1 (by decide)⟩ _ hheap X'
  exact ⟨t, step t a1, b1⟩
theorem lw_SU {ow : String} {idx : Nat} {y : MethodName} {b : ByteArray} {L : Nat} {r : Option FieldType} (h1 : Cond.methodLink ow idx y ∈ lw_all) (h2 : Cond.sameMethod y.cls y.cls y.name y.desc ∈ lw_all) (h3 : Cond.superclass ow y.cls ∈ lw_all) (h4 : Cond.instanceMethod y ∈ lw_all) (h5 : Cond.initialized y.cls ∈ lw_all) (h6 : Cond.code y b L r ∈ lw_all) : GoodIn lw_all (va_wsSU ow idx y (ws_ y b L r)) := by
  refine lw_app ?_ (lw_meth h6)
  intro w hw
  simp only [List.mem_cons, List.not_mem_nil, or_false] at hw
  rcases hw with e | e | e | e | e
  · rw [e]; exact h1
  · rw [e]; exact h2
  · rw [e]; exact h3
  · rw [e]; exact h4
  · rw [e]; exact h5
variable {v : Option Value} {sh1 : SM} {g1 : GM} {gl1 : LM} {gr1 : RM} {n1 nL k maxL index : Nat} {y : MethodName} {bytes : ByteArray} {ret : Option FieldType} {rm : Room} {As : List Value} {own0 C : String}
theorem rc_SU0 {ci L : Nat} {q : vw_C} (hc : cl0[ci]? = some q) (S : CallFix p m c cc nL s args lw_all own0) (hM : MetI l G y (ws_ y bytes maxL ret) rm (.ref (adr G a) :: As) sh g gl gr n v sh1 g1 gl1 gr1 n1) (cw : va_CS R s args own0 index y bytes maxL ret (ws_ y bytes maxL ret) rm rm.cells rm.slots k)
    (hs : sh a = (20 + ci, L)) (hK : va_K G.1 cl0 (tys0 G) s) (hW : Wld G s) (hR : Rep G sh g gl gr n H) (hS : va_S (own G) s.heap H locs) (hn : As.length = k) (hz : ls.size = nL) (hst : st0 = As.reverse ++ .ref (adr G a) :: rest) (hrm : (rest.map fun v => v.category).sum ≤ 8) (h1 : v.toList ++ rest = st1) (hdg : decode cc pc = .ok (.invokespecial index, 3)) (h0 : rm.cells = 0 ∧ rm.slots = 0) (hf : cells ≤ R.cells ∧ slots ≤ R.slots)
    (kk : ∀ (H1 : Heap) (locs1 : List Loc), Rep G sh1 g1 gl1 gr1 n1 H1 → va_S (own G) s.heap H1 locs1 → W p l e R s m args below meth c H1 locs1 cells slots Q (F0 m (pc + 3) ls st1)) : W p l e R s m args below meth c H locs cells slots Q (F0 m pc ls st0) := by
  have hrecv : ∃ cellB : Cell, H[adr G a]? = some cellB ∧ cellB.vm.isStatics = false ∧ s.vm.findClass q.1 = some cellB.cls := by
    obtain ⟨r, h1, cell, q1, q2, q3, q4⟩ := hR.obj hs
    have hr : r = q := Option.some.inj (h1.symm.trans hc)
    subst hr
    exact ⟨cell, q1, by rw [q3]; rfl, by rw [q2]; exact (hK.1 ci _ hc).2.1⟩
  exact rc_run (va_runSU (g := F0 m pc ls st0) (hK.1 ci _ hc).2 S hM cw ⟨blindI, hrecv, fun U hU hWm => ⟨rfl, hW.warm hWm, by rw [hU]; exact hR⟩⟩ rfl hn hz hst (lv_room hrm) hdg (by rw [h0.1, h0.2]; exact hf)) hS (by rw [h0.1, h0.2, h1]; exact kk)
/-- one of the six ways -/
def isWay (w : Nat) : Prop := w = 102 ∨ w = 103 ∨ w = 104 ∨ w = 105 ∨ w = 106 ∨ w = 107
theorem way_sh {w : Nat} (h : Sk sh gr) (hw : isWay w) : ∃ (ci : Nat) (q : vw_C), cl0[ci]? = some q ∧ sh w = (20 + ci, 0) := by
  rcases hw with rfl | rfl | rfl | rfl | rfl | rfl
  · exact ⟨2, _, rfl, sk_102 h⟩
  · exact ⟨3, _, rfl, sk_103 h⟩
  · exact ⟨4, _, rfl, sk_104 h⟩
  · exact ⟨5, _, rfl, sk_105 h⟩
  · exact ⟨6, _, rfl, sk_106 h⟩
  · exact ⟨7, _, rfl, sk_107 h⟩
end MC4
