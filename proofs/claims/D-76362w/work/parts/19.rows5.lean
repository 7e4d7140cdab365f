/-! what is cast to what -/
theorem and_bef {a b : Cond} {av : Array Value} {s : State} (h : (Cond.and a b).before av s = true) : a.before av s = true ∧ b.before av s = true := by rw [Cond.before_and, Bool.and_eq_true] at h; exact h
def pick : List Bool → Cond → Cond
  | [], c => c
  | b :: p, .and x y => if b then pick p x else pick p y
  | _ :: _, _ => .tt
theorem pick_ok {av : Array Value} {s : State} : ∀ (p : List Bool) (c : Cond), c.before av s = true → (pick p c).before av s = true
  | [], _, h => h
  | b :: p, c, h => by
    cases c with
    | and x y =>
      have h2 := and_bef h
      show (if b then pick p x else pick p y).before av s = true
      cases b
      · exact pick_ok p y h2.2
      · exact pick_ok p x h2.1
    | _ => rfl
theorem Wld.nas {G : Gx} {s : State} {C T : String} (hW : Wld G s) (p : List Bool) (h : pick p narrow_1 = .not (.castable C T)) : va_Nc C T s := by
  obtain ⟨⟨av, -, hn, -⟩, hw⟩ := hW
  have h1 := pick_ok p _ (and_bef hn).2
  rw [h] at h1
  exact va_Nc.moved hw.alike (va_Nc.of h1)
def va_Yc (C T : String) (U : State) : Prop := ∃ c t : ClassId, U.vm.findClass C = some c ∧ U.vm.findClass T = some t ∧ U.vm.assignable c t = true
theorem Wld.cab {G : Gx} {s : State} {C T : String} (hW : Wld G s) {args : Array Value} (hw : Cond.castable C T ∈ lw_tbl) : (Cond.castable C T).before args s = true := by
  obtain ⟨⟨av, ht, -⟩, hv⟩ := hW
  exact va_Nw.use rfl (va_Nw.warmC hv (va_Nw.of rfl (ht _ hw)))
theorem Wld.yas {G : Gx} {s : State} {C T : String} (hW : Wld G s) (hw : Cond.castable C T ∈ lw_tbl) : va_Yc C T s := by
  obtain ⟨⟨av, ht, -⟩, hv⟩ := hW
  have h := va_Nw.warmC hv (va_Nw.of rfl (ht _ hw))
  exact Cond.castable_spec (va_Nw.use (A := #[]) rfl h)
def thn (c : Nat) : String := match c with
  | 1 => "[I"
  | 2 => "[B"
  | 3 => "[S"
  | 4 => "[J"
  | 36 => "IntentVats$AnyOne"
  | 37 => "IntentVats$WoolOne"
  | 38 => "IntentVats$LinenOne"
  | 39 => "IntentVats$FeltOne"
  | 40 => "IntentVats$ShroudOne"
  | 41 => "IntentVats$MuslinOne"
  | 42 => "IntentVats$Dries"
  | _ => ""
def cst (c t : Nat) : Bool := (c == t) || match t with
  | 36 => 36 ≤ c && c ≤ 41
  | 37 => c == 39
  | 38 => c == 40
  | 42 => 36 ≤ c && c ≤ 41
  | _ => false
abbrev isArr (sh : SM) (a : Nat) : Prop := 1 ≤ (sh a).1 ∧ (sh a).1 ≤ 4
abbrev isOne (sh : SM) (a : Nat) : Prop := 36 ≤ (sh a).1 ∧ (sh a).1 ≤ 41
abbrev isThing (sh : SM) (a : Nat) : Prop := isArr sh a ∨ isOne sh a
section THG
variable {G : Gx} {s : State} {sh : SM} {g : GM} {gl : LM} {gr : RM} {n a : Nat} {H : Heap}
theorem thg_arr (hK : va_K G.1 cl0 (tys0 G) s) (hR : Rep G sh g gl gr n H) {c : Nat} (hc : (sh a).1 = c) (h0 : c ≠ 0) (h20 : c < 20) {nm : String} (hf : s.vm.findClass nm = some (G.2.1 c)) : ∃ cell : Cell, H[adr G a]? = some cell ∧ cell.vm.isStatics = false ∧ s.vm.findClass nm = some cell.cls := by
  have hA := hR.arr (a := a) (c := c) (L := (sh a).2) (by rw [← hc]) h0 h20
  obtain ⟨z, hz⟩ := vp_cell_arr (G.2.1 c) ((sh a).2, pay G c (g a) (gl a) (gr a))
  rw [hz] at hA
  exact ⟨_, hA, rfl, hf⟩
theorem thg_obj (hK : va_K G.1 cl0 (tys0 G) s) (hR : Rep G sh g gl gr n H) {c ci : Nat} (hc : (sh a).1 = c) (he : c = 20 + ci) {q : vw_C} (hq : cl0[ci]? = some q) : ∃ cell : Cell, H[adr G a]? = some cell ∧ cell.vm.isStatics = false ∧ s.vm.findClass q.1 = some cell.cls := by
  subst he
  obtain ⟨r, h1, cell, q1, q2, q3, q4⟩ := hR.obj (a := a) (ci := ci) (N := (sh a).2) (by rw [← hc])
  cases h1.symm.trans hq
  exact ⟨cell, q1, by rw [q3]; rfl, by rw [q2]; exact (hK.1 ci _ hq).2.1⟩
theorem fca (hK : va_K G.1 cl0 (tys0 G) s) : s.vm.findClass "[I" = some (G.2.1 1) ∧ s.vm.findClass "[B" = some (G.2.1 2) ∧ s.vm.findClass "[S" = some (G.2.1 3) ∧ s.vm.findClass "[J" = some (G.2.1 4) := ⟨(hK.2 0 _ rfl).2, (hK.2 1 _ rfl).2, (hK.2 2 _ rfl).2, (hK.2 3 _ rfl).2⟩
theorem r_thing (hK : va_K G.1 cl0 (tys0 G) s) (hR : Rep G sh g gl gr n H) (h : isThing sh a) : ∃ cell : Cell, H[adr G a]? = some cell ∧ cell.vm.isStatics = false ∧ s.vm.findClass (thn (sh a).1) = some cell.cls := by
  have h2 : (sh a).1 = 1 ∨ (sh a).1 = 2 ∨ (sh a).1 = 3 ∨ (sh a).1 = 4 ∨ (sh a).1 = 36 ∨ (sh a).1 = 37 ∨ (sh a).1 = 38 ∨ (sh a).1 = 39 ∨ (sh a).1 = 40 ∨ (sh a).1 = 41 := by omega
  rcases h2 with h2 | h2 | h2 | h2 | h2 | h2 | h2 | h2 | h2 | h2
  · rw [h2]; exact thg_arr hK hR h2 (by decide) (by decide) (fca hK).1
  · rw [h2]; exact thg_arr hK hR h2 (by decide) (by decide) (fca hK).2.1
  · rw [h2]; exact thg_arr hK hR h2 (by decide) (by decide) (fca hK).2.2.1
  · rw [h2]; exact thg_arr hK hR h2 (by decide) (by decide) (fca hK).2.2.2
  · rw [h2]; exact thg_obj (ci := 16) hK hR h2 rfl rfl
  · rw [h2]; exact thg_obj (ci := 17) hK hR h2 rfl rfl
  · rw [h2]; exact thg_obj (ci := 18) hK hR h2 rfl rfl
  · rw [h2]; exact thg_obj (ci := 19) hK hR h2 rfl rfl
  · rw [h2]; exact thg_obj (ci := 20) hK hR h2 rfl rfl
  · rw [h2]; exact thg_obj (ci := 21) hK hR h2 rfl rfl
theorem yc_refl {C : String} {c : ClassId} (h : s.vm.findClass C = some c) : va_Yc C C s := ⟨c, c, h, h, va_asg _ _⟩
theorem thc_1 (hW : Wld G s) (hK : va_K G.1 cl0 (tys0 G) s) (h : isThing sh a) : (cst (sh a).1 1 = true → va_Yc (thn (sh a).1) "[I" s) ∧ (¬ cst (sh a).1 1 = true → va_Nc (thn (sh a).1) "[I" s) := by
  have h2 : (sh a).1 = 1 ∨ (sh a).1 = 2 ∨ (sh a).1 = 3 ∨ (sh a).1 = 4 ∨ (sh a).1 = 36 ∨ (sh a).1 = 37 ∨ (sh a).1 = 38 ∨ (sh a).1 = 39 ∨ (sh a).1 = 40 ∨ (sh a).1 = 41 := by omega
  rcases h2 with h2 | h2 | h2 | h2 | h2 | h2 | h2 | h2 | h2 | h2
  · rw [h2]; exact ⟨fun _ => yc_refl (fca hK).1, fun q => absurd rfl q⟩
  · rw [h2]; exact ⟨fun q => absurd q (by decide), fun _ => hW.nas [true, false, false, false, true, false, false, true, false, true] rfl⟩
  · rw [h2]; exact ⟨fun q => absurd q (by decide), fun _ => hW.nas [true, false, false, false, true, false, false, false, false, true] rfl⟩
  · rw [h2]; exact ⟨fun q => absurd q (by decide), fun _ => hW.nas [true, false, false, false, true, false, false, false, false, false] rfl⟩
  · rw [h2]; exact ⟨fun q => absurd q (by decide), fun _ => hW.nas [true, false, false, false, true, false, true, false, true, true] rfl⟩
  · rw [h2]; exact ⟨fun q => absurd q (by decide), fun _ => hW.nas [true, false, false, false, true, true, false, false, false, true] rfl⟩
  · rw [h2]; exact ⟨fun q => absurd q (by decide), fun _ => hW.nas [true, false, false, false, true, true, false, false, false, false] rfl⟩
  · rw [h2]; exact ⟨fun q => absurd q (by decide), fun _ => hW.nas [true, false, false, false, true, false, true, true, true] rfl⟩
  · rw [h2]; exact ⟨fun q => absurd q (by decide), fun _ => hW.nas [true, false, false, false, true, false, true, true, false, true] rfl⟩
  · rw [h2]; exact ⟨fun q => absurd q (by decide), fun _ => hW.nas [true, false, false, false, true, false, true, true, false, false] rfl⟩
theorem thc_2 (hW : Wld G s) (hK : va_K G.1 cl0 (tys0 G) s) (h : isThing sh a) : (cst (sh a).1 2 = true → va_Yc (thn (sh a).1) "[B" s) ∧ (¬ cst (sh a).1 2 = true → va_Nc (thn (sh a).1) "[B" s) := by
  have h2 : (sh a).1 = 1 ∨ (sh a).1 = 2 ∨ (sh a).1 = 3 ∨ (sh a).1 = 4 ∨ (sh a).1 = 36 ∨ (sh a).1 = 37 ∨ (sh a).1 = 38 ∨ (sh a).1 = 39 ∨ (sh a).1 = 40 ∨ (sh a).1 = 41 := by omega
  rcases h2 with h2 | h2 | h2 | h2 | h2 | h2 | h2 | h2 | h2 | h2
  · rw [h2]; exact ⟨fun q => absurd q (by decide), fun _ => hW.nas [true, false, true, false, false, true, false, true, true, true] rfl⟩
  · rw [h2]; exact ⟨fun _ => yc_refl (fca hK).2.1, fun q => absurd rfl q⟩
  · rw [h2]; exact ⟨fun q => absurd q (by decide), fun _ => hW.nas [true, false, true, false, false, true, false, false, false, true] rfl⟩
  · rw [h2]; exact ⟨fun q => absurd q (by decide), fun _ => hW.nas [true, false, true, false, false, true, false, false, false, false] rfl⟩
  · rw [h2]; exact ⟨fun q => absurd q (by decide), fun _ => hW.nas [true, false, true, false, false, true, true, false, true, true] rfl⟩
  · rw [h2]; exact ⟨fun q => absurd q (by decide), fun _ => hW.nas [true, false, true, false, true, false, false, false, false, true] rfl⟩
  · rw [h2]; exact ⟨fun q => absurd q (by decide), fun _ => hW.nas [true, false, true, false, true, false, false, false, false, false] rfl⟩
  · rw [h2]; exact ⟨fun q => absurd q (by decide), fun _ => hW.nas [true, false, true, false, false, true, true, true, true] rfl⟩
  · rw [h2]; exact ⟨fun q => absurd q (by decide), fun _ => hW.nas [true, false, true, false, false, true, true, true, false, true] rfl⟩
  · rw [h2]; exact ⟨fun q => absurd q (by decide), fun _ => hW.nas [true, false, true, false, false, true, true, true, false, false] rfl⟩
theorem thc_3 (hW : Wld G s) (hK : va_K G.1 cl0 (tys0 G) s) (h : isThing sh a) : (cst (sh a).1 3 = true → va_Yc (thn (sh a).1) "[S" s) ∧ (¬ cst (sh a).1 3 = true → va_Nc (thn (sh a).1) "[S" s) := by
  have h2 : (sh a).1 = 1 ∨ (sh a).1 = 2 ∨ (sh a).1 = 3 ∨ (sh a).1 = 4 ∨ (sh a).1 = 36 ∨ (sh a).1 = 37 ∨ (sh a).1 = 38 ∨ (sh a).1 = 39 ∨ (sh a).1 = 40 ∨ (sh a).1 = 41 := by omega
  rcases h2 with h2 | h2 | h2 | h2 | h2 | h2 | h2 | h2 | h2 | h2
  · rw [h2]; exact ⟨fun q => absurd q (by decide), fun _ => hW.nas [true, false, false, true, true, true, false, false, true, false] rfl⟩
  · rw [h2]; exact ⟨fun q => absurd q (by decide), fun _ => hW.nas [true, false, false, true, true, false, true, true, true] rfl⟩
  · rw [h2]; exact ⟨fun _ => yc_refl (fca hK).2.2.1, fun q => absurd rfl q⟩
  · rw [h2]; exact ⟨fun q => absurd q (by decide), fun _ => hW.nas [true, false, false, true, true, false, true, false, true, false] rfl⟩
  · rw [h2]; exact ⟨fun q => absurd q (by decide), fun _ => hW.nas [true, false, false, true, true, true, false, true, true, false] rfl⟩
  · rw [h2]; exact ⟨fun q => absurd q (by decide), fun _ => hW.nas [true, false, false, true, true, true, true, false, true, true] rfl⟩
  · rw [h2]; exact ⟨fun q => absurd q (by decide), fun _ => hW.nas [true, false, false, true, true, true, true, false, true, false] rfl⟩
  · rw [h2]; exact ⟨fun q => absurd q (by decide), fun _ => hW.nas [true, false, false, true, true, true, true, false, false, true] rfl⟩
  · rw [h2]; exact ⟨fun q => absurd q (by decide), fun _ => hW.nas [true, false, false, true, true, true, true, false, false, false] rfl⟩
  · rw [h2]; exact ⟨fun q => absurd q (by decide), fun _ => hW.nas [true, false, false, true, true, true, false, true, true, true] rfl⟩
theorem thc_4 (hW : Wld G s) (hK : va_K G.1 cl0 (tys0 G) s) (h : isThing sh a) : (cst (sh a).1 4 = true → va_Yc (thn (sh a).1) "[J" s) ∧ (¬ cst (sh a).1 4 = true → va_Nc (thn (sh a).1) "[J" s) := by
  have h2 : (sh a).1 = 1 ∨ (sh a).1 = 2 ∨ (sh a).1 = 3 ∨ (sh a).1 = 4 ∨ (sh a).1 = 36 ∨ (sh a).1 = 37 ∨ (sh a).1 = 38 ∨ (sh a).1 = 39 ∨ (sh a).1 = 40 ∨ (sh a).1 = 41 := by omega
  rcases h2 with h2 | h2 | h2 | h2 | h2 | h2 | h2 | h2 | h2 | h2
  · rw [h2]; exact ⟨fun q => absurd q (by decide), fun _ => hW.nas [true, false, false, true, false, false, true, true, false, false] rfl⟩
  · rw [h2]; exact ⟨fun q => absurd q (by decide), fun _ => hW.nas [true, false, false, true, false, false, true, false, false, true] rfl⟩
  · rw [h2]; exact ⟨fun q => absurd q (by decide), fun _ => hW.nas [true, false, false, true, false, false, false, true, false, true] rfl⟩
  · rw [h2]; exact ⟨fun _ => yc_refl (fca hK).2.2.2, fun q => absurd rfl q⟩
  · rw [h2]; exact ⟨fun q => absurd q (by decide), fun _ => hW.nas [true, false, false, true, false, true, false, false, false, true] rfl⟩
  · rw [h2]; exact ⟨fun q => absurd q (by decide), fun _ => hW.nas [true, false, false, true, false, true, false, true, true, false] rfl⟩
  · rw [h2]; exact ⟨fun q => absurd q (by decide), fun _ => hW.nas [true, false, false, true, false, true, false, true, false, true] rfl⟩
  · rw [h2]; exact ⟨fun q => absurd q (by decide), fun _ => hW.nas [true, false, false, true, false, true, false, true, false, false] rfl⟩
  · rw [h2]; exact ⟨fun q => absurd q (by decide), fun _ => hW.nas [true, false, false, true, false, true, false, false, true, true] rfl⟩
  · rw [h2]; exact ⟨fun q => absurd q (by decide), fun _ => hW.nas [true, false, false, true, false, true, false, false, true, false] rfl⟩
theorem thc_36 (hW : Wld G s) (hK : va_K G.1 cl0 (tys0 G) s) (h : isThing sh a) : (cst (sh a).1 36 = true → va_Yc (thn (sh a).1) "IntentVats$AnyOne" s) ∧ (¬ cst (sh a).1 36 = true → va_Nc (thn (sh a).1) "IntentVats$AnyOne" s) := by
  have h2 : (sh a).1 = 1 ∨ (sh a).1 = 2 ∨ (sh a).1 = 3 ∨ (sh a).1 = 4 ∨ (sh a).1 = 36 ∨ (sh a).1 = 37 ∨ (sh a).1 = 38 ∨ (sh a).1 = 39 ∨ (sh a).1 = 40 ∨ (sh a).1 = 41 := by omega
  rcases h2 with h2 | h2 | h2 | h2 | h2 | h2 | h2 | h2 | h2 | h2
  · rw [h2]; exact ⟨fun q => absurd q (by decide), fun _ => hW.nas [true, false, false, false, false, true, true, true, false, false] rfl⟩
  · rw [h2]; exact ⟨fun q => absurd q (by decide), fun _ => hW.nas [true, false, false, false, false, true, true, false, false, true] rfl⟩
  · rw [h2]; exact ⟨fun q => absurd q (by decide), fun _ => hW.nas [true, false, false, false, false, true, false, true, false, true] rfl⟩
  · rw [h2]; exact ⟨fun q => absurd q (by decide), fun _ => hW.nas [true, false, false, false, false, true, false, true, false, false] rfl⟩
  · rw [h2]; exact ⟨fun _ => yc_refl (hK.1 16 _ rfl).2.1, fun q => absurd rfl q⟩
  · rw [h2]; exact ⟨fun _ => hW.yas q2115, fun q => absurd rfl q⟩
  · rw [h2]; exact ⟨fun _ => hW.yas q2112, fun q => absurd rfl q⟩
  · rw [h2]; exact ⟨fun _ => hW.yas q2111, fun q => absurd rfl q⟩
  · rw [h2]; exact ⟨fun _ => hW.yas q2114, fun q => absurd rfl q⟩
  · rw [h2]; exact ⟨fun _ => hW.yas q2113, fun q => absurd rfl q⟩
theorem thc_37 (hW : Wld G s) (hK : va_K G.1 cl0 (tys0 G) s) (h : isThing sh a) : (cst (sh a).1 37 = true → va_Yc (thn (sh a).1) "IntentVats$WoolOne" s) ∧ (¬ cst (sh a).1 37 = true → va_Nc (thn (sh a).1) "IntentVats$WoolOne" s) := by
  have h2 : (sh a).1 = 1 ∨ (sh a).1 = 2 ∨ (sh a).1 = 3 ∨ (sh a).1 = 4 ∨ (sh a).1 = 36 ∨ (sh a).1 = 37 ∨ (sh a).1 = 38 ∨ (sh a).1 = 39 ∨ (sh a).1 = 40 ∨ (sh a).1 = 41 := by omega
  rcases h2 with h2 | h2 | h2 | h2 | h2 | h2 | h2 | h2 | h2 | h2
  · rw [h2]; exact ⟨fun q => absurd q (by decide), fun _ => hW.nas [true, false, false, false, false, true, false, false, false, true] rfl⟩
  · rw [h2]; exact ⟨fun q => absurd q (by decide), fun _ => hW.nas [true, false, false, false, false, false, true, true, true, false] rfl⟩
  · rw [h2]; exact ⟨fun q => absurd q (by decide), fun _ => hW.nas [true, false, false, false, false, false, true, false, true, false] rfl⟩
  · rw [h2]; exact ⟨fun q => absurd q (by decide), fun _ => hW.nas [true, false, false, false, false, false, true, false, false, true] rfl⟩
  · rw [h2]; exact ⟨fun q => absurd q (by decide), fun _ => hW.nas [true, true, false, false, false, true, true, false, true, true] rfl⟩
  · rw [h2]; exact ⟨fun _ => yc_refl (hK.1 17 _ rfl).2.1, fun q => absurd rfl q⟩
  · rw [h2]; exact ⟨fun q => absurd q (by decide), fun _ => hW.nas [true, true, false, false, false, true, true, true, true] rfl⟩
  · rw [h2]; exact ⟨fun _ => hW.yas q2116, fun q => absurd rfl q⟩
  · rw [h2]; exact ⟨fun q => absurd q (by decide), fun _ => hW.nas [true, true, false, false, false, true, true, true, false, true] rfl⟩
  · rw [h2]; exact ⟨fun q => absurd q (by decide), fun _ => hW.nas [true, true, false, false, false, true, true, true, false, false] rfl⟩
theorem thc_38 (hW : Wld G s) (hK : va_K G.1 cl0 (tys0 G) s) (h : isThing sh a) : (cst (sh a).1 38 = true → va_Yc (thn (sh a).1) "IntentVats$LinenOne" s) ∧ (¬ cst (sh a).1 38 = true → va_Nc (thn (sh a).1) "IntentVats$LinenOne" s) := by
  have h2 : (sh a).1 = 1 ∨ (sh a).1 = 2 ∨ (sh a).1 = 3 ∨ (sh a).1 = 4 ∨ (sh a).1 = 36 ∨ (sh a).1 = 37 ∨ (sh a).1 = 38 ∨ (sh a).1 = 39 ∨ (sh a).1 = 40 ∨ (sh a).1 = 41 := by omega
  rcases h2 with h2 | h2 | h2 | h2 | h2 | h2 | h2 | h2 | h2 | h2
  · rw [h2]; exact ⟨fun q => absurd q (by decide), fun _ => hW.nas [true, false, false, false, false, false, false, true, true, false] rfl⟩
  · rw [h2]; exact ⟨fun q => absurd q (by decide), fun _ => hW.nas [true, false, false, false, false, false, false, false, true, true] rfl⟩
  · rw [h2]; exact ⟨fun q => absurd q (by decide), fun _ => hW.nas [false, true, true, true, true, true, true, true, true] rfl⟩
  · rw [h2]; exact ⟨fun q => absurd q (by decide), fun _ => hW.nas [false, true, true, true, true, true, true, true, false, true] rfl⟩
  · rw [h2]; exact ⟨fun q => absurd q (by decide), fun _ => hW.nas [true, true, false, false, false, false, false, false, true, true] rfl⟩
  · rw [h2]; exact ⟨fun q => absurd q (by decide), fun _ => hW.nas [true, true, false, false, false, false, false, true, true, false] rfl⟩
  · rw [h2]; exact ⟨fun _ => yc_refl (hK.1 18 _ rfl).2.1, fun q => absurd rfl q⟩
  · rw [h2]; exact ⟨fun q => absurd q (by decide), fun _ => hW.nas [true, true, false, false, false, false, false, true, false, true] rfl⟩
  · rw [h2]; exact ⟨fun _ => hW.yas q2117, fun q => absurd rfl q⟩
  · rw [h2]; exact ⟨fun q => absurd q (by decide), fun _ => hW.nas [true, true, false, false, false, false, false, true, false, false] rfl⟩
theorem thc_39 (hW : Wld G s) (hK : va_K G.1 cl0 (tys0 G) s) (h : isThing sh a) : (cst (sh a).1 39 = true → va_Yc (thn (sh a).1) "IntentVats$FeltOne" s) ∧ (¬ cst (sh a).1 39 = true → va_Nc (thn (sh a).1) "IntentVats$FeltOne" s) := by
  have h2 : (sh a).1 = 1 ∨ (sh a).1 = 2 ∨ (sh a).1 = 3 ∨ (sh a).1 = 4 ∨ (sh a).1 = 36 ∨ (sh a).1 = 37 ∨ (sh a).1 = 38 ∨ (sh a).1 = 39 ∨ (sh a).1 = 40 ∨ (sh a).1 = 41 := by omega
  rcases h2 with h2 | h2 | h2 | h2 | h2 | h2 | h2 | h2 | h2 | h2
  · rw [h2]; exact ⟨fun q => absurd q (by decide), fun _ => hW.nas [false, true, true, true, true, true, true, false, true, false] rfl⟩
  · rw [h2]; exact ⟨fun q => absurd q (by decide), fun _ => hW.nas [false, true, true, true, true, true, false, true, true, true] rfl⟩
  · rw [h2]; exact ⟨fun q => absurd q (by decide), fun _ => hW.nas [false, true, true, true, true, true, false, false, true, true] rfl⟩
  · rw [h2]; exact ⟨fun q => absurd q (by decide), fun _ => hW.nas [false, true, true, true, true, true, false, false, true, false] rfl⟩
  · rw [h2]; exact ⟨fun q => absurd q (by decide), fun _ => hW.nas [true, false, true, true, true, false, true, false, false, true] rfl⟩
  · rw [h2]; exact ⟨fun q => absurd q (by decide), fun _ => hW.nas [true, false, true, true, true, false, true, true, false, true] rfl⟩
  · rw [h2]; exact ⟨fun q => absurd q (by decide), fun _ => hW.nas [true, false, true, true, true, false, true, true, false, false] rfl⟩
  · rw [h2]; exact ⟨fun _ => yc_refl (hK.1 19 _ rfl).2.1, fun q => absurd rfl q⟩
  · rw [h2]; exact ⟨fun q => absurd q (by decide), fun _ => hW.nas [true, false, true, true, true, false, true, false, true, true] rfl⟩
  · rw [h2]; exact ⟨fun q => absurd q (by decide), fun _ => hW.nas [true, false, true, true, true, false, true, false, true, false] rfl⟩
theorem thc_40 (hW : Wld G s) (hK : va_K G.1 cl0 (tys0 G) s) (h : isThing sh a) : (cst (sh a).1 40 = true → va_Yc (thn (sh a).1) "IntentVats$ShroudOne" s) ∧ (¬ cst (sh a).1 40 = true → va_Nc (thn (sh a).1) "IntentVats$ShroudOne" s) := by
  have h2 : (sh a).1 = 1 ∨ (sh a).1 = 2 ∨ (sh a).1 = 3 ∨ (sh a).1 = 4 ∨ (sh a).1 = 36 ∨ (sh a).1 = 37 ∨ (sh a).1 = 38 ∨ (sh a).1 = 39 ∨ (sh a).1 = 40 ∨ (sh a).1 = 41 := by omega
  rcases h2 with h2 | h2 | h2 | h2 | h2 | h2 | h2 | h2 | h2 | h2
  · rw [h2]; exact ⟨fun q => absurd q (by decide), fun _ => hW.nas [false, true, true, true, true, false, true, true, true] rfl⟩
  · rw [h2]; exact ⟨fun q => absurd q (by decide), fun _ => hW.nas [false, true, true, true, true, false, true, false, true, true] rfl⟩
  · rw [h2]; exact ⟨fun q => absurd q (by decide), fun _ => hW.nas [false, true, true, true, true, false, false, true, true, true] rfl⟩
  · rw [h2]; exact ⟨fun q => absurd q (by decide), fun _ => hW.nas [false, true, true, true, true, false, false, true, true, false] rfl⟩
  · rw [h2]; exact ⟨fun q => absurd q (by decide), fun _ => hW.nas [true, false, true, true, false, true, false, false, false, false] rfl⟩
  · rw [h2]; exact ⟨fun q => absurd q (by decide), fun _ => hW.nas [true, false, true, true, false, true, false, true, false, false] rfl⟩
  · rw [h2]; exact ⟨fun q => absurd q (by decide), fun _ => hW.nas [true, false, true, true, false, true, false, false, true, true] rfl⟩
  · rw [h2]; exact ⟨fun q => absurd q (by decide), fun _ => hW.nas [true, false, true, true, false, true, false, false, true, false] rfl⟩
  · rw [h2]; exact ⟨fun _ => yc_refl (hK.1 20 _ rfl).2.1, fun q => absurd rfl q⟩
  · rw [h2]; exact ⟨fun q => absurd q (by decide), fun _ => hW.nas [true, false, true, true, false, true, false, false, false, true] rfl⟩
theorem thc_41 (hW : Wld G s) (hK : va_K G.1 cl0 (tys0 G) s) (h : isThing sh a) : (cst (sh a).1 41 = true → va_Yc (thn (sh a).1) "IntentVats$MuslinOne" s) ∧ (¬ cst (sh a).1 41 = true → va_Nc (thn (sh a).1) "IntentVats$MuslinOne" s) := by
  have h2 : (sh a).1 = 1 ∨ (sh a).1 = 2 ∨ (sh a).1 = 3 ∨ (sh a).1 = 4 ∨ (sh a).1 = 36 ∨ (sh a).1 = 37 ∨ (sh a).1 = 38 ∨ (sh a).1 = 39 ∨ (sh a).1 = 40 ∨ (sh a).1 = 41 := by omega
  rcases h2 with h2 | h2 | h2 | h2 | h2 | h2 | h2 | h2 | h2 | h2
  · rw [h2]; exact ⟨fun q => absurd q (by decide), fun _ => hW.nas [false, true, true, true, true, false, false, false, true, true] rfl⟩
  · rw [h2]; exact ⟨fun q => absurd q (by decide), fun _ => hW.nas [false, true, true, true, true, false, false, false, false, false] rfl⟩
  · rw [h2]; exact ⟨fun q => absurd q (by decide), fun _ => hW.nas [false, true, true, true, false, true, true, false, true, true] rfl⟩
  · rw [h2]; exact ⟨fun q => absurd q (by decide), fun _ => hW.nas [false, true, true, true, false, true, true, false, true, false] rfl⟩
  · rw [h2]; exact ⟨fun q => absurd q (by decide), fun _ => hW.nas [true, false, true, false, true, true, false, true, true, false] rfl⟩
  · rw [h2]; exact ⟨fun q => absurd q (by decide), fun _ => hW.nas [true, false, true, false, true, true, true, false, true, false] rfl⟩
  · rw [h2]; exact ⟨fun q => absurd q (by decide), fun _ => hW.nas [true, false, true, false, true, true, true, false, false, true] rfl⟩
  · rw [h2]; exact ⟨fun q => absurd q (by decide), fun _ => hW.nas [true, false, true, false, true, true, true, false, false, false] rfl⟩
  · rw [h2]; exact ⟨fun q => absurd q (by decide), fun _ => hW.nas [true, false, true, false, true, true, false, true, true, true] rfl⟩
  · rw [h2]; exact ⟨fun _ => yc_refl (hK.1 21 _ rfl).2.1, fun q => absurd rfl q⟩
theorem thc_42 (hW : Wld G s) (hK : va_K G.1 cl0 (tys0 G) s) (h : isThing sh a) : (cst (sh a).1 42 = true → va_Yc (thn (sh a).1) "IntentVats$Dries" s) ∧ (¬ cst (sh a).1 42 = true → va_Nc (thn (sh a).1) "IntentVats$Dries" s) := by
  have h2 : (sh a).1 = 1 ∨ (sh a).1 = 2 ∨ (sh a).1 = 3 ∨ (sh a).1 = 4 ∨ (sh a).1 = 36 ∨ (sh a).1 = 37 ∨ (sh a).1 = 38 ∨ (sh a).1 = 39 ∨ (sh a).1 = 40 ∨ (sh a).1 = 41 := by omega
  rcases h2 with h2 | h2 | h2 | h2 | h2 | h2 | h2 | h2 | h2 | h2
  · rw [h2]; exact ⟨fun q => absurd q (by decide), fun _ => hW.nas [false, true, true, true, false, true, false, true, true, true] rfl⟩
  · rw [h2]; exact ⟨fun q => absurd q (by decide), fun _ => hW.nas [false, true, true, true, false, true, false, true, false, false] rfl⟩
  · rw [h2]; exact ⟨fun q => absurd q (by decide), fun _ => hW.nas [false, true, true, true, false, true, false, false, false, false] rfl⟩
  · rw [h2]; exact ⟨fun q => absurd q (by decide), fun _ => hW.nas [false, true, true, true, false, false, true, true, true] rfl⟩
  · rw [h2]; exact ⟨fun _ => hW.yas q1325, fun q => absurd rfl q⟩
  · rw [h2]; exact ⟨fun _ => hW.yas q1364, fun q => absurd rfl q⟩
  · rw [h2]; exact ⟨fun _ => hW.yas q1345, fun q => absurd rfl q⟩
  · rw [h2]; exact ⟨fun _ => hW.yas q1335, fun q => absurd rfl q⟩
  · rw [h2]; exact ⟨fun _ => hW.yas q1356, fun q => absurd rfl q⟩
  · rw [h2]; exact ⟨fun _ => hW.yas q1353, fun q => absurd rfl q⟩
end THG
/-! ROWS: nullables, casts -/
def onull {α β : Type} (o : Option α) (n : Option β) (k : α → Option β) : Option β := match o with
  | none => n
  | some a => k a
theorem onull_n {α β : Type} {n : Option β} {k : α → Option β} {x : β} (h : onull none n k = some x) : n = some x := h
theorem onull_s {α β : Type} {a : α} {n : Option β} {k : α → Option β} {x : β} (h : onull (some a) n k = some x) : k a = some x := h
def ldF (gr : RM) (a k : Nat) : Option (Option Nat) := some (gr a k)
theorem ldF_s {gr : RM} {a k : Nat} {o : Option Nat} (h : ldF gr a k = some o) : gr a k = o := s1i h
theorem shp {sh : SM} {a c : Nat} (h : (sh a).1 = c) : sh a = (c, (sh a).2) := by rw [← h]
theorem nrf {C : String} (o : Option Nat) : narrow (.object C) (va_rf o) = va_rf o := by cases o <;> rfl
theorem frf {C : String} (o : Option Nat) : fits (.object C) (va_rf o) = true := by cases o <;> rfl
section MR5
variable {p : Program} {l : Launch} {e : Env} {R : Room} {s : State} {m : MethodId} {args : Array Value} {below : List Frame} {meth : Method} {c : Code} {H : Heap} {locs : List Loc} {cells slots : Nat} {Q : State → Prop}
variable {cc : ByteArray} {pc : Nat} {ls : Array Slot} {rest : List Value} {G : Gx} {sh : SM} {g : GM} {gl : LM} {gr : RM} {n n0 a : Nat} {rm : Room} {o : XO}
theorem r_aloadV_n (hx : p.tables.exec = Jvm.exec) (hb : c.code = cc) {k : Fin 4} {i : Nat} {v : Option Nat} (hdg : decode cc pc = .ok (.aload_n k, 1)) (hi : (k : Nat) = i) (hl : ls[i]? = some (.val (va_rf v)))
    (kk : W p l e R s m args below meth c H locs cells slots Q (F0 m (pc + 1) ls (va_rf v :: rest))) : W p l e R s m args below meth c H locs cells slots Q (F0 m pc ls rest) := by
  cases v with
  | none => exact lv_aload_nN hx hb hdg hi hl kk
  | some x => exact lv_aload_n hx hb hdg hi hl kk
theorem r_aloadV (hx : p.tables.exec = Jvm.exec) (hb : c.code = cc) {i : Nat} {v : Option Nat} (hdg : decode cc pc = .ok (.aload i, 2)) (hl : ls[i]? = some (.val (va_rf v)))
    (kk : W p l e R s m args below meth c H locs cells slots Q (F0 m (pc + 2) ls (va_rf v :: rest))) : W p l e R s m args below meth c H locs cells slots Q (F0 m pc ls rest) := by
  cases v with
  | none => exact lv_aloadN hx hb hdg hl kk
  | some x => exact lv_aload hx hb hdg hl kk
theorem r_astoreV_n (hx : p.tables.exec = Jvm.exec) (hb : c.code = cc) {k : Fin 4} {i nL : Nat} {v : Option Nat} {lv lv' : List (Nat × Value)} (hdg : decode cc pc = .ok (.astore_n k, 1)) (hi : (k : Nat) = i) (h : lv_has ls nL lv) (hn : i < nL) (hl : (i, va_rf v) :: lv.filter (fun q => !(q.1 == i) && !(q.1 + 1 == i && q.2.category == 2)) = lv')
    (kk : ∀ ls2 : Array Slot, lv_has ls2 nL lv' → W p l e R s m args below meth c H locs cells slots Q (F0 m (pc + 1) ls2 rest)) : W p l e R s m args below meth c H locs cells slots Q (F0 m pc ls (va_rf v :: rest)) := by
  cases v with
  | none => exact lv_astore_nN hx hb hdg hi h hn hl kk
  | some x => exact lv_astore_n hx hb hdg hi h hn hl kk
theorem r_geto2 (hx : p.tables.exec = Jvm.exec) (hb : c.code = cc) {ow ref C : String} {T : u_T} {N ci index : Nat} {ty : Nat → FieldType} (hts : ∀ w ∈ lw_all, w.before args s = true) (hC : ClF ci C T N ty) (hown : s.vm.findClass ow = some m.cls) (hK : va_K G.1 cl0 (tys0 G) s) (hR : Rep G sh g gl gr n H) {L : Nat} (hs : sh a = (20 + ci, L)) (k : Nat) (hk : k < N) (hir : isr ci k = true) {v : Option Nat} (hv : ldF gr a k = some v)
    (hlink : (Cond.fieldLink ow index ref (T k).2.1 (T k).2.2.1).before args s = true) (hsame : ∀ x, s.fieldFound? (T k).1 (T k).2.1 (T k).2.2.1 = some x → s.fieldFound? ref (T k).2.1 (T k).2.2.1 = some x) (hdg : decode cc pc = .ok (.getfield index, 3))
    (kk : W p l e R s m args below meth c H locs cells slots Q (F0 m (pc + 3) ls (va_rf (v.map (adr G)) :: rest))) : W p l e R s m args below meth c H locs cells slots Q (F0 m pc ls (.ref (adr G a) :: rest)) := by
  cases hv
  exact r_geto hx hb hts hC hown hK hR hs k hk hir hlink hsame hdg kk
theorem r_geto2N (hx : p.tables.exec = Jvm.exec) (hb : c.code = cc) {ow ref C host : String} {T : u_T} {N ci index : Nat} {ty : Nat → FieldType} (hts : ∀ w ∈ lw_all, w.before args s = true) (hC : ClF ci C T N ty) (hown : s.vm.findClass ow = some m.cls) (hK : va_K G.1 cl0 (tys0 G) s) (hR : Rep G sh g gl gr n H) {L : Nat} (hs : sh a = (20 + ci, L)) (k : Nat) (hk : k < N) (hir : isr ci k = true) {v : Option Nat} (hv : ldF gr a k = some v)
    (hlink : (Cond.fieldLinkNest ow index ref (T k).2.1 (T k).2.2.1 host).before args s = true) (hsame : ∀ x, s.fieldFound? (T k).1 (T k).2.1 (T k).2.2.1 = some x → s.fieldFound? ref (T k).2.1 (T k).2.2.1 = some x) (hdg : decode cc pc = .ok (.getfield index, 3))
    (kk : W p l e R s m args below meth c H locs cells slots Q (F0 m (pc + 3) ls (va_rf (v.map (adr G)) :: rest))) : W p l e R s m args below meth c H locs cells slots Q (F0 m pc ls (.ref (adr G a) :: rest)) := by
  cases hv
  exact r_getoN hx hb hts hC hown hK hR hs k hk hir hlink hsame hdg kk
theorem cst_arr {c t : Nat} (h : c = t) : cst c t = true := by
  subst h
  unfold cst
  simp
theorem cst_ne {c t : Nat} (ht : t ≤ 4) (h : ¬ c = t) : ¬ cst c t = true := by
  unfold cst
  have : t = 0 ∨ t = 1 ∨ t = 2 ∨ t = 3 ∨ t = 4 := by omega
  rcases this with rfl | rfl | rfl | rfl | rfl <;> simp [h]
theorem r_castY (hx : p.tables.exec = Jvm.exec) (hb : c.code = cc) {own nm : String} {index : Nat} (hown : s.vm.findClass own = some m.cls) (hlink : (Cond.classLink own index nm).before args s = true) (hK : va_K G.1 cl0 (tys0 G) s) (hR : Rep G sh g gl gr n H) (ht : isThing sh a) (hc : va_Yc (thn (sh a).1) nm s) (hdg : decode cc pc = .ok (.checkcast index, 3))
    (kk : W p l e R s m args below meth c H locs cells slots Q (F0 m (pc + 3) ls (.ref (adr G a) :: rest))) : W p l e R s m args below meth c H locs cells slots Q (F0 m pc ls (.ref (adr G a) :: rest)) := by
  obtain ⟨cell, h1, h2, h3⟩ := r_thing hK hR ht
  obtain ⟨c0, t0, f1, f2, f3⟩ := hc
  cases h3.symm.trans f1
  intro T hT X
  obtain ⟨vm', X', st⟩ := X.checkcastYes hx hown hlink (by rw [hT]; exact h1) h2 f2 f3 (g := F0 m pc ls (.ref (adr G a) :: rest)) rfl rfl (by rw [hb]; exact hdg)
  obtain ⟨t, a1, b1⟩ := kk (T.setVm vm') hT X'
  exact ⟨t, st t a1, b1⟩
theorem r_instY (hx : p.tables.exec = Jvm.exec) (hb : c.code = cc) {own nm : String} {index : Nat} (hown : s.vm.findClass own = some m.cls) (hlink : (Cond.classLink own index nm).before args s = true) (hK : va_K G.1 cl0 (tys0 G) s) (hR : Rep G sh g gl gr n H) (ht : isThing sh a) (hc : va_Yc (thn (sh a).1) nm s) (hdg : decode cc pc = .ok (.instanceof index, 3))
    (kk : W p l e R s m args below meth c H locs cells slots Q (F0 m (pc + 3) ls (.int 1 :: rest))) : W p l e R s m args below meth c H locs cells slots Q (F0 m pc ls (.ref (adr G a) :: rest)) := by
  obtain ⟨cell, h1, h2, h3⟩ := r_thing hK hR ht
  obtain ⟨c0, t0, f1, f2, f3⟩ := hc
  cases h3.symm.trans f1
  intro T hT X
  obtain ⟨vm', X', st⟩ := X.instanceofYes hx hown hlink (by rw [hT]; exact h1) h2 f2 f3 (g := F0 m pc ls (.ref (adr G a) :: rest)) rfl rfl (by rw [hb]; exact hdg)
  obtain ⟨t, a1, b1⟩ := kk (T.setVm vm') hT X'
  exact ⟨t, st t a1, b1⟩
theorem r_instN (hx : p.tables.exec = Jvm.exec) (hb : c.code = cc) {own nm : String} {index : Nat} (hown : s.vm.findClass own = some m.cls) (hlink : (Cond.classLink own index nm).before args s = true) (hK : va_K G.1 cl0 (tys0 G) s) (hR : Rep G sh g gl gr n H) (ht : isThing sh a) (hc : va_Nc (thn (sh a).1) nm s) (hdg : decode cc pc = .ok (.instanceof index, 3))
    (kk : W p l e R s m args below meth c H locs cells slots Q (F0 m (pc + 3) ls (.int 0 :: rest))) : W p l e R s m args below meth c H locs cells slots Q (F0 m pc ls (.ref (adr G a) :: rest)) :=
  va_instNo hx hb hown hlink hc (r_thing hK hR ht) hdg kk
/-- a cast that fails -/
theorem x_cast (hx : p.tables.exec = Jvm.exec) (hb : c.code = cc) {ow nm : String} {index : Nat} (hown : s.vm.findClass ow = some m.cls) (hlink : (Cond.classLink ow index nm).before args s = true) (hW : Wld G s) (hts : ∀ w ∈ lw_all, w.before args s = true) (hK : va_K G.1 cl0 (tys0 G) s) (ht : isThing sh a) (hcn : va_Nc (thn (sh a).1) nm s) (hnm : nm.length ≤ 30) (htb : ∀ x ∈ c.exceptionTable.toList, False) (hlk : meth.locks = false) (hn : n0 ≤ n) (hR : Rep G sh g gl gr n H) (hS : va_S (own G) s.heap H locs) (hc : cells + 3 ≤ rm.cells) (hs : slots + 1010 ≤ rm.slots) (hRc : rm.cells ≤ R.cells) (hRs : rm.slots ≤ R.slots) (hRf : 12 ≤ R.frames) (hRl : 10300 ≤ R.locals) (hst : (rest.map fun v => v.category).sum ≤ 8) (hml : c.maxLocals = ls.size) (ho : o = .inr (1, sh, g, gl, gr))
    (hdg : decode cc pc = .ok (.checkcast index, 3)) : W p l e R s m args below meth c H locs cells slots (XQ G below n0 o args s rm) (F0 m pc ls (.ref (adr G a) :: rest)) := sorry
end MR5

