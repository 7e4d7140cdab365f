/-! BASE: one memory for all cells. Cells are numbered: below 64 the text constants, from 64 on what the law makes, in the order of its making. -/
abbrev GM : Type := Nat → Nat → Int32
abbrev LM : Type := Nat → Nat → Int64
abbrev RM : Type := Nat → Nat → Option Nat
abbrev SM : Type := Nat → Nat × Nat
abbrev Gx : Type := va_G × (Nat → ClassId) × State × (Nat → Nat)
def noT : u_T := fun _ => ("", "", "", false)
def cl0 : List vw_C := [(RX0, TX0, 18), (RX1, TX1, 12), (RX2, noT, 0), (RX3, noT, 0), (RX4, noT, 0), (RX5, noT, 0), (RX6, noT, 0), (RX7, noT, 0), (RX8, TX8, 8), (RX9, TX9, 7), (RX10, TX10, 5), (RX11, TX11, 6), (RX12, TX12, 6), (RX13, TX13, 3), (RX14, TX14, 25), (RX15, TX15, 1), (RX16, TX16, 3), (RX17, TX17, 4), (RX18, TX18, 4), (RX19, TX19, 5), (RX20, TX20, 5), (RX21, TX21, 4)]
/-- which fields are references -/
def isr (c k : Nat) : Bool := match c with
  | 0 => [0, 1, 2, 3, 5, 6, 8, 9, 11, 12, 13, 14, 15, 17].contains k
  | 1 => [4, 5, 6, 7, 8, 9, 10, 11].contains k
  | 8 => [0, 1, 2, 3, 4].contains k
  | 9 => [0, 1, 2, 3, 4].contains k
  | 10 => [0, 1, 2, 3].contains k
  | 11 => [0, 1, 2, 3, 4].contains k
  | 12 => [0, 1, 2, 3, 4].contains k
  | 13 => [2].contains k
  | 14 => [0, 1, 2, 3, 4, 6, 11, 13, 14, 15, 16, 17, 18, 19].contains k
  | 15 => [0].contains k
  | 16 => [2].contains k
  | 17 => [2, 3].contains k
  | 18 => [2, 3].contains k
  | 19 => [2, 3, 4].contains k
  | 20 => [2, 3, 4].contains k
  | 21 => [2, 3].contains k
  | _ => false
/-- the text constants: class, place in its pool, text -/
def strL : List (String × Nat × String) := [("IntentVats$Reader", 11, "cloth"), ("IntentVats$Reader", 13, "wool"), ("IntentVats$Reader", 15, "linen"), ("IntentVats$Reader", 17, "felt"), ("IntentVats$Reader", 19, "shroud"), ("IntentVats$Reader", 21, "muslin"), ("IntentVats$Reader", 29, "mordant"), ("IntentVats$Reader", 31, "light"), ("IntentVats$Reader", 33, "quarrel"), ("IntentVats$Reader", 35, "slip"), ("IntentVats$Reader", 113, "about"), ("IntentVats$Reader", 127, "deep"), ("IntentVats$Reader", 128, "hung"), ("IntentVats$Reader", 134, "of"), ("IntentVats$Reader", 146, "vat"), ("IntentVats$Reader", 160, "strong"), ("IntentVats$Reader", 164, "day"), ("IntentVats$Reader", 174, ";"), ("IntentVatsModel", 262, "cloth"), ("IntentVatsModel", 268, "wool"), ("IntentVatsModel", 270, "linen"), ("IntentVatsModel", 272, "felt"), ("IntentVatsModel", 274, "shroud"), ("IntentVatsModel", 276, "muslin"), ("IntentVatsModel", 278, "about"), ("IntentVatsModel", 286, "deep"), ("IntentVatsModel", 288, "hung"), ("IntentVatsModel", 290, "mordant"), ("IntentVatsModel", 292, "light"), ("IntentVatsModel", 294, "quarrel"), ("IntentVatsModel", 296, "slip"), ("IntentVatsModel", 307, "vat"), ("IntentVatsModel", 309, "of"), ("IntentVatsModel", 315, "strong"), ("IntentVatsModel", 317, ""), ("IntentVatsModel", 319, "day"), ("IntentVatsModel", 324, ";")]
def sl (a : Nat) : Nat := match a with
  | 0 => 5
  | 1 => 4
  | 2 => 5
  | 3 => 4
  | 4 => 6
  | 5 => 6
  | 6 => 7
  | 7 => 5
  | 8 => 7
  | 9 => 4
  | 10 => 5
  | 11 => 4
  | 12 => 4
  | 13 => 2
  | 14 => 3
  | 15 => 6
  | 16 => 3
  | 17 => 1
  | 18 => 5
  | 19 => 4
  | 20 => 5
  | 21 => 4
  | 22 => 6
  | 23 => 6
  | 24 => 5
  | 25 => 4
  | 26 => 4
  | 27 => 7
  | 28 => 5
  | 29 => 7
  | 30 => 4
  | 31 => 3
  | 32 => 2
  | 33 => 6
  | 34 => 0
  | 35 => 3
  | 36 => 1
  | _ => 0
def sb (a : Nat) : List Int32 := match a with
  | 0 => [99, 108, 111, 116, 104]
  | 1 => [119, 111, 111, 108]
  | 2 => [108, 105, 110, 101, 110]
  | 3 => [102, 101, 108, 116]
  | 4 => [115, 104, 114, 111, 117, 100]
  | 5 => [109, 117, 115, 108, 105, 110]
  | 6 => [109, 111, 114, 100, 97, 110, 116]
  | 7 => [108, 105, 103, 104, 116]
  | 8 => [113, 117, 97, 114, 114, 101, 108]
  | 9 => [115, 108, 105, 112]
  | 10 => [97, 98, 111, 117, 116]
  | 11 => [100, 101, 101, 112]
  | 12 => [104, 117, 110, 103]
  | 13 => [111, 102]
  | 14 => [118, 97, 116]
  | 15 => [115, 116, 114, 111, 110, 103]
  | 16 => [100, 97, 121]
  | 17 => [59]
  | 18 => [99, 108, 111, 116, 104]
  | 19 => [119, 111, 111, 108]
  | 20 => [108, 105, 110, 101, 110]
  | 21 => [102, 101, 108, 116]
  | 22 => [115, 104, 114, 111, 117, 100]
  | 23 => [109, 117, 115, 108, 105, 110]
  | 24 => [97, 98, 111, 117, 116]
  | 25 => [100, 101, 101, 112]
  | 26 => [104, 117, 110, 103]
  | 27 => [109, 111, 114, 100, 97, 110, 116]
  | 28 => [108, 105, 103, 104, 116]
  | 29 => [113, 117, 97, 114, 114, 101, 108]
  | 30 => [115, 108, 105, 112]
  | 31 => [118, 97, 116]
  | 32 => [111, 102]
  | 33 => [115, 116, 114, 111, 110, 103]
  | 34 => []
  | 35 => [100, 97, 121]
  | 36 => [59]
  | _ => []
def sc (a k : Nat) : Int32 := (sb a).getD k 0
def sH (G : Gx) : Heap := G.2.2.1.heap
def adr (G : Gx) (a : Nat) : Nat := if a < 64 then G.2.2.2 a else (sH G).size + (a - 64)
def own (G : Gx) : Nat → Prop := fun q => (sH G).size ≤ q
def tys0 (G : Gx) : List (ClassId × FieldType) := [(G.2.1 1, .int), (G.2.1 2, .byte), (G.2.1 3, .short), (G.2.1 4, .long), (G.2.1 5, .object "IntentVats$Plain"), (G.2.1 6, .object "java/lang/String"), (G.2.1 7, .object "IntentVats$Row"), (G.2.1 8, .object "IntentVats$Sheet"), (G.2.1 9, .object "IntentVats$Shelf")]
def pay (G : Gx) (c : Nat) (f : Nat → Int32) (fl : Nat → Int64) (fr : Nat → Option Nat) : (Nat → Int32) ⊕ (Nat → Int64) ⊕ (Nat → UInt32) ⊕ (Nat → UInt64) ⊕ (Nat → Option Nat) :=
  if c = 4 then .inr (.inl fl) else if 5 ≤ c then .inr (.inr (.inr (.inr fun j => (fr j).map (adr G)))) else .inl f
def fval (G : Gx) (b : Bool) (x : Int32) (r : Option Nat) : Value := match b with
  | true => va_rf (r.map (adr G))
  | false => .int x
def cOK (G : Gx) (c n : Nat) (f : Nat → Int32) (fl : Nat → Int64) (fr : Nat → Option Nat) (q : Nat) (H : Heap) : Prop :=
  if c < 20 then H[q]? = some (vp_cell (G.2.1 c) (n, pay G c f fl fr))
  else ∃ r, cl0[c - 20]? = some r ∧ t_OB q (G.1.1 (c - 20)) r.2.2 (G.1.2 (c - 20)) H (fun k => fval G (isr (c - 20) k) (f k) (fr k))
def Rep (G : Gx) (sh : SM) (g : GM) (gl : LM) (gr : RM) (n : Nat) (H : Heap) : Prop :=
  (64 ≤ n ∧ H.size + 64 = (sH G).size + n) ∧ (∀ q : Nat, q < (sH G).size → H[q]? = (sH G)[q]?) ∧
    ∀ a : Nat, (sh a).1 ≠ 0 → (64 ≤ a ∧ a < n) ∧ cOK G (sh a).1 (sh a).2 (g a) (gl a) (gr a) ((sH G).size + (a - 64)) H
theorem adr_own (G : Gx) {a : Nat} (h : 64 ≤ a) : adr G a = (sH G).size + (a - 64) := if_neg (by omega)
theorem Rep.lo {G : Gx} {sh : SM} {g : GM} {gl : LM} {gr : RM} {n : Nat} {H : Heap} (hR : Rep G sh g gl gr n H) {a c L : Nat} (hs : sh a = (c, L)) (hc : c ≠ 0) : 64 ≤ a ∧ a < n := (hR.2.2 a (by rw [hs]; exact hc)).1
theorem Rep.arr {G : Gx} {sh : SM} {g : GM} {gl : LM} {gr : RM} {n : Nat} {H : Heap} (hR : Rep G sh g gl gr n H) {a c L : Nat} (hs : sh a = (c, L)) (h0 : c ≠ 0) (hc : c < 20) : H[adr G a]? = some (vp_cell (G.2.1 c) (L, pay G c (g a) (gl a) (gr a))) := by
  obtain ⟨⟨h1, -⟩, h2⟩ := hR.2.2 a (by rw [hs]; exact h0)
  rw [adr_own G h1]
  rw [hs] at h2
  unfold cOK at h2
  rw [if_pos hc] at h2
  exact h2
theorem Rep.obj {G : Gx} {sh : SM} {g : GM} {gl : LM} {gr : RM} {n : Nat} {H : Heap} (hR : Rep G sh g gl gr n H) {a ci N : Nat} (hs : sh a = (20 + ci, N)) : ∃ r, cl0[ci]? = some r ∧ t_OB (adr G a) (G.1.1 ci) r.2.2 (G.1.2 ci) H (fun k => fval G (isr ci k) (g a k) (gr a k)) := by
  obtain ⟨⟨h1, -⟩, h2⟩ := hR.2.2 a (by rw [hs]; simp)
  rw [adr_own G h1]
  rw [hs] at h2
  unfold cOK at h2
  rw [if_neg (by simp), show (20 + ci, N).1 - 20 = ci by simp] at h2
  exact h2
/-- one cell is written -/
theorem Rep.set {G : Gx} {sh : SM} {g g1 : GM} {gl gl1 : LM} {gr gr1 : RM} {n a c L : Nat} {H H1 : Heap} (hR : Rep G sh g gl gr n H) (hs : sh a = (c, L)) (h0 : c ≠ 0) (z : H1.size = H.size) (oq : ∀ q : Nat, q ≠ adr G a → H1[q]? = H[q]?)
    (e1 : ∀ b, b ≠ a → g1 b = g b) (e2 : ∀ b, b ≠ a → gl1 b = gl b) (e3 : ∀ b, b ≠ a → gr1 b = gr b) (hc : cOK G c L (g1 a) (gl1 a) (gr1 a) (adr G a) H1) : Rep G sh g1 gl1 gr1 n H1 := by
  have hlo := hR.lo hs h0
  have had := adr_own G hlo.1
  refine ⟨by rw [z]; exact hR.1, fun q hq => ?_, fun b hb => ?_⟩
  · rw [oq q (by rw [had]; omega)]
    exact hR.2.1 q hq
  · obtain ⟨h1, h2⟩ := hR.2.2 b hb
    refine ⟨h1, ?_⟩
    by_cases hba : b = a
    · subst hba
      rw [← had, hs]
      exact hc
    · rw [e1 b hba, e2 b hba, e3 b hba]
      have hq : H1[(sH G).size + (b - 64)]? = H[(sH G).size + (b - 64)]? := oq _ (by rw [had]; omega)
      unfold cOK at h2 ⊢
      by_cases hc : (sh b).1 < 20
      · rw [if_pos hc] at h2 ⊢
        rw [hq]
        exact h2
      · rw [if_neg hc] at h2 ⊢
        obtain ⟨r, h3, h4⟩ := h2
        exact ⟨r, h3, h4.kept hq⟩
/-- a new cell -/
theorem Rep.push {G : Gx} {sh : SM} {g : GM} {gl : LM} {gr : RM} {n c L : Nat} {f : Nat → Int32} {fl : Nat → Int64} {fr : Nat → Option Nat} {H H1 : Heap} (hR : Rep G sh g gl gr n H) (hn : (sh n).1 = 0) (z : H1.size = H.size + 1) (oq : ∀ q : Nat, q < H.size → H1[q]? = H[q]?) 
    (hc : cOK G c L f fl fr H.size H1) : Rep G (va_up sh n (c, L)) (va_up g n f) (va_up gl n fl) (va_up gr n fr) (n + 1) H1 := by
  have hz := hR.1
  have h64 := hz.1
  refine ⟨⟨by omega, by omega⟩, fun q hq => ?_, fun b hb => ?_⟩
  · rw [oq q (by omega)]
    exact hR.2.1 q hq
  · by_cases hbn : b = n
    · subst hbn
      rw [va_up_self, va_up_self, va_up_self, va_up_self]
      refine ⟨⟨h64, Nat.lt_succ_self _⟩, ?_⟩
      rw [show (sH G).size + (b - 64) = H.size by omega]
      exact hc
    · rw [va_up_ne _ _ hbn] at hb
      rw [va_up_ne _ _ hbn, va_up_ne _ _ hbn, va_up_ne _ _ hbn, va_up_ne _ _ hbn]
      obtain ⟨h1, h2⟩ := hR.2.2 b hb
      refine ⟨⟨h1.1, by omega⟩, ?_⟩
      have hq : H1[(sH G).size + (b - 64)]? = H[(sH G).size + (b - 64)]? := oq _ (by omega)
      unfold cOK at h2 ⊢
      by_cases hc : (sh b).1 < 20
      · rw [if_pos hc] at h2 ⊢
        rw [hq]
        exact h2
      · rw [if_neg hc] at h2 ⊢
        obtain ⟨r, h3, h4⟩ := h2
        exact ⟨r, h3, h4.kept hq⟩
/-- a cell of which nothing is said -/
theorem Rep.more {G : Gx} {sh : SM} {g : GM} {gl : LM} {gr : RM} {n n1 : Nat} {H H1 : Heap} (hR : Rep G sh g gl gr n H) (z : H1.size + 64 = (sH G).size + n1) (hn : n ≤ n1) (oq : ∀ q : Nat, q < H.size → H1[q]? = H[q]?) : Rep G sh g gl gr n1 H1 := by
  have hz := hR.1
  refine ⟨⟨by omega, z⟩, fun q hq => ?_, fun b hb => ?_⟩
  · rw [oq q (by omega)]
    exact hR.2.1 q hq
  · obtain ⟨h1, h2⟩ := hR.2.2 b hb
    refine ⟨⟨h1.1, by omega⟩, ?_⟩
    have hq : H1[(sH G).size + (b - 64)]? = H[(sH G).size + (b - 64)]? := oq _ (by omega)
    unfold cOK at h2 ⊢
    by_cases hc : (sh b).1 < 20
    · rw [if_pos hc] at h2 ⊢
      rw [hq]
      exact h2
    · rw [if_neg hc] at h2 ⊢
      obtain ⟨r, h3, h4⟩ := h2
      exact ⟨r, h3, h4.kept hq⟩
/-! what a method computes, over the memory -/
def pI (g : GM) (a k : Nat) (v : Int32) : GM := fun b => if b = a then upd (g a) k v else g b
def pL (g : LM) (a k : Nat) (v : Int64) : LM := fun b => if b = a then vp_updL (g a) k v else g b
def pR (g : RM) (a k : Nat) (v : Option Nat) : RM := fun b => if b = a then va_up (g a) k v else g b
def ldI (g : GM) (a L : Nat) (i : Int32) : Option Int32 := if i < 0 ∨ L ≤ i.toNatClampNeg then none else some (g a i.toNatClampNeg)
def stI (g : GM) (a L : Nat) (i v : Int32) : Option GM := if i < 0 ∨ L ≤ i.toNatClampNeg then none else some (pI g a i.toNatClampNeg v)
def puI (g : GM) (a k : Nat) (v : Int32) : Option GM := some (pI g a k v)
def ldL (g : LM) (a L : Nat) (i : Int32) : Option Int64 := if i < 0 ∨ L ≤ i.toNatClampNeg then none else some (g a i.toNatClampNeg)
def stL (g : LM) (a L : Nat) (i : Int32) (v : Int64) : Option LM := if i < 0 ∨ L ≤ i.toNatClampNeg then none else some (pL g a i.toNatClampNeg v)
def ldR (g : RM) (a L : Nat) (i : Int32) : Option (Option Nat) := if i < 0 ∨ L ≤ i.toNatClampNeg then none else some (g a i.toNatClampNeg)
def stR (g : RM) (a L : Nat) (i : Int32) (v : Option Nat) : Option RM := if i < 0 ∨ L ≤ i.toNatClampNeg then none else some (pR g a i.toNatClampNeg v)
def puR (g : RM) (a k : Nat) (v : Option Nat) : Option RM := some (pR g a k v)
/-- a place of an array whose cells are known -/
def chk (L : Nat) (i : Int32) : Option Nat := if i < 0 ∨ L ≤ i.toNatClampNeg then none else some i.toNatClampNeg
/-- go on, if a condition of the machine holds -/
def grd {α : Type} (c : Prop) [Decidable c] (k : Option α) : Option α := if c then k else none
def bd {α β : Type} (o : Option α) (k : α → Option β) : Option β := o.bind k
def bd2 {α γ β : Type} (o : Option (α × γ)) (k : α → γ → Option β) : Option β := o.bind (fun p => k p.1 p.2)
def bd3 {α γ δ β : Type} (o : Option (α × γ × δ)) (k : α → γ → δ → Option β) : Option β := o.bind (fun p => k p.1 p.2.1 p.2.2)
def fuel : Nat := 100000
theorem obd {α β : Type} {o : Option α} {k : α → Option β} {x : β} (h : bd o k = some x) : ∃ a, o = some a ∧ k a = some x := Option.bind_eq_some_iff.mp h
theorem obd2 {α γ β : Type} {o : Option (α × γ)} {k : α → γ → Option β} {x : β} (h : bd2 o k = some x) : ∃ a b, o = some (a, b) ∧ k a b = some x := by
  obtain ⟨⟨a, b⟩, h1, h2⟩ := Option.bind_eq_some_iff.mp h
  exact ⟨a, b, h1, h2⟩
theorem obd3 {α γ δ β : Type} {o : Option (α × γ × δ)} {k : α → γ → δ → Option β} {x : β} (h : bd3 o k = some x) : ∃ a b c, o = some (a, b, c) ∧ k a b c = some x := by
  obtain ⟨⟨a, b, c⟩, h1, h2⟩ := Option.bind_eq_some_iff.mp h
  exact ⟨a, b, c, h1, h2⟩
theorem ogrd {α : Type} {c : Prop} [Decidable c] {k : Option α} {x : α} (h : grd c k = some x) : c ∧ k = some x := by
  unfold grd at h
  by_cases hc : c
  · rw [if_pos hc] at h
    exact ⟨hc, h⟩
  · rw [if_neg hc] at h
    cases h
theorem ifp {α : Type} {c : Prop} [Decidable c] {a b x : α} (h : (if c then a else b) = x) (hc : c) : a = x := by rw [if_pos hc] at h; exact h
theorem ifn {α : Type} {c : Prop} [Decidable c] {a b x : α} (h : (if c then a else b) = x) (hc : ¬ c) : b = x := by rw [if_neg hc] at h; exact h
theorem ldI_s {g : GM} {a L : Nat} {i v : Int32} (h : ldI g a L i = some v) : vp_in i L ∧ v = g a i.toNatClampNeg := by
  unfold ldI at h
  by_cases hc : i < 0 ∨ L ≤ i.toNatClampNeg
  · rw [if_pos hc] at h; cases h
  · rw [if_neg hc] at h; cases h; exact ⟨hc, rfl⟩
theorem ldL_s {g : LM} {a L : Nat} {i : Int32} {v : Int64} (h : ldL g a L i = some v) : vp_in i L ∧ v = g a i.toNatClampNeg := by
  unfold ldL at h
  by_cases hc : i < 0 ∨ L ≤ i.toNatClampNeg
  · rw [if_pos hc] at h; cases h
  · rw [if_neg hc] at h; cases h; exact ⟨hc, rfl⟩
theorem ldR_s {g : RM} {a L : Nat} {i : Int32} {v : Option Nat} (h : ldR g a L i = some v) : vp_in i L ∧ v = g a i.toNatClampNeg := by
  unfold ldR at h
  by_cases hc : i < 0 ∨ L ≤ i.toNatClampNeg
  · rw [if_pos hc] at h; cases h
  · rw [if_neg hc] at h; cases h; exact ⟨hc, rfl⟩
theorem chk_s {L : Nat} {i : Int32} {v : Nat} (h : chk L i = some v) : vp_in i L ∧ v = i.toNatClampNeg ∧ v < L := by
  unfold chk at h
  by_cases hc : i < 0 ∨ L ≤ i.toNatClampNeg
  · rw [if_pos hc] at h; cases h
  · rw [if_neg hc] at h; cases h; exact ⟨hc, rfl, by omega⟩
theorem stI_s {g g1 : GM} {a L : Nat} {i v : Int32} (h : stI g a L i v = some g1) : vp_in i L ∧ g1 = pI g a i.toNatClampNeg v := by
  unfold stI at h
  by_cases hc : i < 0 ∨ L ≤ i.toNatClampNeg
  · rw [if_pos hc] at h; cases h
  · rw [if_neg hc] at h; cases h; exact ⟨hc, rfl⟩
theorem stL_s {g g1 : LM} {a L : Nat} {i : Int32} {v : Int64} (h : stL g a L i v = some g1) : vp_in i L ∧ g1 = pL g a i.toNatClampNeg v := by
  unfold stL at h
  by_cases hc : i < 0 ∨ L ≤ i.toNatClampNeg
  · rw [if_pos hc] at h; cases h
  · rw [if_neg hc] at h; cases h; exact ⟨hc, rfl⟩
theorem stR_s {g g1 : RM} {a L : Nat} {i : Int32} {v : Option Nat} (h : stR g a L i v = some g1) : vp_in i L ∧ g1 = pR g a i.toNatClampNeg v := by
  unfold stR at h
  by_cases hc : i < 0 ∨ L ≤ i.toNatClampNeg
  · rw [if_pos hc] at h; cases h
  · rw [if_neg hc] at h; cases h; exact ⟨hc, rfl⟩
theorem pI_self (g : GM) (a k : Nat) (v : Int32) : pI g a k v a = upd (g a) k v := if_pos rfl
theorem pI_ne (g : GM) {a b : Nat} (k : Nat) (v : Int32) (h : b ≠ a) : pI g a k v b = g b := if_neg h
theorem pL_self (g : LM) (a k : Nat) (v : Int64) : pL g a k v a = vp_updL (g a) k v := if_pos rfl
theorem pL_ne (g : LM) {a b : Nat} (k : Nat) (v : Int64) (h : b ≠ a) : pL g a k v b = g b := if_neg h
theorem pR_self (g : RM) (a k : Nat) (v : Option Nat) : pR g a k v a = va_up (g a) k v := if_pos rfl
theorem pR_ne (g : RM) {a b : Nat} (k : Nat) (v : Option Nat) (h : b ≠ a) : pR g a k v b = g b := if_neg h
/-! the start, and what a method's start and end say -/
def St (G : Gx) : Prop := ∃ av : Array Value, (∀ w ∈ lw_tbl, w.before av G.2.2.1 = true) ∧ (Jvm.Cond.and given_1 narrow_1).before av G.2.2.1 = true ∧ modulesRight_1 G.2.2.1 = true ∧ va_K G.1 cl0 (tys0 G) G.2.2.1 ∧ ∀ (i : Nat) (q : String × Nat × String), strL[i]? = some q → (Term.string q.1 q.2.1).eval av G.2.2.1 none [] G.2.2.1 = some (.ref (G.2.2.2 i))
def Wld (G : Gx) (U : State) : Prop := St G ∧ G.2.2.1.WarmedH U.vm
theorem Wld.warm {G : Gx} {s U : State} (h : Wld G s) (hW : s.WarmedH U.vm) : Wld G U := ⟨h.1, State.WarmedH.trans h.2 hW⟩
theorem Wld.K {G : Gx} {s : State} (h : Wld G s) : va_K G.1 cl0 (tys0 G) s := by
  obtain ⟨av, -, -, -, hk, -⟩ := h.1
  exact va_K.moved h.2.alike hk
def QR (G : Gx) (v : Option Value) (sh : SM) (g : GM) (gl : LM) (gr : RM) (n : Nat) : Array Value → State → Outcome → State → Prop := fun _ st o t => o = .returned v ∧ Rep G sh g gl gr n t.heap ∧ va_F (own G) st t
def MetI (l : Launch) (G : Gx) (y : MethodName) (ws : List Cond) (rm : Room) (As : List Value) (sh : SM) (g : GM) (gl : LM) (gr : RM) (n : Nat) (v : Option Value) (sh1 : SM) (g1 : GM) (gl1 : LM) (gr1 : RM) (n1 : Nat) : Prop :=
  Met l y ws rm (va_Pc As (fun U => Wld G U ∧ Rep G sh g gl gr n U.heap)) (QR G v sh1 g1 gl1 gr1 n1) rm.cells rm.slots (own G)
theorem blindI {G : Gx} {As : List Value} {sh : SM} {g : GM} {gl : LM} {gr : RM} {n : Nat} : FrameBlind (va_Pc As (fun U => Wld G U ∧ Rep G sh g gl gr n U.heap)) := fun _ _ _ _ h => h
theorem MetI.of {l : Launch} {G : Gx} {y : MethodName} {rm : Room} {As : List Value} {sh : SM} {g : GM} {gl : LM} {gr : RM} {n : Nat} {v : Option Value} {sh1 : SM} {g1 : GM} {gl1 : LM} {gr1 : RM} {n1 : Nat} {cc : ByteArray} {nL : Nat} {ret : Option FieldType}
    (hy : plainName y.cls = true) (hn : (lg_sl As).length ≤ nL)
    (body : ∀ (p : Program) (e : Env) (s : State) (m : MethodId) (below : List Frame) (meth : Method) (c : Code) (ls : Array Slot), p.tables.exec = Jvm.exec → c.code = cc → meth.sig.returnType = ret → c.maxLocals = nL → s.vm.findClass y.cls = some m.cls → (∀ w ∈ lw_all, w.before As.toArray s = true) → meth.locks = false → meth.name = y.name → Wld G s → va_K G.1 cl0 (tys0 G) s → Rep G sh g gl gr n s.heap → va_S (own G) s.heap s.heap [] → lv_has ls nL (lv_args 0 As) →
      W p l e rm s m As.toArray below meth c s.heap [] 0 0 (MQ below (QR G v sh1 g1 gl1 gr1 n1) As.toArray s rm.cells rm.slots (own G)) (F0 m 0 ls [])) : MetI l G y (ws_ y cc nL ret) rm As sh g gl gr n v sh1 g1 gl1 gr1 n1 := by
  refine Met.ofW (cc := cc) (maxL := nL) (ret := ret) hy rfl ?_
  intro p e s m args below meth c s₁ B hml hv
  obtain ⟨rfl, hW, hR⟩ := hv
  have hts := atoms_spec (ws := ws_ y cc nL ret) B.pre
  have hl := lv_entry As (n := nL) hn
  rw [lg_entry_eq]
  exact body p e s m below meth c _ B.exec B.bytes B.returns hml (findClass_of_methodNamed B.named) (fun w h => hts w (List.mem_cons_of_mem _ h)) B.notSynchronized (name_of_methodNamed B.named B.method).1 hW hW.K hR va_S.rf hl

