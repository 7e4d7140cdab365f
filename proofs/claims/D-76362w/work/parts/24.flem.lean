/-! what the walks ask of the functions -/
theorem begins_gr {g g1 : GM} {gr gr1 : RM} {a2 : Int32} (e : f_X8_begins g gr a2 = some (g1, gr1)) : puR gr 109 4 (some 108) = some gr1 := by
  unfold f_X8_begins at e
  obtain ⟨gr2, e2, e⟩ := obd e
  obtain ⟨g3, e3, e⟩ := obd e
  obtain ⟨g4, e4, e⟩ := obd e
  obtain ⟨g5, e5, e⟩ := obd e
  cases e
  exact e2
theorem begins_tx {g g1 : GM} {gr gr1 : RM} {a2 : Int32} (e : f_X8_begins g gr a2 = some (g1, gr1)) : gr1 109 4 = some 108 := by
  cases begins_gr e
  rw [pR_self]
  exact if_pos rfl
theorem begins_sk {sh : SM} {g g1 : GM} {gr gr1 : RM} {a2 : Int32} (h : Sk sh gr) (e : f_X8_begins g gr a2 = some (g1, gr1)) : Sk sh gr1 := h.pr (a := 109) (k := 4) (by decide) (begins_gr e)
theorem l_read_gr {gr3 : RM} : ∀ (k : Nat) (g : GM) (oo : (GM × RM) ⊕ (Nat × GM × RM)), l_X8_read_13 gr3 k g = some oo → oo.elim (fun p => p.2 = gr3) (fun q => q.2.2 = gr3) := by
  intro k
  induction k with
  | zero => intro g oo; exact nofun
  | succ k ih =>
    intro g oo h
    unfold l_X8_read_13 b_X8_read_13 at h
    by_cases c : (g 109 5) ≤ (g 109 6)
    · cases ifp h c
      rfl
    · rcases obx12 (ifn h c) with ⟨a, b, -, h2⟩ | ⟨a, -, h2⟩
      · cases h2
        rfl
      · exact ih a oo h2
theorem read_gr {sh : SM} {g : GM} {gr : RM} {a2 : Int32} {oo : (GM × RM) ⊕ (Nat × GM × RM)} (h : Sk sh gr) (e : f_X8_read g gr a2 = some oo) : oo.elim (fun p => Sk sh p.2) (fun q => Sk sh q.2.2) := by
  unfold f_X8_read at e
  obtain ⟨g2, gr3, e1, e⟩ := obd2 e
  obtain ⟨g5, e2, e⟩ := obd e
  have h1 := begins_sk h e1
  have h2 := l_read_gr _ _ _ e
  rcases oo with p | q
  · show Sk sh p.2
    rw [show p.2 = gr3 from h2]
    exact h1
  · show Sk sh q.2.2
    rw [show q.2.2 = gr3 from h2]
    exact h1
