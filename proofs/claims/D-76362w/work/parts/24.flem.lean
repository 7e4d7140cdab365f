/-! what the walks ask of the functions -/
theorem begins_gr {g g1 : GM} {gr gr1 : RM} {a2 : Int32} (e : f_X8_begins g gr a2 = some (g1, gr1)) : puR gr 109 4 (some 108) = some gr1 := by
  unfold f_X8_begins at e
  obtain ⟨gr2, e2, e⟩ := obd e
  obtain ⟨g3, e3, e⟩ := obd e
  obtain ⟨g4, e4, e⟩ := obd e
  obtain ⟨g5, e5, e⟩ := obd e
  cases e
  exact e2
theorem begins_tx {g g1 : GM} {gr gr1 : RM} {a2 : Int32} (e : f_X8_begins g gr a2 = some (g1, gr1)) : gr1 109 4 = some 108 := by
  cases begins_gr e
  rw [pR_self]
  exact if_pos rfl
theorem begins_sk {sh : SM} {g g1 : GM} {gr gr1 : RM} {a2 : Int32} (h : Sk sh gr) (e : f_X8_begins g gr a2 = some (g1, gr1)) : Sk sh gr1 := h.pr (a := 109) (k := 4) (by decide) (begins_gr e)
