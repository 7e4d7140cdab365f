/-! ROWS: super.fades(..) that lands in Fighting's default -/
section MCD
variable {p : Program} {l : Launch} {e : Env} {R : Room} {s : State} {m : MethodId} {args : Array Value} {below : List Frame} {meth : Method} {c : Code} {H : Heap} {locs : List Loc} {cells slots : Nat} {Q : State → Prop}
variable {cc : ByteArray} {pc : Nat} {ls : Array Slot} {rest st0 st1 : List Value} {G : Gx} {sh : SM} {g : GM} {gl : LM} {gr : RM} {n : Nat} {w b nL index : Nat} {own0 : String} {rm : Room}
def sdL : List (String × Nat) := [("IntentVats$Wool", 22), ("IntentVats$Linen", 22), ("IntentVats$Muslin", 14)]
theorem r_sfades (S : CallFix p m c cc nL s args lw_all own0) (ho : (own0, index) ∈ sdL) {r : Int32} (hM : MetI l G yX22_fades (ws_ yX22_fades cX22_fades 2 (some .int)) rm [.ref (adr G w), .ref (adr G b)] sh g gl gr n (some (.int r)) sh g gl gr n) (hSk : Sk sh gr) (hw : isWay w) (hfr : rm.frames + 1 ≤ R.frames) (hlo : 8 + (2 + 11) + rm.locals ≤ R.locals)
    (hK : va_K G.1 cl0 (tys0 G) s) (hW : Wld G s) (hR : Rep G sh g gl gr n H) (hS : va_S (own G) s.heap H locs) (hz : ls.size = nL) (hrm : (rest.map fun v => v.category).sum ≤ 8) (hdg : decode cc pc = .ok (.invokespecial index, 3)) (hf : cells ≤ R.cells ∧ slots ≤ R.slots)
    (kk : ∀ (H1 : Heap) (locs1 : List Loc), Rep G sh g gl gr n H1 → va_S (own G) s.heap H1 locs1 → W p l e R s m args below meth c H1 locs1 cells slots Q (F0 m (pc + 3) ls (.int r :: rest))) : W p l e R s m args below meth c H locs cells slots Q (F0 m pc ls (.ref (adr G b) :: .ref (adr G w) :: rest)) := sorry
end MCD
