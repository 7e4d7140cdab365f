/-! TEXT CONSTANTS -/
def f_J3_length (a : Nat) : Option Int32 := if a < 37 then some (nI (sl a)) else none
def f_J3_charAt (a : Nat) (i : Int32) : Option Int32 := if a < 37 then (if i < 0 ∨ sl a ≤ i.toNatClampNeg then none else some (sc a i.toNatClampNeg)) else none
theorem slt_J3_length {a : Nat} {r : Int32} (h : f_J3_length a = some r) : a < 37 := by
  unfold f_J3_length at h
  by_cases hc : a < 37
  · exact hc
  · rw [if_neg hc] at h; cases h
theorem slt_J3_charAt {a : Nat} {i r : Int32} (h : f_J3_charAt a i = some r) : a < 37 := by
  unfold f_J3_charAt at h
  by_cases hc : a < 37
  · exact hc
  · rw [if_neg hc] at h; cases h
theorem Wld.str {G : Gx} {s : State} (hW : Wld G s) (i : Nat) {o : String} {k : Nat} {t : String} (hq : strL[i]? = some (o, k, t)) : vk_R o k t (adr G i) s := sorry
theorem str_0 {G : Gx} {s : State} (hW : Wld G s) : vk_R RX8 11 "cloth" (adr G 0) s := hW.str 0 (show strL[0]? = some (RX8, 11, "cloth") by decide +kernel)
theorem str_1 {G : Gx} {s : State} (hW : Wld G s) : vk_R RX8 13 "wool" (adr G 1) s := hW.str 1 (show strL[1]? = some (RX8, 13, "wool") by decide +kernel)
theorem str_2 {G : Gx} {s : State} (hW : Wld G s) : vk_R RX8 15 "linen" (adr G 2) s := hW.str 2 (show strL[2]? = some (RX8, 15, "linen") by decide +kernel)
theorem str_3 {G : Gx} {s : State} (hW : Wld G s) : vk_R RX8 17 "felt" (adr G 3) s := hW.str 3 (show strL[3]? = some (RX8, 17, "felt") by decide +kernel)
theorem str_4 {G : Gx} {s : State} (hW : Wld G s) : vk_R RX8 19 "shroud" (adr G 4) s := hW.str 4 (show strL[4]? = some (RX8, 19, "shroud") by decide +kernel)
theorem str_5 {G : Gx} {s : State} (hW : Wld G s) : vk_R RX8 21 "muslin" (adr G 5) s := hW.str 5 (show strL[5]? = some (RX8, 21, "muslin") by decide +kernel)
theorem str_6 {G : Gx} {s : State} (hW : Wld G s) : vk_R RX8 29 "mordant" (adr G 6) s := hW.str 6 (show strL[6]? = some (RX8, 29, "mordant") by decide +kernel)
theorem str_7 {G : Gx} {s : State} (hW : Wld G s) : vk_R RX8 31 "light" (adr G 7) s := hW.str 7 (show strL[7]? = some (RX8, 31, "light") by decide +kernel)
theorem str_8 {G : Gx} {s : State} (hW : Wld G s) : vk_R RX8 33 "quarrel" (adr G 8) s := hW.str 8 (show strL[8]? = some (RX8, 33, "quarrel") by decide +kernel)
theorem str_9 {G : Gx} {s : State} (hW : Wld G s) : vk_R RX8 35 "slip" (adr G 9) s := hW.str 9 (show strL[9]? = some (RX8, 35, "slip") by decide +kernel)
theorem str_10 {G : Gx} {s : State} (hW : Wld G s) : vk_R RX8 113 "about" (adr G 10) s := hW.str 10 (show strL[10]? = some (RX8, 113, "about") by decide +kernel)
theorem str_11 {G : Gx} {s : State} (hW : Wld G s) : vk_R RX8 127 "deep" (adr G 11) s := hW.str 11 (show strL[11]? = some (RX8, 127, "deep") by decide +kernel)
theorem str_12 {G : Gx} {s : State} (hW : Wld G s) : vk_R RX8 128 "hung" (adr G 12) s := hW.str 12 (show strL[12]? = some (RX8, 128, "hung") by decide +kernel)
theorem str_13 {G : Gx} {s : State} (hW : Wld G s) : vk_R RX8 134 "of" (adr G 13) s := hW.str 13 (show strL[13]? = some (RX8, 134, "of") by decide +kernel)
theorem str_14 {G : Gx} {s : State} (hW : Wld G s) : vk_R RX8 146 "vat" (adr G 14) s := hW.str 14 (show strL[14]? = some (RX8, 146, "vat") by decide +kernel)
theorem str_15 {G : Gx} {s : State} (hW : Wld G s) : vk_R RX8 160 "strong" (adr G 15) s := hW.str 15 (show strL[15]? = some (RX8, 160, "strong") by decide +kernel)
theorem str_16 {G : Gx} {s : State} (hW : Wld G s) : vk_R RX8 164 "day" (adr G 16) s := hW.str 16 (show strL[16]? = some (RX8, 164, "day") by decide +kernel)
theorem str_17 {G : Gx} {s : State} (hW : Wld G s) : vk_R RX8 174 ";" (adr G 17) s := hW.str 17 (show strL[17]? = some (RX8, 174, ";") by decide +kernel)
theorem str_18 {G : Gx} {s : State} (hW : Wld G s) : vk_R RX14 262 "cloth" (adr G 18) s := hW.str 18 (show strL[18]? = some (RX14, 262, "cloth") by decide +kernel)
theorem str_19 {G : Gx} {s : State} (hW : Wld G s) : vk_R RX14 268 "wool" (adr G 19) s := hW.str 19 (show strL[19]? = some (RX14, 268, "wool") by decide +kernel)
theorem str_20 {G : Gx} {s : State} (hW : Wld G s) : vk_R RX14 270 "linen" (adr G 20) s := hW.str 20 (show strL[20]? = some (RX14, 270, "linen") by decide +kernel)
theorem str_21 {G : Gx} {s : State} (hW : Wld G s) : vk_R RX14 272 "felt" (adr G 21) s := hW.str 21 (show strL[21]? = some (RX14, 272, "felt") by decide +kernel)
theorem str_22 {G : Gx} {s : State} (hW : Wld G s) : vk_R RX14 274 "shroud" (adr G 22) s := hW.str 22 (show strL[22]? = some (RX14, 274, "shroud") by decide +kernel)
theorem str_23 {G : Gx} {s : State} (hW : Wld G s) : vk_R RX14 276 "muslin" (adr G 23) s := hW.str 23 (show strL[23]? = some (RX14, 276, "muslin") by decide +kernel)
theorem str_24 {G : Gx} {s : State} (hW : Wld G s) : vk_R RX14 278 "about" (adr G 24) s := hW.str 24 (show strL[24]? = some (RX14, 278, "about") by decide +kernel)
theorem str_25 {G : Gx} {s : State} (hW : Wld G s) : vk_R RX14 286 "deep" (adr G 25) s := hW.str 25 (show strL[25]? = some (RX14, 286, "deep") by decide +kernel)
theorem str_26 {G : Gx} {s : State} (hW : Wld G s) : vk_R RX14 288 "hung" (adr G 26) s := hW.str 26 (show strL[26]? = some (RX14, 288, "hung") by decide +kernel)
theorem str_27 {G : Gx} {s : State} (hW : Wld G s) : vk_R RX14 290 "mordant" (adr G 27) s := hW.str 27 (show strL[27]? = some (RX14, 290, "mordant") by decide +kernel)
theorem str_28 {G : Gx} {s : State} (hW : Wld G s) : vk_R RX14 292 "light" (adr G 28) s := hW.str 28 (show strL[28]? = some (RX14, 292, "light") by decide +kernel)
theorem str_29 {G : Gx} {s : State} (hW : Wld G s) : vk_R RX14 294 "quarrel" (adr G 29) s := hW.str 29 (show strL[29]? = some (RX14, 294, "quarrel") by decide +kernel)
theorem str_30 {G : Gx} {s : State} (hW : Wld G s) : vk_R RX14 296 "slip" (adr G 30) s := hW.str 30 (show strL[30]? = some (RX14, 296, "slip") by decide +kernel)
theorem str_31 {G : Gx} {s : State} (hW : Wld G s) : vk_R RX14 307 "vat" (adr G 31) s := hW.str 31 (show strL[31]? = some (RX14, 307, "vat") by decide +kernel)
theorem str_32 {G : Gx} {s : State} (hW : Wld G s) : vk_R RX14 309 "of" (adr G 32) s := hW.str 32 (show strL[32]? = some (RX14, 309, "of") by decide +kernel)
theorem str_33 {G : Gx} {s : State} (hW : Wld G s) : vk_R RX14 315 "strong" (adr G 33) s := hW.str 33 (show strL[33]? = some (RX14, 315, "strong") by decide +kernel)
theorem str_34 {G : Gx} {s : State} (hW : Wld G s) : vk_R RX14 317 "" (adr G 34) s := hW.str 34 (show strL[34]? = some (RX14, 317, "") by decide +kernel)
theorem str_35 {G : Gx} {s : State} (hW : Wld G s) : vk_R RX14 319 "day" (adr G 35) s := hW.str 35 (show strL[35]? = some (RX14, 319, "day") by decide +kernel)
theorem str_36 {G : Gx} {s : State} (hW : Wld G s) : vk_R RX14 324 ";" (adr G 36) s := hW.str 36 (show strL[36]? = some (RX14, 324, ";") by decide +kernel)
theorem Wld.strR {G : Gx} {s : State} {H : Heap} {sh : SM} {g : GM} {gl : LM} {gr : RM} {n a : Nat} (hW : Wld G s) (hR : Rep G sh g gl gr n H) (ha : a < 37) : ∃ cellB : Cell, H[adr G a]? = some cellB ∧ cellB.vm.isStatics = false ∧ s.vm.findClass "java/lang/String" = some cellB.cls := sorry
def rm_J3_length : Room := { frames := 5, cells := 0, slots := 0, locals := 200 }
def rm_J3_charAt : Room := { frames := 5, cells := 0, slots := 0, locals := 200 }
theorem hd_J3_length : yJ3_length.cls = "java/lang/String" ∧ yJ3_length.cls ≠ "java/lang/invoke/MethodHandle" ∧ yJ3_length.cls ≠ "java/lang/invoke/VarHandle" ∧ (parseMethodDescriptor yJ3_length.desc).map (fun d => d.parameters.length) = some 0 := by decide +kernel
theorem hd_J3_charAt : yJ3_charAt.cls = "java/lang/String" ∧ yJ3_charAt.cls ≠ "java/lang/invoke/MethodHandle" ∧ yJ3_charAt.cls ≠ "java/lang/invoke/VarHandle" ∧ (parseMethodDescriptor yJ3_charAt.desc).map (fun d => d.parameters.length) = some 1 := by decide +kernel
theorem w_J3_length {l : Launch} {G : Gx} {sh : SM} {g : GM} {gl : LM} {gr : RM} {n : Nat} (hSk : Sk sh gr) (a : Nat) {r : Int32} (h : f_J3_length a = some r) : MetI l G yJ3_length (ws_ yJ3_length cJ3_length 1 (some .int)) rm_J3_length [.ref (adr G a)] sh g gl gr n (some (.int r)) sh g gl gr n := sorry
theorem w_J3_charAt {l : Launch} {G : Gx} {sh : SM} {g : GM} {gl : LM} {gr : RM} {n : Nat} (hSk : Sk sh gr) (a : Nat) (i : Int32) {r : Int32} (h : f_J3_charAt a i = some r) : MetI l G yJ3_charAt (ws_ yJ3_charAt cJ3_charAt 2 (some .char)) rm_J3_charAt [.ref (adr G a), .int i] sh g gl gr n (some (.int r)) sh g gl gr n := sorry
