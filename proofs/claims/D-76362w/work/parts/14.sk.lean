/-! THE SKELETON: what every cell is, what refers to what, once both objects are made. -/
def shL : List (Nat × Nat × Nat) := [(64, 20, 18), (65, 21, 12), (66, 1, 4), (67, 1, 8), (68, 1, 8), (69, 1, 6), (70, 1, 8), (71, 1, 8), (72, 1, 8), (73, 1, 8), (74, 21, 12), (75, 1, 4), (76, 1, 8), (77, 1, 8), (78, 1, 6), (79, 1, 8), (80, 1, 8), (81, 1, 8), (82, 1, 8), (83, 21, 12), (84, 1, 4), (85, 1, 8), (86, 1, 8), (87, 1, 6), (88, 1, 8), (89, 1, 8), (90, 1, 8), (91, 1, 8), (92, 21, 12), (93, 1, 4), (94, 1, 8), (95, 1, 8), (96, 1, 6), (97, 1, 8), (98, 1, 8), (99, 1, 8), (100, 1, 8), (101, 5, 6), (102, 22, 0), (103, 23, 0), (104, 24, 0), (105, 25, 0), (106, 26, 0), (107, 27, 0), (108, 2, 200), (109, 28, 8), (110, 6, 6), (111, 6, 4), (112, 29, 7), (113, 7, 10), (114, 1, 3), (115, 8, 4), (116, 30, 5), (117, 30, 5), (118, 30, 5), (119, 30, 5), (120, 31, 6), (121, 32, 6), (122, 1, 30), (123, 9, 4), (124, 33, 3), (125, 33, 3), (126, 33, 3), (127, 33, 3), (128, 34, 25), (129, 1, 4), (130, 1, 4), (131, 1, 69), (132, 1, 69), (133, 1, 69), (134, 1, 200), (135, 1, 30), (136, 1, 4), (137, 1, 4), (138, 1, 160), (139, 1, 4), (140, 1, 4), (141, 1, 4), (142, 1, 30)]
def srL : List (Nat × Nat × Nat) := [(64, 0, 65), (64, 1, 74), (64, 2, 83), (64, 3, 92), (64, 5, 101), (64, 6, 108), (64, 8, 109), (64, 9, 113), (64, 11, 114), (64, 12, 115), (64, 13, 120), (64, 14, 121), (64, 15, 122), (64, 17, 123), (65, 4, 66), (65, 5, 67), (65, 6, 68), (65, 7, 69), (65, 8, 70), (65, 9, 71), (65, 10, 72), (65, 11, 73), (74, 4, 75), (74, 5, 76), (74, 6, 77), (74, 7, 78), (74, 8, 79), (74, 9, 80), (74, 10, 81), (74, 11, 82), (83, 4, 84), (83, 5, 85), (83, 6, 86), (83, 7, 87), (83, 8, 88), (83, 9, 89), (83, 10, 90), (83, 11, 91), (92, 4, 93), (92, 5, 94), (92, 6, 95), (92, 7, 96), (92, 8, 97), (92, 9, 98), (92, 10, 99), (92, 11, 100), (101, 0, 102), (101, 1, 103), (101, 2, 104), (101, 3, 105), (101, 4, 106), (101, 5, 107), (109, 0, 110), (109, 1, 111), (109, 2, 112), (109, 3, 83), (110, 0, 0), (110, 1, 1), (110, 2, 2), (110, 3, 3), (110, 4, 4), (110, 5, 5), (111, 0, 6), (111, 1, 7), (111, 2, 8), (111, 3, 9), (115, 0, 116), (115, 1, 117), (115, 2, 118), (115, 3, 119), (123, 0, 124), (123, 1, 125), (123, 2, 126), (123, 3, 127), (128, 0, 129), (128, 1, 130), (128, 2, 131), (128, 3, 132), (128, 4, 133), (128, 6, 134), (128, 11, 135), (128, 13, 136), (128, 14, 137), (128, 15, 138), (128, 16, 139), (128, 17, 140), (128, 18, 141), (128, 19, 142)]
def Sk (sh : SM) (gr : RM) : Prop := (∀ q ∈ shL, sh q.1 = q.2) ∧ ∀ q ∈ srL, gr q.1 q.2.1 = some q.2.2
theorem Sk.s {sh : SM} {gr : RM} (h : Sk sh gr) (i : Nat) {q : Nat × Nat × Nat} (hq : shL[i]? = some q) : sh q.1 = q.2 := h.1 q (List.mem_of_getElem? hq)
theorem Sk.r {sh : SM} {gr : RM} (h : Sk sh gr) (i : Nat) {q : Nat × Nat × Nat} (hq : srL[i]? = some q) : gr q.1 q.2.1 = some q.2.2 := h.2 q (List.mem_of_getElem? hq)
section SKF
variable {sh : SM} {gr : RM}
theorem sk_64 (h : Sk sh gr) : sh 64 = (20, 18) := h.s 0 rfl
theorem sk_65 (h : Sk sh gr) : sh 65 = (21, 12) := h.s 1 rfl
theorem sk_66 (h : Sk sh gr) : sh 66 = (1, 4) := h.s 2 rfl
theorem sk_67 (h : Sk sh gr) : sh 67 = (1, 8) := h.s 3 rfl
theorem sk_68 (h : Sk sh gr) : sh 68 = (1, 8) := h.s 4 rfl
theorem sk_69 (h : Sk sh gr) : sh 69 = (1, 6) := h.s 5 rfl
theorem sk_70 (h : Sk sh gr) : sh 70 = (1, 8) := h.s 6 rfl
theorem sk_71 (h : Sk sh gr) : sh 71 = (1, 8) := h.s 7 rfl
theorem sk_72 (h : Sk sh gr) : sh 72 = (1, 8) := h.s 8 rfl
theorem sk_73 (h : Sk sh gr) : sh 73 = (1, 8) := h.s 9 rfl
theorem sk_74 (h : Sk sh gr) : sh 74 = (21, 12) := h.s 10 rfl
theorem sk_75 (h : Sk sh gr) : sh 75 = (1, 4) := h.s 11 rfl
theorem sk_76 (h : Sk sh gr) : sh 76 = (1, 8) := h.s 12 rfl
theorem sk_77 (h : Sk sh gr) : sh 77 = (1, 8) := h.s 13 rfl
theorem sk_78 (h : Sk sh gr) : sh 78 = (1, 6) := h.s 14 rfl
theorem sk_79 (h : Sk sh gr) : sh 79 = (1, 8) := h.s 15 rfl
theorem sk_80 (h : Sk sh gr) : sh 80 = (1, 8) := h.s 16 rfl
theorem sk_81 (h : Sk sh gr) : sh 81 = (1, 8) := h.s 17 rfl
theorem sk_82 (h : Sk sh gr) : sh 82 = (1, 8) := h.s 18 rfl
theorem sk_83 (h : Sk sh gr) : sh 83 = (21, 12) := h.s 19 rfl
theorem sk_84 (h : Sk sh gr) : sh 84 = (1, 4) := h.s 20 rfl
theorem sk_85 (h : Sk sh gr) : sh 85 = (1, 8) := h.s 21 rfl
theorem sk_86 (h : Sk sh gr) : sh 86 = (1, 8) := h.s 22 rfl
theorem sk_87 (h : Sk sh gr) : sh 87 = (1, 6) := h.s 23 rfl
theorem sk_88 (h : Sk sh gr) : sh 88 = (1, 8) := h.s 24 rfl
theorem sk_89 (h : Sk sh gr) : sh 89 = (1, 8) := h.s 25 rfl
theorem sk_90 (h : Sk sh gr) : sh 90 = (1, 8) := h.s 26 rfl
theorem sk_91 (h : Sk sh gr) : sh 91 = (1, 8) := h.s 27 rfl
theorem sk_92 (h : Sk sh gr) : sh 92 = (21, 12) := h.s 28 rfl
theorem sk_93 (h : Sk sh gr) : sh 93 = (1, 4) := h.s 29 rfl
theorem sk_94 (h : Sk sh gr) : sh 94 = (1, 8) := h.s 30 rfl
theorem sk_95 (h : Sk sh gr) : sh 95 = (1, 8) := h.s 31 rfl
theorem sk_96 (h : Sk sh gr) : sh 96 = (1, 6) := h.s 32 rfl
theorem sk_97 (h : Sk sh gr) : sh 97 = (1, 8) := h.s 33 rfl
theorem sk_98 (h : Sk sh gr) : sh 98 = (1, 8) := h.s 34 rfl
theorem sk_99 (h : Sk sh gr) : sh 99 = (1, 8) := h.s 35 rfl
theorem sk_100 (h : Sk sh gr) : sh 100 = (1, 8) := h.s 36 rfl
theorem sk_101 (h : Sk sh gr) : sh 101 = (5, 6) := h.s 37 rfl
theorem sk_102 (h : Sk sh gr) : sh 102 = (22, 0) := h.s 38 rfl
theorem sk_103 (h : Sk sh gr) : sh 103 = (23, 0) := h.s 39 rfl
theorem sk_104 (h : Sk sh gr) : sh 104 = (24, 0) := h.s 40 rfl
theorem sk_105 (h : Sk sh gr) : sh 105 = (25, 0) := h.s 41 rfl
theorem sk_106 (h : Sk sh gr) : sh 106 = (26, 0) := h.s 42 rfl
theorem sk_107 (h : Sk sh gr) : sh 107 = (27, 0) := h.s 43 rfl
theorem sk_108 (h : Sk sh gr) : sh 108 = (2, 200) := h.s 44 rfl
theorem sk_109 (h : Sk sh gr) : sh 109 = (28, 8) := h.s 45 rfl
theorem sk_110 (h : Sk sh gr) : sh 110 = (6, 6) := h.s 46 rfl
theorem sk_111 (h : Sk sh gr) : sh 111 = (6, 4) := h.s 47 rfl
theorem sk_112 (h : Sk sh gr) : sh 112 = (29, 7) := h.s 48 rfl
theorem sk_113 (h : Sk sh gr) : sh 113 = (7, 10) := h.s 49 rfl
theorem sk_114 (h : Sk sh gr) : sh 114 = (1, 3) := h.s 50 rfl
theorem sk_115 (h : Sk sh gr) : sh 115 = (8, 4) := h.s 51 rfl
theorem sk_116 (h : Sk sh gr) : sh 116 = (30, 5) := h.s 52 rfl
theorem sk_117 (h : Sk sh gr) : sh 117 = (30, 5) := h.s 53 rfl
theorem sk_118 (h : Sk sh gr) : sh 118 = (30, 5) := h.s 54 rfl
theorem sk_119 (h : Sk sh gr) : sh 119 = (30, 5) := h.s 55 rfl
theorem sk_120 (h : Sk sh gr) : sh 120 = (31, 6) := h.s 56 rfl
theorem sk_121 (h : Sk sh gr) : sh 121 = (32, 6) := h.s 57 rfl
theorem sk_122 (h : Sk sh gr) : sh 122 = (1, 30) := h.s 58 rfl
theorem sk_123 (h : Sk sh gr) : sh 123 = (9, 4) := h.s 59 rfl
theorem sk_124 (h : Sk sh gr) : sh 124 = (33, 3) := h.s 60 rfl
theorem sk_125 (h : Sk sh gr) : sh 125 = (33, 3) := h.s 61 rfl
theorem sk_126 (h : Sk sh gr) : sh 126 = (33, 3) := h.s 62 rfl
theorem sk_127 (h : Sk sh gr) : sh 127 = (33, 3) := h.s 63 rfl
theorem sk_128 (h : Sk sh gr) : sh 128 = (34, 25) := h.s 64 rfl
theorem sk_129 (h : Sk sh gr) : sh 129 = (1, 4) := h.s 65 rfl
theorem sk_130 (h : Sk sh gr) : sh 130 = (1, 4) := h.s 66 rfl
theorem sk_131 (h : Sk sh gr) : sh 131 = (1, 69) := h.s 67 rfl
theorem sk_132 (h : Sk sh gr) : sh 132 = (1, 69) := h.s 68 rfl
theorem sk_133 (h : Sk sh gr) : sh 133 = (1, 69) := h.s 69 rfl
theorem sk_134 (h : Sk sh gr) : sh 134 = (1, 200) := h.s 70 rfl
theorem sk_135 (h : Sk sh gr) : sh 135 = (1, 30) := h.s 71 rfl
theorem sk_136 (h : Sk sh gr) : sh 136 = (1, 4) := h.s 72 rfl
theorem sk_137 (h : Sk sh gr) : sh 137 = (1, 4) := h.s 73 rfl
theorem sk_138 (h : Sk sh gr) : sh 138 = (1, 160) := h.s 74 rfl
theorem sk_139 (h : Sk sh gr) : sh 139 = (1, 4) := h.s 75 rfl
theorem sk_140 (h : Sk sh gr) : sh 140 = (1, 4) := h.s 76 rfl
theorem sk_141 (h : Sk sh gr) : sh 141 = (1, 4) := h.s 77 rfl
theorem sk_142 (h : Sk sh gr) : sh 142 = (1, 30) := h.s 78 rfl
theorem sr_64_0 (h : Sk sh gr) : gr 64 0 = some 65 := h.r 0 rfl
theorem sr_64_1 (h : Sk sh gr) : gr 64 1 = some 74 := h.r 1 rfl
theorem sr_64_2 (h : Sk sh gr) : gr 64 2 = some 83 := h.r 2 rfl
theorem sr_64_3 (h : Sk sh gr) : gr 64 3 = some 92 := h.r 3 rfl
theorem sr_64_5 (h : Sk sh gr) : gr 64 5 = some 101 := h.r 4 rfl
theorem sr_64_6 (h : Sk sh gr) : gr 64 6 = some 108 := h.r 5 rfl
theorem sr_64_8 (h : Sk sh gr) : gr 64 8 = some 109 := h.r 6 rfl
theorem sr_64_9 (h : Sk sh gr) : gr 64 9 = some 113 := h.r 7 rfl
theorem sr_64_11 (h : Sk sh gr) : gr 64 11 = some 114 := h.r 8 rfl
theorem sr_64_12 (h : Sk sh gr) : gr 64 12 = some 115 := h.r 9 rfl
theorem sr_64_13 (h : Sk sh gr) : gr 64 13 = some 120 := h.r 10 rfl
theorem sr_64_14 (h : Sk sh gr) : gr 64 14 = some 121 := h.r 11 rfl
theorem sr_64_15 (h : Sk sh gr) : gr 64 15 = some 122 := h.r 12 rfl
theorem sr_64_17 (h : Sk sh gr) : gr 64 17 = some 123 := h.r 13 rfl
theorem sr_65_4 (h : Sk sh gr) : gr 65 4 = some 66 := h.r 14 rfl
theorem sr_65_5 (h : Sk sh gr) : gr 65 5 = some 67 := h.r 15 rfl
theorem sr_65_6 (h : Sk sh gr) : gr 65 6 = some 68 := h.r 16 rfl
theorem sr_65_7 (h : Sk sh gr) : gr 65 7 = some 69 := h.r 17 rfl
theorem sr_65_8 (h : Sk sh gr) : gr 65 8 = some 70 := h.r 18 rfl
theorem sr_65_9 (h : Sk sh gr) : gr 65 9 = some 71 := h.r 19 rfl
theorem sr_65_10 (h : Sk sh gr) : gr 65 10 = some 72 := h.r 20 rfl
theorem sr_65_11 (h : Sk sh gr) : gr 65 11 = some 73 := h.r 21 rfl
theorem sr_74_4 (h : Sk sh gr) : gr 74 4 = some 75 := h.r 22 rfl
theorem sr_74_5 (h : Sk sh gr) : gr 74 5 = some 76 := h.r 23 rfl
theorem sr_74_6 (h : Sk sh gr) : gr 74 6 = some 77 := h.r 24 rfl
theorem sr_74_7 (h : Sk sh gr) : gr 74 7 = some 78 := h.r 25 rfl
theorem sr_74_8 (h : Sk sh gr) : gr 74 8 = some 79 := h.r 26 rfl
theorem sr_74_9 (h : Sk sh gr) : gr 74 9 = some 80 := h.r 27 rfl
theorem sr_74_10 (h : Sk sh gr) : gr 74 10 = some 81 := h.r 28 rfl
theorem sr_74_11 (h : Sk sh gr) : gr 74 11 = some 82 := h.r 29 rfl
theorem sr_83_4 (h : Sk sh gr) : gr 83 4 = some 84 := h.r 30 rfl
theorem sr_83_5 (h : Sk sh gr) : gr 83 5 = some 85 := h.r 31 rfl
theorem sr_83_6 (h : Sk sh gr) : gr 83 6 = some 86 := h.r 32 rfl
theorem sr_83_7 (h : Sk sh gr) : gr 83 7 = some 87 := h.r 33 rfl
theorem sr_83_8 (h : Sk sh gr) : gr 83 8 = some 88 := h.r 34 rfl
theorem sr_83_9 (h : Sk sh gr) : gr 83 9 = some 89 := h.r 35 rfl
theorem sr_83_10 (h : Sk sh gr) : gr 83 10 = some 90 := h.r 36 rfl
theorem sr_83_11 (h : Sk sh gr) : gr 83 11 = some 91 := h.r 37 rfl
theorem sr_92_4 (h : Sk sh gr) : gr 92 4 = some 93 := h.r 38 rfl
theorem sr_92_5 (h : Sk sh gr) : gr 92 5 = some 94 := h.r 39 rfl
theorem sr_92_6 (h : Sk sh gr) : gr 92 6 = some 95 := h.r 40 rfl
theorem sr_92_7 (h : Sk sh gr) : gr 92 7 = some 96 := h.r 41 rfl
theorem sr_92_8 (h : Sk sh gr) : gr 92 8 = some 97 := h.r 42 rfl
theorem sr_92_9 (h : Sk sh gr) : gr 92 9 = some 98 := h.r 43 rfl
theorem sr_92_10 (h : Sk sh gr) : gr 92 10 = some 99 := h.r 44 rfl
theorem sr_92_11 (h : Sk sh gr) : gr 92 11 = some 100 := h.r 45 rfl
theorem sr_101_0 (h : Sk sh gr) : gr 101 0 = some 102 := h.r 46 rfl
theorem sr_101_1 (h : Sk sh gr) : gr 101 1 = some 103 := h.r 47 rfl
theorem sr_101_2 (h : Sk sh gr) : gr 101 2 = some 104 := h.r 48 rfl
theorem sr_101_3 (h : Sk sh gr) : gr 101 3 = some 105 := h.r 49 rfl
theorem sr_101_4 (h : Sk sh gr) : gr 101 4 = some 106 := h.r 50 rfl
theorem sr_101_5 (h : Sk sh gr) : gr 101 5 = some 107 := h.r 51 rfl
theorem sr_109_0 (h : Sk sh gr) : gr 109 0 = some 110 := h.r 52 rfl
theorem sr_109_1 (h : Sk sh gr) : gr 109 1 = some 111 := h.r 53 rfl
theorem sr_109_2 (h : Sk sh gr) : gr 109 2 = some 112 := h.r 54 rfl
theorem sr_109_3 (h : Sk sh gr) : gr 109 3 = some 83 := h.r 55 rfl
theorem sr_110_0 (h : Sk sh gr) : gr 110 0 = some 0 := h.r 56 rfl
theorem sr_110_1 (h : Sk sh gr) : gr 110 1 = some 1 := h.r 57 rfl
theorem sr_110_2 (h : Sk sh gr) : gr 110 2 = some 2 := h.r 58 rfl
theorem sr_110_3 (h : Sk sh gr) : gr 110 3 = some 3 := h.r 59 rfl
theorem sr_110_4 (h : Sk sh gr) : gr 110 4 = some 4 := h.r 60 rfl
theorem sr_110_5 (h : Sk sh gr) : gr 110 5 = some 5 := h.r 61 rfl
theorem sr_111_0 (h : Sk sh gr) : gr 111 0 = some 6 := h.r 62 rfl
theorem sr_111_1 (h : Sk sh gr) : gr 111 1 = some 7 := h.r 63 rfl
theorem sr_111_2 (h : Sk sh gr) : gr 111 2 = some 8 := h.r 64 rfl
theorem sr_111_3 (h : Sk sh gr) : gr 111 3 = some 9 := h.r 65 rfl
theorem sr_115_0 (h : Sk sh gr) : gr 115 0 = some 116 := h.r 66 rfl
theorem sr_115_1 (h : Sk sh gr) : gr 115 1 = some 117 := h.r 67 rfl
theorem sr_115_2 (h : Sk sh gr) : gr 115 2 = some 118 := h.r 68 rfl
theorem sr_115_3 (h : Sk sh gr) : gr 115 3 = some 119 := h.r 69 rfl
theorem sr_123_0 (h : Sk sh gr) : gr 123 0 = some 124 := h.r 70 rfl
theorem sr_123_1 (h : Sk sh gr) : gr 123 1 = some 125 := h.r 71 rfl
theorem sr_123_2 (h : Sk sh gr) : gr 123 2 = some 126 := h.r 72 rfl
theorem sr_123_3 (h : Sk sh gr) : gr 123 3 = some 127 := h.r 73 rfl
theorem sr_128_0 (h : Sk sh gr) : gr 128 0 = some 129 := h.r 74 rfl
theorem sr_128_1 (h : Sk sh gr) : gr 128 1 = some 130 := h.r 75 rfl
theorem sr_128_2 (h : Sk sh gr) : gr 128 2 = some 131 := h.r 76 rfl
theorem sr_128_3 (h : Sk sh gr) : gr 128 3 = some 132 := h.r 77 rfl
theorem sr_128_4 (h : Sk sh gr) : gr 128 4 = some 133 := h.r 78 rfl
theorem sr_128_6 (h : Sk sh gr) : gr 128 6 = some 134 := h.r 79 rfl
theorem sr_128_11 (h : Sk sh gr) : gr 128 11 = some 135 := h.r 80 rfl
theorem sr_128_13 (h : Sk sh gr) : gr 128 13 = some 136 := h.r 81 rfl
theorem sr_128_14 (h : Sk sh gr) : gr 128 14 = some 137 := h.r 82 rfl
theorem sr_128_15 (h : Sk sh gr) : gr 128 15 = some 138 := h.r 83 rfl
theorem sr_128_16 (h : Sk sh gr) : gr 128 16 = some 139 := h.r 84 rfl
theorem sr_128_17 (h : Sk sh gr) : gr 128 17 = some 140 := h.r 85 rfl
theorem sr_128_18 (h : Sk sh gr) : gr 128 18 = some 141 := h.r 86 rfl
theorem sr_128_19 (h : Sk sh gr) : gr 128 19 = some 142 := h.r 87 rfl
def isMl (b : Nat) : Prop := b = 65 ∨ b = 74 ∨ b = 83 ∨ b = 92
theorem isMl_65 : isMl 65 := by unfold isMl; omega
theorem isMl_74 : isMl 74 := by unfold isMl; omega
theorem isMl_83 : isMl 83 := by unfold isMl; omega
theorem isMl_92 : isMl 92 := by unfold isMl; omega
theorem mls_0 (h : Sk sh gr) {b : Nat} (hb : isMl b) : sh b = (21, 12) := by
  rcases hb with rfl | rfl | rfl | rfl
  · exact sk_65 h
  · exact sk_74 h
  · exact sk_83 h
  · exact sk_92 h
theorem mls_1 (h : Sk sh gr) {b : Nat} (hb : isMl b) : sh (b + 1) = (1, 4) := by
  rcases hb with rfl | rfl | rfl | rfl
  · exact sk_66 h
  · exact sk_75 h
  · exact sk_84 h
  · exact sk_93 h
theorem mls_2 (h : Sk sh gr) {b : Nat} (hb : isMl b) : sh (b + 2) = (1, 8) := by
  rcases hb with rfl | rfl | rfl | rfl
  · exact sk_67 h
  · exact sk_76 h
  · exact sk_85 h
  · exact sk_94 h
theorem mls_3 (h : Sk sh gr) {b : Nat} (hb : isMl b) : sh (b + 3) = (1, 8) := by
  rcases hb with rfl | rfl | rfl | rfl
  · exact sk_68 h
  · exact sk_77 h
  · exact sk_86 h
  · exact sk_95 h
theorem mls_4 (h : Sk sh gr) {b : Nat} (hb : isMl b) : sh (b + 4) = (1, 6) := by
  rcases hb with rfl | rfl | rfl | rfl
  · exact sk_69 h
  · exact sk_78 h
  · exact sk_87 h
  · exact sk_96 h
theorem mls_5 (h : Sk sh gr) {b : Nat} (hb : isMl b) : sh (b + 5) = (1, 8) := by
  rcases hb with rfl | rfl | rfl | rfl
  · exact sk_70 h
  · exact sk_79 h
  · exact sk_88 h
  · exact sk_97 h
theorem mls_6 (h : Sk sh gr) {b : Nat} (hb : isMl b) : sh (b + 6) = (1, 8) := by
  rcases hb with rfl | rfl | rfl | rfl
  · exact sk_71 h
  · exact sk_80 h
  · exact sk_89 h
  · exact sk_98 h
theorem mls_7 (h : Sk sh gr) {b : Nat} (hb : isMl b) : sh (b + 7) = (1, 8) := by
  rcases hb with rfl | rfl | rfl | rfl
  · exact sk_72 h
  · exact sk_81 h
  · exact sk_90 h
  · exact sk_99 h
theorem mls_8 (h : Sk sh gr) {b : Nat} (hb : isMl b) : sh (b + 8) = (1, 8) := by
  rcases hb with rfl | rfl | rfl | rfl
  · exact sk_73 h
  · exact sk_82 h
  · exact sk_91 h
  · exact sk_100 h
theorem mlr_4 (h : Sk sh gr) {b : Nat} (hb : isMl b) : gr b 4 = some (b + 1) := by
  rcases hb with rfl | rfl | rfl | rfl
  · exact sr_65_4 h
  · exact sr_74_4 h
  · exact sr_83_4 h
  · exact sr_92_4 h
theorem mlr_5 (h : Sk sh gr) {b : Nat} (hb : isMl b) : gr b 5 = some (b + 2) := by
  rcases hb with rfl | rfl | rfl | rfl
  · exact sr_65_5 h
  · exact sr_74_5 h
  · exact sr_83_5 h
  · exact sr_92_5 h
theorem mlr_6 (h : Sk sh gr) {b : Nat} (hb : isMl b) : gr b 6 = some (b + 3) := by
  rcases hb with rfl | rfl | rfl | rfl
  · exact sr_65_6 h
  · exact sr_74_6 h
  · exact sr_83_6 h
  · exact sr_92_6 h
theorem mlr_7 (h : Sk sh gr) {b : Nat} (hb : isMl b) : gr b 7 = some (b + 4) := by
  rcases hb with rfl | rfl | rfl | rfl
  · exact sr_65_7 h
  · exact sr_74_7 h
  · exact sr_83_7 h
  · exact sr_92_7 h
theorem mlr_8 (h : Sk sh gr) {b : Nat} (hb : isMl b) : gr b 8 = some (b + 5) := by
  rcases hb with rfl | rfl | rfl | rfl
  · exact sr_65_8 h
  · exact sr_74_8 h
  · exact sr_83_8 h
  · exact sr_92_8 h
theorem mlr_9 (h : Sk sh gr) {b : Nat} (hb : isMl b) : gr b 9 = some (b + 6) := by
  rcases hb with rfl | rfl | rfl | rfl
  · exact sr_65_9 h
  · exact sr_74_9 h
  · exact sr_83_9 h
  · exact sr_92_9 h
theorem mlr_10 (h : Sk sh gr) {b : Nat} (hb : isMl b) : gr b 10 = some (b + 7) := by
  rcases hb with rfl | rfl | rfl | rfl
  · exact sr_65_10 h
  · exact sr_74_10 h
  · exact sr_83_10 h
  · exact sr_92_10 h
theorem mlr_11 (h : Sk sh gr) {b : Nat} (hb : isMl b) : gr b 11 = some (b + 8) := by
  rcases hb with rfl | rfl | rfl | rfl
  · exact sr_65_11 h
  · exact sr_74_11 h
  · exact sr_83_11 h
  · exact sr_92_11 h
theorem sra_101 (h : Sk sh gr) {j : Nat} (hj : j < 6) : gr 101 j = some (102 + j) := by
  match j, hj with
  | 0, _ => exact sr_101_0 h
  | 1, _ => exact sr_101_1 h
  | 2, _ => exact sr_101_2 h
  | 3, _ => exact sr_101_3 h
  | 4, _ => exact sr_101_4 h
  | 5, _ => exact sr_101_5 h
theorem sra_110 (h : Sk sh gr) {j : Nat} (hj : j < 6) : gr 110 j = some j := by
  match j, hj with
  | 0, _ => exact sr_110_0 h
  | 1, _ => exact sr_110_1 h
  | 2, _ => exact sr_110_2 h
  | 3, _ => exact sr_110_3 h
  | 4, _ => exact sr_110_4 h
  | 5, _ => exact sr_110_5 h
theorem sra_111 (h : Sk sh gr) {j : Nat} (hj : j < 4) : gr 111 j = some (6 + j) := by
  match j, hj with
  | 0, _ => exact sr_111_0 h
  | 1, _ => exact sr_111_1 h
  | 2, _ => exact sr_111_2 h
  | 3, _ => exact sr_111_3 h
theorem sra_115 (h : Sk sh gr) {j : Nat} (hj : j < 4) : gr 115 j = some (116 + j) := by
  match j, hj with
  | 0, _ => exact sr_115_0 h
  | 1, _ => exact sr_115_1 h
  | 2, _ => exact sr_115_2 h
  | 3, _ => exact sr_115_3 h
theorem sra_123 (h : Sk sh gr) {j : Nat} (hj : j < 4) : gr 123 j = some (124 + j) := by
  match j, hj with
  | 0, _ => exact sr_123_0 h
  | 1, _ => exact sr_123_1 h
  | 2, _ => exact sr_123_2 h
  | 3, _ => exact sr_123_3 h
theorem shs_115 (h : Sk sh gr) {j : Nat} (hj : j < 4) : sh (116 + j) = (30, 5) := by
  match j, hj with
  | 0, _ => exact sk_116 h
  | 1, _ => exact sk_117 h
  | 2, _ => exact sk_118 h
  | 3, _ => exact sk_119 h
theorem shs_123 (h : Sk sh gr) {j : Nat} (hj : j < 4) : sh (124 + j) = (33, 3) := by
  match j, hj with
  | 0, _ => exact sk_124 h
  | 1, _ => exact sk_125 h
  | 2, _ => exact sk_126 h
  | 3, _ => exact sk_127 h
theorem srq_110 (h : Sk sh gr) {j : Nat} (hj : j < 6) : gr 110 j = some (0 + j) := by
  match j, hj with
  | 0, _ => exact sr_110_0 h
  | 1, _ => exact sr_110_1 h
  | 2, _ => exact sr_110_2 h
  | 3, _ => exact sr_110_3 h
  | 4, _ => exact sr_110_4 h
  | 5, _ => exact sr_110_5 h
theorem srq_111 (h : Sk sh gr) {j : Nat} (hj : j < 4) : gr 111 j = some (6 + j) := by
  match j, hj with
  | 0, _ => exact sr_111_0 h
  | 1, _ => exact sr_111_1 h
  | 2, _ => exact sr_111_2 h
  | 3, _ => exact sr_111_3 h
theorem Sk.pr {a k : Nat} {v : Option Nat} {gr1 : RM} (h : Sk sh gr) (hn : ∀ q ∈ srL, q.1 = a → q.2.1 ≠ k) (e : puR gr a k v = some gr1) : Sk sh gr1 := by
  cases e
  refine ⟨h.1, fun q hq => ?_⟩
  rw [← h.2 q hq]
  by_cases hqa : q.1 = a
  · rw [hqa, pR_self, va_up_ne _ _ (hn q hq hqa)]
  · rw [pR_ne _ _ _ hqa]
theorem skn_109_4 : ∀ q ∈ srL, q.1 = 109 → q.2.1 ≠ 4 := by decide
theorem skn_S {j : Nat} (hj : j < 4) (k : Nat) : ∀ q ∈ srL, q.1 = 116 + j → q.2.1 ≠ k := by
  have h : ∀ q ∈ srL, q.1 < 116 ∨ 120 ≤ q.1 := by decide
  intro q hq e
  have := h q hq
  omega
theorem skn_H {j : Nat} (hj : j < 4) (k : Nat) : ∀ q ∈ srL, q.1 = 124 + j → q.2.1 ≠ k := by
  have h : ∀ q ∈ srL, q.1 < 124 ∨ 128 ≤ q.1 := by decide
  intro q hq e
  have := h q hq
  omega
end SKF
theorem cfX0 : ClF 0 RX0 TX0 18 tyX0 := ⟨in_X0, rfl, tyX0_ok, nmX0⟩
theorem cfX1 : ClF 1 RX1 TX1 12 tyX1 := ⟨in_X1, rfl, tyX1_ok, nmX1⟩
theorem cfX2 : ClF 2 RX2 noT 0 (fun _ => .int) := ⟨fun w h => by simp [u_ws] at h, rfl, fun k h => absurd h (Nat.not_lt_zero k), fun a h => absurd h (Nat.not_lt_zero a)⟩
theorem cfX3 : ClF 3 RX3 noT 0 (fun _ => .int) := ⟨fun w h => by simp [u_ws] at h, rfl, fun k h => absurd h (Nat.not_lt_zero k), fun a h => absurd h (Nat.not_lt_zero a)⟩
theorem cfX4 : ClF 4 RX4 noT 0 (fun _ => .int) := ⟨fun w h => by simp [u_ws] at h, rfl, fun k h => absurd h (Nat.not_lt_zero k), fun a h => absurd h (Nat.not_lt_zero a)⟩
theorem cfX5 : ClF 5 RX5 noT 0 (fun _ => .int) := ⟨fun w h => by simp [u_ws] at h, rfl, fun k h => absurd h (Nat.not_lt_zero k), fun a h => absurd h (Nat.not_lt_zero a)⟩
theorem cfX6 : ClF 6 RX6 noT 0 (fun _ => .int) := ⟨fun w h => by simp [u_ws] at h, rfl, fun k h => absurd h (Nat.not_lt_zero k), fun a h => absurd h (Nat.not_lt_zero a)⟩
theorem cfX7 : ClF 7 RX7 noT 0 (fun _ => .int) := ⟨fun w h => by simp [u_ws] at h, rfl, fun k h => absurd h (Nat.not_lt_zero k), fun a h => absurd h (Nat.not_lt_zero a)⟩
theorem cfX8 : ClF 8 RX8 TX8 8 tyX8 := ⟨in_X8, rfl, tyX8_ok, nmX8⟩
theorem cfX9 : ClF 9 RX9 TX9 7 tyX9 := ⟨in_X9, rfl, tyX9_ok, nmX9⟩
theorem cfX10 : ClF 10 RX10 TX10 5 tyX10 := ⟨in_X10, rfl, tyX10_ok, nmX10⟩
theorem cfX11 : ClF 11 RX11 TX11 6 tyX11 := ⟨in_X11, rfl, tyX11_ok, nmX11⟩
theorem cfX12 : ClF 12 RX12 TX12 6 tyX12 := ⟨in_X12, rfl, tyX12_ok, nmX12⟩
theorem cfX13 : ClF 13 RX13 TX13 3 tyX13 := ⟨in_X13, rfl, tyX13_ok, nmX13⟩
theorem cfX14 : ClF 14 RX14 TX14 25 tyX14 := ⟨in_X14, rfl, tyX14_ok, nmX14⟩
theorem cfX15 : ClF 15 RX15 TX15 1 tyX15 := ⟨in_X15, rfl, tyX15_ok, nmX15⟩
theorem cfX16 : ClF 16 RX16 TX16 3 tyX16 := ⟨in_X16, rfl, tyX16_ok, nmX16⟩
theorem kb_m100 : (Int8.ofInt (-100)).toInt32 = (-100) := by decide
theorem kb_m15 : (Int8.ofInt (-15)).toInt32 = (-15) := by decide
theorem kb_m14 : (Int8.ofInt (-14)).toInt32 = (-14) := by decide
theorem kb_m13 : (Int8.ofInt (-13)).toInt32 = (-13) := by decide
theorem kb_m12 : (Int8.ofInt (-12)).toInt32 = (-12) := by decide
theorem kb_m11 : (Int8.ofInt (-11)).toInt32 = (-11) := by decide
theorem kb_m9 : (Int8.ofInt (-9)).toInt32 = (-9) := by decide
theorem kb_m3 : (Int8.ofInt (-3)).toInt32 = (-3) := by decide
theorem kb_m2 : (Int8.ofInt (-2)).toInt32 = (-2) := by decide
theorem kb_6 : (Int8.ofInt 6).toInt32 = 6 := by decide
theorem kb_7 : (Int8.ofInt 7).toInt32 = 7 := by decide
theorem kb_8 : (Int8.ofInt 8).toInt32 = 8 := by decide
theorem kb_9 : (Int8.ofInt 9).toInt32 = 9 := by decide
theorem kb_10 : (Int8.ofInt 10).toInt32 = 10 := by decide
theorem kb_11 : (Int8.ofInt 11).toInt32 = 11 := by decide
theorem kb_12 : (Int8.ofInt 12).toInt32 = 12 := by decide
theorem kb_13 : (Int8.ofInt 13).toInt32 = 13 := by decide
theorem kb_15 : (Int8.ofInt 15).toInt32 = 15 := by decide
theorem kb_16 : (Int8.ofInt 16).toInt32 = 16 := by decide
theorem kb_20 : (Int8.ofInt 20).toInt32 = 20 := by decide
theorem kb_23 : (Int8.ofInt 23).toInt32 = 23 := by decide
theorem kb_29 : (Int8.ofInt 29).toInt32 = 29 := by decide
theorem kb_30 : (Int8.ofInt 30).toInt32 = 30 := by decide
theorem kb_31 : (Int8.ofInt 31).toInt32 = 31 := by decide
theorem kb_32 : (Int8.ofInt 32).toInt32 = 32 := by decide
theorem kb_40 : (Int8.ofInt 40).toInt32 = 40 := by decide
theorem kb_41 : (Int8.ofInt 41).toInt32 = 41 := by decide
theorem kb_48 : (Int8.ofInt 48).toInt32 = 48 := by decide
theorem kb_50 : (Int8.ofInt 50).toInt32 = 50 := by decide
theorem kb_51 : (Int8.ofInt 51).toInt32 = 51 := by decide
theorem kb_57 : (Int8.ofInt 57).toInt32 = 57 := by decide
theorem kb_60 : (Int8.ofInt 60).toInt32 = 60 := by decide
theorem kb_61 : (Int8.ofInt 61).toInt32 = 61 := by decide
theorem kb_63 : (Int8.ofInt 63).toInt32 = 63 := by decide
theorem kb_69 : (Int8.ofInt 69).toInt32 = 69 := by decide
theorem kb_97 : (Int8.ofInt 97).toInt32 = 97 := by decide
theorem kb_99 : (Int8.ofInt 99).toInt32 = 99 := by decide
theorem kb_100 : (Int8.ofInt 100).toInt32 = 100 := by decide
theorem kb_122 : (Int8.ofInt 122).toInt32 = 122 := by decide
theorem ki_m1 : Int32.ofInt (-1) = (-1) := by decide
theorem ki_0 : Int32.ofInt 0 = 0 := by decide
theorem ki_1 : Int32.ofInt 1 = 1 := by decide
theorem ki_2 : Int32.ofInt 2 = 2 := by decide
theorem ki_3 : Int32.ofInt 3 = 3 := by decide
theorem ki_4 : Int32.ofInt 4 = 4 := by decide
theorem ki_5 : Int32.ofInt 5 = 5 := by decide
theorem ks_160 : (Int16.ofInt 160).toInt32 = 160 := by decide
theorem ks_200 : (Int16.ofInt 200).toInt32 = 200 := by decide
theorem ks_240 : (Int16.ofInt 240).toInt32 = 240 := by decide
theorem ks_255 : (Int16.ofInt 255).toInt32 = 255 := by decide
theorem ks_1000 : (Int16.ofInt 1000).toInt32 = 1000 := by decide
theorem ks_9999 : (Int16.ofInt 9999).toInt32 = 9999 := by decide
theorem ks_12345 : (Int16.ofInt 12345).toInt32 = 12345 := by decide
