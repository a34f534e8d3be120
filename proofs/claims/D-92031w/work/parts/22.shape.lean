/-! shapes, printed by wip/gen/gen_shape.py -/
theorem ok0_0 : okF 0 0 = true := by decide
theorem ok0_1 : okF 0 1 = true := by decide
theorem ok0_2 : okF 0 2 = true := by decide
theorem ok0_3 : okF 0 3 = true := by decide
theorem ok0_4 : okF 0 4 = true := by decide
theorem ok0_5 : okF 0 5 = true := by decide
theorem ok0_6 : okF 0 6 = true := by decide
theorem ok0_7 : okF 0 7 = true := by decide
theorem ok0_8 : okF 0 8 = true := by decide
theorem ok0_9 : okF 0 9 = true := by decide
theorem ok0_10 : okF 0 10 = true := by decide
theorem ok0_11 : okF 0 11 = true := by decide
theorem ok0_12 : okF 0 12 = true := by decide
theorem ok0_13 : okF 0 13 = true := by decide
theorem ok0_14 : okF 0 14 = true := by decide
theorem ok0_15 : okF 0 15 = true := by decide
theorem ok0_16 : okF 0 16 = true := by decide
theorem ok0_17 : okF 0 17 = true := by decide
theorem ok0_18 : okF 0 18 = true := by decide
theorem ok0_19 : okF 0 19 = true := by decide
theorem ok0_20 : okF 0 20 = true := by decide
theorem ok0_21 : okF 0 21 = true := by decide
theorem ok0_22 : okF 0 22 = true := by decide
theorem ok0_23 : okF 0 23 = true := by decide
theorem ok0_24 : okF 0 24 = true := by decide
theorem ok0_25 : okF 0 25 = true := by decide
theorem ok0_26 : okF 0 26 = true := by decide
theorem ok0_27 : okF 0 27 = true := by decide
theorem ok0_28 : okF 0 28 = true := by decide
theorem ok0_29 : okF 0 29 = true := by decide
theorem ok0_30 : okF 0 30 = true := by decide
theorem ok0_31 : okF 0 31 = true := by decide
theorem ok0_32 : okF 0 32 = true := by decide
theorem ok0_33 : okF 0 33 = true := by decide
theorem ok0_34 : okF 0 34 = true := by decide
theorem ok0_35 : okF 0 35 = true := by decide
theorem ok0_36 : okF 0 36 = true := by decide
theorem ok0_37 : okF 0 37 = true := by decide
theorem ok0_38 : okF 0 38 = true := by decide
theorem ok0_39 : okF 0 39 = true := by decide
theorem ok0_40 : okF 0 40 = true := by decide
theorem ok0_41 : okF 0 41 = true := by decide
theorem ok0_42 : okF 0 42 = true := by decide
theorem ok0_43 : okF 0 43 = true := by decide
theorem ok0_44 : okF 0 44 = true := by decide
theorem ok0_45 : okF 0 45 = true := by decide
theorem ok0_46 : okF 0 46 = true := by decide
theorem ok0_47 : okF 0 47 = true := by decide
theorem ok0_48 : okF 0 48 = true := by decide
theorem ok0_49 : okF 0 49 = true := by decide
theorem ok0_50 : okF 0 50 = true := by decide
theorem ok0_51 : okF 0 51 = true := by decide
theorem ok0_52 : okF 0 52 = true := by decide
theorem ok0_53 : okF 0 53 = true := by decide
theorem ok0_54 : okF 0 54 = true := by decide
theorem ok1_141 : okF 1 141 = true := by decide
theorem ok2_55 : okF 2 55 = true := by decide
theorem ok2_56 : okF 2 56 = true := by decide
theorem ok2_57 : okF 2 57 = true := by decide
theorem ok2_58 : okF 2 58 = true := by decide
theorem ok2_59 : okF 2 59 = true := by decide
theorem ok2_60 : okF 2 60 = true := by decide
theorem ok2_61 : okF 2 61 = true := by decide
theorem ok2_62 : okF 2 62 = true := by decide
theorem ok2_63 : okF 2 63 = true := by decide
theorem ok2_64 : okF 2 64 = true := by decide
theorem ok2_65 : okF 2 65 = true := by decide
theorem ok2_66 : okF 2 66 = true := by decide
theorem ok2_67 : okF 2 67 = true := by decide
theorem ok2_68 : okF 2 68 = true := by decide
theorem ok2_69 : okF 2 69 = true := by decide
theorem ok2_70 : okF 2 70 = true := by decide
theorem ok2_71 : okF 2 71 = true := by decide
theorem ok2_72 : okF 2 72 = true := by decide
theorem ok2_73 : okF 2 73 = true := by decide
theorem ok2_74 : okF 2 74 = true := by decide
theorem ok2_75 : okF 2 75 = true := by decide
theorem ok2_76 : okF 2 76 = true := by decide
theorem ok2_77 : okF 2 77 = true := by decide
theorem ok2_78 : okF 2 78 = true := by decide
theorem ok2_79 : okF 2 79 = true := by decide
theorem ok2_80 : okF 2 80 = true := by decide
theorem ok2_81 : okF 2 81 = true := by decide
theorem ok2_82 : okF 2 82 = true := by decide
theorem ok2_83 : okF 2 83 = true := by decide
theorem ok2_84 : okF 2 84 = true := by decide
theorem ok2_85 : okF 2 85 = true := by decide
theorem ok2_86 : okF 2 86 = true := by decide
theorem ok2_87 : okF 2 87 = true := by decide
theorem ok2_88 : okF 2 88 = true := by decide
theorem ok2_89 : okF 2 89 = true := by decide
theorem ok2_90 : okF 2 90 = true := by decide
theorem ok2_91 : okF 2 91 = true := by decide
theorem ok2_92 : okF 2 92 = true := by decide
theorem ok2_93 : okF 2 93 = true := by decide
theorem ok2_94 : okF 2 94 = true := by decide
theorem ok2_95 : okF 2 95 = true := by decide
theorem ok2_96 : okF 2 96 = true := by decide
theorem ok2_97 : okF 2 97 = true := by decide
theorem ok2_98 : okF 2 98 = true := by decide
theorem ok2_99 : okF 2 99 = true := by decide
theorem ok2_100 : okF 2 100 = true := by decide
theorem ok2_101 : okF 2 101 = true := by decide
theorem ok2_102 : okF 2 102 = true := by decide
theorem ok2_103 : okF 2 103 = true := by decide
theorem ok2_104 : okF 2 104 = true := by decide
theorem ok2_105 : okF 2 105 = true := by decide
theorem ok2_106 : okF 2 106 = true := by decide
theorem ok2_107 : okF 2 107 = true := by decide
theorem ok2_108 : okF 2 108 = true := by decide
theorem ok2_109 : okF 2 109 = true := by decide
theorem ok2_110 : okF 2 110 = true := by decide
theorem ok2_111 : okF 2 111 = true := by decide
theorem ok2_112 : okF 2 112 = true := by decide
theorem ok2_113 : okF 2 113 = true := by decide
theorem ok2_114 : okF 2 114 = true := by decide
theorem ok2_115 : okF 2 115 = true := by decide
theorem ok2_116 : okF 2 116 = true := by decide
theorem ok2_117 : okF 2 117 = true := by decide
theorem ok2_118 : okF 2 118 = true := by decide
theorem ok2_119 : okF 2 119 = true := by decide
theorem ok2_120 : okF 2 120 = true := by decide
theorem ok2_121 : okF 2 121 = true := by decide
theorem ok2_122 : okF 2 122 = true := by decide
theorem ok2_123 : okF 2 123 = true := by decide
theorem ok2_124 : okF 2 124 = true := by decide
theorem ok2_125 : okF 2 125 = true := by decide
theorem ok2_126 : okF 2 126 = true := by decide
theorem ok2_127 : okF 2 127 = true := by decide
theorem ok2_128 : okF 2 128 = true := by decide
theorem ok2_129 : okF 2 129 = true := by decide
theorem ok2_130 : okF 2 130 = true := by decide
theorem ok2_131 : okF 2 131 = true := by decide
theorem ok2_132 : okF 2 132 = true := by decide
theorem ok2_133 : okF 2 133 = true := by decide
theorem ok2_134 : okF 2 134 = true := by decide
theorem ok2_135 : okF 2 135 = true := by decide
theorem ok2_136 : okF 2 136 = true := by decide
theorem ok2_137 : okF 2 137 = true := by decide
theorem ok3_171 : okF 3 171 = true := by decide
theorem ok3_172 : okF 3 172 = true := by decide
theorem ok3_173 : okF 3 173 = true := by decide
theorem ok3_174 : okF 3 174 = true := by decide
theorem ok3_175 : okF 3 175 = true := by decide
theorem ok3_176 : okF 3 176 = true := by decide
theorem ok4_171 : okF 4 171 = true := by decide
theorem ok4_172 : okF 4 172 = true := by decide
theorem ok4_173 : okF 4 173 = true := by decide
theorem ok4_174 : okF 4 174 = true := by decide
theorem ok4_175 : okF 4 175 = true := by decide
theorem ok4_176 : okF 4 176 = true := by decide
theorem ok4_177 : okF 4 177 = true := by decide
theorem ok4_178 : okF 4 178 = true := by decide
theorem ok5_171 : okF 5 171 = true := by decide
theorem ok5_172 : okF 5 172 = true := by decide
theorem ok5_173 : okF 5 173 = true := by decide
theorem ok5_174 : okF 5 174 = true := by decide
theorem ok5_175 : okF 5 175 = true := by decide
theorem ok5_176 : okF 5 176 = true := by decide
theorem ok5_177 : okF 5 177 = true := by decide
theorem ok5_178 : okF 5 178 = true := by decide
theorem ok5_179 : okF 5 179 = true := by decide
theorem ok7_142 : okF 7 142 = true := by decide
theorem ok7_143 : okF 7 143 = true := by decide
theorem ok7_144 : okF 7 144 = true := by decide
theorem ok7_145 : okF 7 145 = true := by decide
theorem ok7_146 : okF 7 146 = true := by decide
theorem ok7_147 : okF 7 147 = true := by decide
theorem ok7_148 : okF 7 148 = true := by decide
theorem ok7_149 : okF 7 149 = true := by decide
theorem ok7_152 : okF 7 152 = true := by decide
theorem ok7_153 : okF 7 153 = true := by decide
theorem ok7_154 : okF 7 154 = true := by decide
theorem ok8_142 : okF 8 142 = true := by decide
theorem ok8_143 : okF 8 143 = true := by decide
theorem ok8_144 : okF 8 144 = true := by decide
theorem ok8_145 : okF 8 145 = true := by decide
theorem ok8_146 : okF 8 146 = true := by decide
theorem ok8_147 : okF 8 147 = true := by decide
theorem ok8_148 : okF 8 148 = true := by decide
theorem ok8_149 : okF 8 149 = true := by decide
theorem ok8_152 : okF 8 152 = true := by decide
theorem ok8_153 : okF 8 153 = true := by decide
theorem ok8_154 : okF 8 154 = true := by decide
theorem ok8_155 : okF 8 155 = true := by decide
theorem ok9_142 : okF 9 142 = true := by decide
theorem ok9_143 : okF 9 143 = true := by decide
theorem ok9_144 : okF 9 144 = true := by decide
theorem ok9_145 : okF 9 145 = true := by decide
theorem ok9_146 : okF 9 146 = true := by decide
theorem ok9_147 : okF 9 147 = true := by decide
theorem ok9_148 : okF 9 148 = true := by decide
theorem ok9_149 : okF 9 149 = true := by decide
theorem ok9_152 : okF 9 152 = true := by decide
theorem ok9_153 : okF 9 153 = true := by decide
theorem ok9_154 : okF 9 154 = true := by decide
theorem ok9_155 : okF 9 155 = true := by decide
theorem ok9_180 : okF 9 180 = true := by decide
theorem ok10_142 : okF 10 142 = true := by decide
theorem ok10_143 : okF 10 143 = true := by decide
theorem ok10_144 : okF 10 144 = true := by decide
theorem ok10_145 : okF 10 145 = true := by decide
theorem ok10_146 : okF 10 146 = true := by decide
theorem ok10_147 : okF 10 147 = true := by decide
theorem ok10_148 : okF 10 148 = true := by decide
theorem ok10_149 : okF 10 149 = true := by decide
theorem ok10_150 : okF 10 150 = true := by decide
theorem ok10_151 : okF 10 151 = true := by decide
theorem ok11_142 : okF 11 142 = true := by decide
theorem ok11_143 : okF 11 143 = true := by decide
theorem ok11_144 : okF 11 144 = true := by decide
theorem ok11_145 : okF 11 145 = true := by decide
theorem ok11_146 : okF 11 146 = true := by decide
theorem ok11_147 : okF 11 147 = true := by decide
theorem ok11_148 : okF 11 148 = true := by decide
theorem ok11_149 : okF 11 149 = true := by decide
theorem ok11_152 : okF 11 152 = true := by decide
theorem ok11_153 : okF 11 153 = true := by decide
theorem ok11_154 : okF 11 154 = true := by decide
theorem ok11_155 : okF 11 155 = true := by decide
theorem ok11_156 : okF 11 156 = true := by decide
theorem ok11_157 : okF 11 157 = true := by decide
theorem ok13_158 : okF 13 158 = true := by decide
theorem ok13_159 : okF 13 159 = true := by decide
theorem ok13_160 : okF 13 160 = true := by decide
theorem ok13_161 : okF 13 161 = true := by decide
theorem ok13_162 : okF 13 162 = true := by decide
theorem ok13_163 : okF 13 163 = true := by decide
theorem ok13_164 : okF 13 164 = true := by decide
theorem ok13_165 : okF 13 165 = true := by decide
theorem ok13_166 : okF 13 166 = true := by decide
theorem ok13_167 : okF 13 167 = true := by decide
theorem ok13_168 : okF 13 168 = true := by decide
theorem ok13_169 : okF 13 169 = true := by decide
theorem ok13_170 : okF 13 170 = true := by decide
theorem ok16_138 : okF 16 138 = true := by decide
theorem ok16_139 : okF 16 139 = true := by decide
theorem ok16_140 : okF 16 140 = true := by decide
theorem ct_a : List.contains [40, 45] 40 = true := by decide
theorem ct_a5 : List.contains [40, 45] 45 = true := by decide
theorem ct_b : List.contains [42, 44] 42 = true := by decide
theorem ct_c : List.contains [42, 44] 44 = true := by decide
theorem ct_d : List.contains [43] 43 = true := by decide
theorem ct_r50 : refA.contains 50 = true := by decide
theorem ct_r51 : refA.contains 51 = true := by decide
theorem ct_r52 : refA.contains 52 = true := by decide
theorem ct_r53 : refA.contains 53 = true := by decide
theorem ct_r54 : refA.contains 54 = true := by decide
def xsT : List (Nat × Nat × Nat × Nat) := [(5, 4, 41, 64), (6, 5, 16, 0), (7, 6, 16, 0), (8, 7, 41, 24), (9, 8, 41, 24), (10, 9, 44, 60), (14, 10, 44, 60), (17, 11, 40, 9), (18, 12, 40, 9), (24, 13, 41, 9), (25, 14, 51, 9), (26, 24, 51, 81), (28, 106, 40, 9), (34, 107, 40, 24), (41, 108, 40, 24), (42, 109, 40, 3), (43, 110, 40, 3), (44, 111, 40, 3), (46, 112, 52, 8), (52, 121, 53, 2), (53, 122, 54, 8), (54, 131, 54, 4)]
def xsU : List (Nat × Nat × Nat × Nat × Nat) := [(14, 0, 15, 40, 64), (14, 1, 16, 40, 64), (14, 2, 17, 40, 64), (14, 3, 18, 40, 64), (14, 4, 19, 40, 64), (14, 5, 20, 40, 64), (14, 6, 21, 40, 64), (14, 7, 22, 40, 64), (14, 8, 23, 40, 64), (24, 0, 25, 40, 99), (24, 1, 26, 40, 99), (24, 2, 27, 40, 99), (24, 3, 28, 40, 99), (24, 4, 29, 40, 99), (24, 5, 30, 40, 99), (24, 6, 31, 40, 99), (24, 7, 32, 40, 99), (24, 8, 33, 40, 99), (24, 9, 34, 40, 99), (24, 10, 35, 40, 99), (24, 11, 36, 40, 99), (24, 12, 37, 40, 99), (24, 13, 38, 40, 99), (24, 14, 39, 40, 99), (24, 15, 40, 40, 99), (24, 16, 41, 40, 99), (24, 17, 42, 40, 99), (24, 18, 43, 40, 99), (24, 19, 44, 40, 99), (24, 20, 45, 40, 99), (24, 21, 46, 40, 99), (24, 22, 47, 40, 99), (24, 23, 48, 40, 99), (24, 24, 49, 40, 99), (24, 25, 50, 40, 99), (24, 26, 51, 40, 99), (24, 27, 52, 40, 99), (24, 28, 53, 40, 99), (24, 29, 54, 40, 99), (24, 30, 55, 40, 99), (24, 31, 56, 40, 99), (24, 32, 57, 40, 99), (24, 33, 58, 40, 99), (24, 34, 59, 40, 99), (24, 35, 60, 40, 99), (24, 36, 61, 40, 99), (24, 37, 62, 40, 99), (24, 38, 63, 40, 99), (24, 39, 64, 40, 99), (24, 40, 65, 40, 99), (24, 41, 66, 40, 99), (24, 42, 67, 40, 99), (24, 43, 68, 40, 99), (24, 44, 69, 40, 99), (24, 45, 70, 40, 99), (24, 46, 71, 40, 99), (24, 47, 72, 40, 99), (24, 48, 73, 40, 99), (24, 49, 74, 40, 99), (24, 50, 75, 40, 99), (24, 51, 76, 40, 99), (24, 52, 77, 40, 99), (24, 53, 78, 40, 99), (24, 54, 79, 40, 99), (24, 55, 80, 40, 99), (24, 56, 81, 40, 99), (24, 57, 82, 40, 99), (24, 58, 83, 40, 99), (24, 59, 84, 40, 99), (24, 60, 85, 40, 99), (24, 61, 86, 40, 99), (24, 62, 87, 40, 99), (24, 63, 88, 40, 99), (24, 64, 89, 40, 99), (24, 65, 90, 40, 99), (24, 66, 91, 40, 99), (24, 67, 92, 40, 99), (24, 68, 93, 40, 99), (24, 69, 94, 40, 99), (24, 70, 95, 40, 99), (24, 71, 96, 40, 99), (24, 72, 97, 40, 99), (24, 73, 98, 40, 99), (24, 74, 99, 40, 99), (24, 75, 100, 40, 99), (24, 76, 101, 40, 99), (24, 77, 102, 40, 99), (24, 78, 103, 40, 99), (24, 79, 104, 40, 99), (24, 80, 105, 40, 99), (112, 0, 113, 41, 64), (112, 1, 114, 41, 64), (112, 2, 115, 41, 64), (112, 3, 116, 41, 64), (112, 4, 117, 41, 64), (112, 5, 118, 41, 64), (112, 6, 119, 41, 64), (112, 7, 120, 41, 64), (122, 0, 123, 1, 0), (122, 1, 124, 1, 0), (122, 2, 125, 1, 0), (122, 3, 126, 1, 0), (122, 4, 127, 1, 0), (122, 5, 128, 1, 0), (122, 6, 129, 1, 0), (122, 7, 130, 1, 0), (131, 0, 132, 1, 0), (131, 1, 133, 1, 0), (131, 2, 134, 1, 0), (131, 3, 135, 1, 0)]
def XS (G : AH) : Prop := hT G 3 = 0 ∧ (∀ q ∈ xsT, hR G 3 q.1 = some q.2.1 ∧ hT G q.2.1 = q.2.2.1 ∧ hL G q.2.1 = q.2.2.2) ∧ ∀ q ∈ xsU, hR G q.1 q.2.1 = some q.2.2.1 ∧ hT G q.2.2.1 = q.2.2.2.1 ∧ hL G q.2.2.1 = q.2.2.2.2
theorem xs_T {G : AH} (h : XS G) : hT G 3 = 0 := h.1
theorem xsR_5 {G : AH} (h : XS G) : hR G 3 5 = some 4 := (h.2.1 (5, 4, 41, 64) (by decide)).1
theorem xsT_4 {G : AH} (h : XS G) : hT G 4 = 41 := (h.2.1 (5, 4, 41, 64) (by decide)).2.1
theorem xsL_4 {G : AH} (h : XS G) : hL G 4 = 64 := (h.2.1 (5, 4, 41, 64) (by decide)).2.2
theorem xsR_6 {G : AH} (h : XS G) : hR G 3 6 = some 5 := (h.2.1 (6, 5, 16, 0) (by decide)).1
theorem xsT_5 {G : AH} (h : XS G) : hT G 5 = 16 := (h.2.1 (6, 5, 16, 0) (by decide)).2.1
theorem xsL_5 {G : AH} (h : XS G) : hL G 5 = 0 := (h.2.1 (6, 5, 16, 0) (by decide)).2.2
theorem xsR_7 {G : AH} (h : XS G) : hR G 3 7 = some 6 := (h.2.1 (7, 6, 16, 0) (by decide)).1
theorem xsT_6 {G : AH} (h : XS G) : hT G 6 = 16 := (h.2.1 (7, 6, 16, 0) (by decide)).2.1
theorem xsL_6 {G : AH} (h : XS G) : hL G 6 = 0 := (h.2.1 (7, 6, 16, 0) (by decide)).2.2
theorem xsR_8 {G : AH} (h : XS G) : hR G 3 8 = some 7 := (h.2.1 (8, 7, 41, 24) (by decide)).1
theorem xsT_7 {G : AH} (h : XS G) : hT G 7 = 41 := (h.2.1 (8, 7, 41, 24) (by decide)).2.1
theorem xsL_7 {G : AH} (h : XS G) : hL G 7 = 24 := (h.2.1 (8, 7, 41, 24) (by decide)).2.2
theorem xsR_9 {G : AH} (h : XS G) : hR G 3 9 = some 8 := (h.2.1 (9, 8, 41, 24) (by decide)).1
theorem xsT_8 {G : AH} (h : XS G) : hT G 8 = 41 := (h.2.1 (9, 8, 41, 24) (by decide)).2.1
theorem xsL_8 {G : AH} (h : XS G) : hL G 8 = 24 := (h.2.1 (9, 8, 41, 24) (by decide)).2.2
theorem xsR_10 {G : AH} (h : XS G) : hR G 3 10 = some 9 := (h.2.1 (10, 9, 44, 60) (by decide)).1
theorem xsT_9 {G : AH} (h : XS G) : hT G 9 = 44 := (h.2.1 (10, 9, 44, 60) (by decide)).2.1
theorem xsL_9 {G : AH} (h : XS G) : hL G 9 = 60 := (h.2.1 (10, 9, 44, 60) (by decide)).2.2
theorem xsR_14 {G : AH} (h : XS G) : hR G 3 14 = some 10 := (h.2.1 (14, 10, 44, 60) (by decide)).1
theorem xsT_10 {G : AH} (h : XS G) : hT G 10 = 44 := (h.2.1 (14, 10, 44, 60) (by decide)).2.1
theorem xsL_10 {G : AH} (h : XS G) : hL G 10 = 60 := (h.2.1 (14, 10, 44, 60) (by decide)).2.2
theorem xsR_17 {G : AH} (h : XS G) : hR G 3 17 = some 11 := (h.2.1 (17, 11, 40, 9) (by decide)).1
theorem xsT_11 {G : AH} (h : XS G) : hT G 11 = 40 := (h.2.1 (17, 11, 40, 9) (by decide)).2.1
theorem xsL_11 {G : AH} (h : XS G) : hL G 11 = 9 := (h.2.1 (17, 11, 40, 9) (by decide)).2.2
theorem xsR_18 {G : AH} (h : XS G) : hR G 3 18 = some 12 := (h.2.1 (18, 12, 40, 9) (by decide)).1
theorem xsT_12 {G : AH} (h : XS G) : hT G 12 = 40 := (h.2.1 (18, 12, 40, 9) (by decide)).2.1
theorem xsL_12 {G : AH} (h : XS G) : hL G 12 = 9 := (h.2.1 (18, 12, 40, 9) (by decide)).2.2
theorem xsR_24 {G : AH} (h : XS G) : hR G 3 24 = some 13 := (h.2.1 (24, 13, 41, 9) (by decide)).1
theorem xsT_13 {G : AH} (h : XS G) : hT G 13 = 41 := (h.2.1 (24, 13, 41, 9) (by decide)).2.1
theorem xsL_13 {G : AH} (h : XS G) : hL G 13 = 9 := (h.2.1 (24, 13, 41, 9) (by decide)).2.2
theorem xsR_25 {G : AH} (h : XS G) : hR G 3 25 = some 14 := (h.2.1 (25, 14, 51, 9) (by decide)).1
theorem xsT_14 {G : AH} (h : XS G) : hT G 14 = 51 := (h.2.1 (25, 14, 51, 9) (by decide)).2.1
theorem xsL_14 {G : AH} (h : XS G) : hL G 14 = 9 := (h.2.1 (25, 14, 51, 9) (by decide)).2.2
theorem xsR_26 {G : AH} (h : XS G) : hR G 3 26 = some 24 := (h.2.1 (26, 24, 51, 81) (by decide)).1
theorem xsT_24 {G : AH} (h : XS G) : hT G 24 = 51 := (h.2.1 (26, 24, 51, 81) (by decide)).2.1
theorem xsL_24 {G : AH} (h : XS G) : hL G 24 = 81 := (h.2.1 (26, 24, 51, 81) (by decide)).2.2
theorem xsR_28 {G : AH} (h : XS G) : hR G 3 28 = some 106 := (h.2.1 (28, 106, 40, 9) (by decide)).1
theorem xsT_106 {G : AH} (h : XS G) : hT G 106 = 40 := (h.2.1 (28, 106, 40, 9) (by decide)).2.1
theorem xsL_106 {G : AH} (h : XS G) : hL G 106 = 9 := (h.2.1 (28, 106, 40, 9) (by decide)).2.2
theorem xsR_34 {G : AH} (h : XS G) : hR G 3 34 = some 107 := (h.2.1 (34, 107, 40, 24) (by decide)).1
theorem xsT_107 {G : AH} (h : XS G) : hT G 107 = 40 := (h.2.1 (34, 107, 40, 24) (by decide)).2.1
theorem xsL_107 {G : AH} (h : XS G) : hL G 107 = 24 := (h.2.1 (34, 107, 40, 24) (by decide)).2.2
theorem xsR_41 {G : AH} (h : XS G) : hR G 3 41 = some 108 := (h.2.1 (41, 108, 40, 24) (by decide)).1
theorem xsT_108 {G : AH} (h : XS G) : hT G 108 = 40 := (h.2.1 (41, 108, 40, 24) (by decide)).2.1
theorem xsL_108 {G : AH} (h : XS G) : hL G 108 = 24 := (h.2.1 (41, 108, 40, 24) (by decide)).2.2
theorem xsR_42 {G : AH} (h : XS G) : hR G 3 42 = some 109 := (h.2.1 (42, 109, 40, 3) (by decide)).1
theorem xsT_109 {G : AH} (h : XS G) : hT G 109 = 40 := (h.2.1 (42, 109, 40, 3) (by decide)).2.1
theorem xsL_109 {G : AH} (h : XS G) : hL G 109 = 3 := (h.2.1 (42, 109, 40, 3) (by decide)).2.2
theorem xsR_43 {G : AH} (h : XS G) : hR G 3 43 = some 110 := (h.2.1 (43, 110, 40, 3) (by decide)).1
theorem xsT_110 {G : AH} (h : XS G) : hT G 110 = 40 := (h.2.1 (43, 110, 40, 3) (by decide)).2.1
theorem xsL_110 {G : AH} (h : XS G) : hL G 110 = 3 := (h.2.1 (43, 110, 40, 3) (by decide)).2.2
theorem xsR_44 {G : AH} (h : XS G) : hR G 3 44 = some 111 := (h.2.1 (44, 111, 40, 3) (by decide)).1
theorem xsT_111 {G : AH} (h : XS G) : hT G 111 = 40 := (h.2.1 (44, 111, 40, 3) (by decide)).2.1
theorem xsL_111 {G : AH} (h : XS G) : hL G 111 = 3 := (h.2.1 (44, 111, 40, 3) (by decide)).2.2
theorem xsR_46 {G : AH} (h : XS G) : hR G 3 46 = some 112 := (h.2.1 (46, 112, 52, 8) (by decide)).1
theorem xsT_112 {G : AH} (h : XS G) : hT G 112 = 52 := (h.2.1 (46, 112, 52, 8) (by decide)).2.1
theorem xsL_112 {G : AH} (h : XS G) : hL G 112 = 8 := (h.2.1 (46, 112, 52, 8) (by decide)).2.2
theorem xsR_52 {G : AH} (h : XS G) : hR G 3 52 = some 121 := (h.2.1 (52, 121, 53, 2) (by decide)).1
theorem xsT_121 {G : AH} (h : XS G) : hT G 121 = 53 := (h.2.1 (52, 121, 53, 2) (by decide)).2.1
theorem xsL_121 {G : AH} (h : XS G) : hL G 121 = 2 := (h.2.1 (52, 121, 53, 2) (by decide)).2.2
theorem xsR_53 {G : AH} (h : XS G) : hR G 3 53 = some 122 := (h.2.1 (53, 122, 54, 8) (by decide)).1
theorem xsT_122 {G : AH} (h : XS G) : hT G 122 = 54 := (h.2.1 (53, 122, 54, 8) (by decide)).2.1
theorem xsL_122 {G : AH} (h : XS G) : hL G 122 = 8 := (h.2.1 (53, 122, 54, 8) (by decide)).2.2
theorem xsR_54 {G : AH} (h : XS G) : hR G 3 54 = some 131 := (h.2.1 (54, 131, 54, 4) (by decide)).1
theorem xsT_131 {G : AH} (h : XS G) : hT G 131 = 54 := (h.2.1 (54, 131, 54, 4) (by decide)).2.1
theorem xsL_131 {G : AH} (h : XS G) : hL G 131 = 4 := (h.2.1 (54, 131, 54, 4) (by decide)).2.2
theorem XS.of {G G' : AH} (h : XS G) (hR' : ∀ a f, a = 3 ∨ a = 14 ∨ a = 24 ∨ a = 112 ∨ a = 122 ∨ a = 131 → hR G' a f = hR G a f) (hT' : ∀ a, a < 136 → hT G' a = hT G a ∧ hL G' a = hL G a) : XS G' := by
  refine ⟨(hT' 3 (by decide)).1.trans h.1, fun q hq => ?_, fun q hq => ?_⟩
  · obtain ⟨h1, h2, h3⟩ := h.2.1 q hq
    have hb : q.2.1 < 136 := (show ∀ q ∈ xsT, q.2.1 < 136 by decide) q hq
    exact ⟨(hR' 3 _ (Or.inl rfl)).trans h1, (hT' _ hb).1.trans h2, (hT' _ hb).2.trans h3⟩
  · obtain ⟨h1, h2, h3⟩ := h.2.2 q hq
    have hb : q.2.2.1 < 136 ∧ (q.1 = 3 ∨ q.1 = 14 ∨ q.1 = 24 ∨ q.1 = 112 ∨ q.1 = 122 ∨ q.1 = 131) := (show ∀ q ∈ xsU, q.2.2.1 < 136 ∧ (q.1 = 3 ∨ q.1 = 14 ∨ q.1 = 24 ∨ q.1 = 112 ∨ q.1 = 122 ∨ q.1 = 131) by decide) q hq
    exact ⟨(hR' _ _ hb.2).trans h1, (hT' _ hb.1).1.trans h2, (hT' _ hb.1).2.trans h3⟩
theorem XS_sI {G : AH} {a i : Nat} {v : Int32} : XS (sI G a i v) = XS G := rfl
theorem XS_sJ {G : AH} {a i : Nat} {v : Int64} : XS (sJ G a i v) = XS G := rfl
def msT : List (Nat × Nat × Nat × Nat) := [(58, 137, 44, 64), (60, 138, 40, 24), (61, 139, 40, 24), (62, 140, 40, 96), (63, 141, 44, 24), (64, 142, 40, 24), (65, 143, 40, 24), (66, 144, 40, 24), (68, 145, 40, 60), (69, 146, 40, 60), (70, 147, 40, 60), (71, 148, 40, 60), (72, 149, 40, 60), (73, 150, 44, 60), (75, 151, 40, 3), (76, 152, 40, 3), (77, 153, 40, 3), (79, 154, 44, 60), (83, 155, 40, 64), (84, 156, 40, 64), (85, 157, 41, 3840), (86, 158, 41, 3840), (87, 159, 44, 60), (88, 160, 41, 24), (89, 161, 41, 24), (91, 162, 44, 60), (93, 163, 40, 24), (94, 164, 40, 24), (95, 165, 41, 5184), (99, 166, 40, 576), (100, 167, 40, 8019), (102, 168, 40, 9), (120, 169, 40, 24), (121, 170, 40, 24), (122, 171, 41, 512), (125, 172, 40, 24), (126, 173, 44, 2), (127, 174, 40, 1600), (128, 175, 40, 8), (129, 176, 40, 8), (130, 177, 40, 8), (131, 178, 40, 8), (132, 179, 40, 8), (134, 180, 40, 4), (135, 181, 40, 4), (136, 182, 41, 256), (137, 183, 41, 64)]
def MS (G : AH) : Prop := hT G 136 = 2 ∧ (∀ q ∈ msT, hR G 136 q.1 = some q.2.1 ∧ hT G q.2.1 = q.2.2.1 ∧ hL G q.2.1 = q.2.2.2)
theorem ms_T {G : AH} (h : MS G) : hT G 136 = 2 := h.1
theorem msR_58 {G : AH} (h : MS G) : hR G 136 58 = some 137 := (h.2 (58, 137, 44, 64) (by decide)).1
theorem msT_137 {G : AH} (h : MS G) : hT G 137 = 44 := (h.2 (58, 137, 44, 64) (by decide)).2.1
theorem msL_137 {G : AH} (h : MS G) : hL G 137 = 64 := (h.2 (58, 137, 44, 64) (by decide)).2.2
theorem msR_60 {G : AH} (h : MS G) : hR G 136 60 = some 138 := (h.2 (60, 138, 40, 24) (by decide)).1
theorem msT_138 {G : AH} (h : MS G) : hT G 138 = 40 := (h.2 (60, 138, 40, 24) (by decide)).2.1
theorem msL_138 {G : AH} (h : MS G) : hL G 138 = 24 := (h.2 (60, 138, 40, 24) (by decide)).2.2
theorem msR_61 {G : AH} (h : MS G) : hR G 136 61 = some 139 := (h.2 (61, 139, 40, 24) (by decide)).1
theorem msT_139 {G : AH} (h : MS G) : hT G 139 = 40 := (h.2 (61, 139, 40, 24) (by decide)).2.1
theorem msL_139 {G : AH} (h : MS G) : hL G 139 = 24 := (h.2 (61, 139, 40, 24) (by decide)).2.2
theorem msR_62 {G : AH} (h : MS G) : hR G 136 62 = some 140 := (h.2 (62, 140, 40, 96) (by decide)).1
theorem msT_140 {G : AH} (h : MS G) : hT G 140 = 40 := (h.2 (62, 140, 40, 96) (by decide)).2.1
theorem msL_140 {G : AH} (h : MS G) : hL G 140 = 96 := (h.2 (62, 140, 40, 96) (by decide)).2.2
theorem msR_63 {G : AH} (h : MS G) : hR G 136 63 = some 141 := (h.2 (63, 141, 44, 24) (by decide)).1
theorem msT_141 {G : AH} (h : MS G) : hT G 141 = 44 := (h.2 (63, 141, 44, 24) (by decide)).2.1
theorem msL_141 {G : AH} (h : MS G) : hL G 141 = 24 := (h.2 (63, 141, 44, 24) (by decide)).2.2
theorem msR_64 {G : AH} (h : MS G) : hR G 136 64 = some 142 := (h.2 (64, 142, 40, 24) (by decide)).1
theorem msT_142 {G : AH} (h : MS G) : hT G 142 = 40 := (h.2 (64, 142, 40, 24) (by decide)).2.1
theorem msL_142 {G : AH} (h : MS G) : hL G 142 = 24 := (h.2 (64, 142, 40, 24) (by decide)).2.2
theorem msR_65 {G : AH} (h : MS G) : hR G 136 65 = some 143 := (h.2 (65, 143, 40, 24) (by decide)).1
theorem msT_143 {G : AH} (h : MS G) : hT G 143 = 40 := (h.2 (65, 143, 40, 24) (by decide)).2.1
theorem msL_143 {G : AH} (h : MS G) : hL G 143 = 24 := (h.2 (65, 143, 40, 24) (by decide)).2.2
theorem msR_66 {G : AH} (h : MS G) : hR G 136 66 = some 144 := (h.2 (66, 144, 40, 24) (by decide)).1
theorem msT_144 {G : AH} (h : MS G) : hT G 144 = 40 := (h.2 (66, 144, 40, 24) (by decide)).2.1
theorem msL_144 {G : AH} (h : MS G) : hL G 144 = 24 := (h.2 (66, 144, 40, 24) (by decide)).2.2
theorem msR_68 {G : AH} (h : MS G) : hR G 136 68 = some 145 := (h.2 (68, 145, 40, 60) (by decide)).1
theorem msT_145 {G : AH} (h : MS G) : hT G 145 = 40 := (h.2 (68, 145, 40, 60) (by decide)).2.1
theorem msL_145 {G : AH} (h : MS G) : hL G 145 = 60 := (h.2 (68, 145, 40, 60) (by decide)).2.2
theorem msR_69 {G : AH} (h : MS G) : hR G 136 69 = some 146 := (h.2 (69, 146, 40, 60) (by decide)).1
theorem msT_146 {G : AH} (h : MS G) : hT G 146 = 40 := (h.2 (69, 146, 40, 60) (by decide)).2.1
theorem msL_146 {G : AH} (h : MS G) : hL G 146 = 60 := (h.2 (69, 146, 40, 60) (by decide)).2.2
theorem msR_70 {G : AH} (h : MS G) : hR G 136 70 = some 147 := (h.2 (70, 147, 40, 60) (by decide)).1
theorem msT_147 {G : AH} (h : MS G) : hT G 147 = 40 := (h.2 (70, 147, 40, 60) (by decide)).2.1
theorem msL_147 {G : AH} (h : MS G) : hL G 147 = 60 := (h.2 (70, 147, 40, 60) (by decide)).2.2
theorem msR_71 {G : AH} (h : MS G) : hR G 136 71 = some 148 := (h.2 (71, 148, 40, 60) (by decide)).1
theorem msT_148 {G : AH} (h : MS G) : hT G 148 = 40 := (h.2 (71, 148, 40, 60) (by decide)).2.1
theorem msL_148 {G : AH} (h : MS G) : hL G 148 = 60 := (h.2 (71, 148, 40, 60) (by decide)).2.2
theorem msR_72 {G : AH} (h : MS G) : hR G 136 72 = some 149 := (h.2 (72, 149, 40, 60) (by decide)).1
theorem msT_149 {G : AH} (h : MS G) : hT G 149 = 40 := (h.2 (72, 149, 40, 60) (by decide)).2.1
theorem msL_149 {G : AH} (h : MS G) : hL G 149 = 60 := (h.2 (72, 149, 40, 60) (by decide)).2.2
theorem msR_73 {G : AH} (h : MS G) : hR G 136 73 = some 150 := (h.2 (73, 150, 44, 60) (by decide)).1
theorem msT_150 {G : AH} (h : MS G) : hT G 150 = 44 := (h.2 (73, 150, 44, 60) (by decide)).2.1
theorem msL_150 {G : AH} (h : MS G) : hL G 150 = 60 := (h.2 (73, 150, 44, 60) (by decide)).2.2
theorem msR_75 {G : AH} (h : MS G) : hR G 136 75 = some 151 := (h.2 (75, 151, 40, 3) (by decide)).1
theorem msT_151 {G : AH} (h : MS G) : hT G 151 = 40 := (h.2 (75, 151, 40, 3) (by decide)).2.1
theorem msL_151 {G : AH} (h : MS G) : hL G 151 = 3 := (h.2 (75, 151, 40, 3) (by decide)).2.2
theorem msR_76 {G : AH} (h : MS G) : hR G 136 76 = some 152 := (h.2 (76, 152, 40, 3) (by decide)).1
theorem msT_152 {G : AH} (h : MS G) : hT G 152 = 40 := (h.2 (76, 152, 40, 3) (by decide)).2.1
theorem msL_152 {G : AH} (h : MS G) : hL G 152 = 3 := (h.2 (76, 152, 40, 3) (by decide)).2.2
theorem msR_77 {G : AH} (h : MS G) : hR G 136 77 = some 153 := (h.2 (77, 153, 40, 3) (by decide)).1
theorem msT_153 {G : AH} (h : MS G) : hT G 153 = 40 := (h.2 (77, 153, 40, 3) (by decide)).2.1
theorem msL_153 {G : AH} (h : MS G) : hL G 153 = 3 := (h.2 (77, 153, 40, 3) (by decide)).2.2
theorem msR_79 {G : AH} (h : MS G) : hR G 136 79 = some 154 := (h.2 (79, 154, 44, 60) (by decide)).1
theorem msT_154 {G : AH} (h : MS G) : hT G 154 = 44 := (h.2 (79, 154, 44, 60) (by decide)).2.1
theorem msL_154 {G : AH} (h : MS G) : hL G 154 = 60 := (h.2 (79, 154, 44, 60) (by decide)).2.2
theorem msR_83 {G : AH} (h : MS G) : hR G 136 83 = some 155 := (h.2 (83, 155, 40, 64) (by decide)).1
theorem msT_155 {G : AH} (h : MS G) : hT G 155 = 40 := (h.2 (83, 155, 40, 64) (by decide)).2.1
theorem msL_155 {G : AH} (h : MS G) : hL G 155 = 64 := (h.2 (83, 155, 40, 64) (by decide)).2.2
theorem msR_84 {G : AH} (h : MS G) : hR G 136 84 = some 156 := (h.2 (84, 156, 40, 64) (by decide)).1
theorem msT_156 {G : AH} (h : MS G) : hT G 156 = 40 := (h.2 (84, 156, 40, 64) (by decide)).2.1
theorem msL_156 {G : AH} (h : MS G) : hL G 156 = 64 := (h.2 (84, 156, 40, 64) (by decide)).2.2
theorem msR_85 {G : AH} (h : MS G) : hR G 136 85 = some 157 := (h.2 (85, 157, 41, 3840) (by decide)).1
theorem msT_157 {G : AH} (h : MS G) : hT G 157 = 41 := (h.2 (85, 157, 41, 3840) (by decide)).2.1
theorem msL_157 {G : AH} (h : MS G) : hL G 157 = 3840 := (h.2 (85, 157, 41, 3840) (by decide)).2.2
theorem msR_86 {G : AH} (h : MS G) : hR G 136 86 = some 158 := (h.2 (86, 158, 41, 3840) (by decide)).1
theorem msT_158 {G : AH} (h : MS G) : hT G 158 = 41 := (h.2 (86, 158, 41, 3840) (by decide)).2.1
theorem msL_158 {G : AH} (h : MS G) : hL G 158 = 3840 := (h.2 (86, 158, 41, 3840) (by decide)).2.2
theorem msR_87 {G : AH} (h : MS G) : hR G 136 87 = some 159 := (h.2 (87, 159, 44, 60) (by decide)).1
theorem msT_159 {G : AH} (h : MS G) : hT G 159 = 44 := (h.2 (87, 159, 44, 60) (by decide)).2.1
theorem msL_159 {G : AH} (h : MS G) : hL G 159 = 60 := (h.2 (87, 159, 44, 60) (by decide)).2.2
theorem msR_88 {G : AH} (h : MS G) : hR G 136 88 = some 160 := (h.2 (88, 160, 41, 24) (by decide)).1
theorem msT_160 {G : AH} (h : MS G) : hT G 160 = 41 := (h.2 (88, 160, 41, 24) (by decide)).2.1
theorem msL_160 {G : AH} (h : MS G) : hL G 160 = 24 := (h.2 (88, 160, 41, 24) (by decide)).2.2
theorem msR_89 {G : AH} (h : MS G) : hR G 136 89 = some 161 := (h.2 (89, 161, 41, 24) (by decide)).1
theorem msT_161 {G : AH} (h : MS G) : hT G 161 = 41 := (h.2 (89, 161, 41, 24) (by decide)).2.1
theorem msL_161 {G : AH} (h : MS G) : hL G 161 = 24 := (h.2 (89, 161, 41, 24) (by decide)).2.2
theorem msR_91 {G : AH} (h : MS G) : hR G 136 91 = some 162 := (h.2 (91, 162, 44, 60) (by decide)).1
theorem msT_162 {G : AH} (h : MS G) : hT G 162 = 44 := (h.2 (91, 162, 44, 60) (by decide)).2.1
theorem msL_162 {G : AH} (h : MS G) : hL G 162 = 60 := (h.2 (91, 162, 44, 60) (by decide)).2.2
theorem msR_93 {G : AH} (h : MS G) : hR G 136 93 = some 163 := (h.2 (93, 163, 40, 24) (by decide)).1
theorem msT_163 {G : AH} (h : MS G) : hT G 163 = 40 := (h.2 (93, 163, 40, 24) (by decide)).2.1
theorem msL_163 {G : AH} (h : MS G) : hL G 163 = 24 := (h.2 (93, 163, 40, 24) (by decide)).2.2
theorem msR_94 {G : AH} (h : MS G) : hR G 136 94 = some 164 := (h.2 (94, 164, 40, 24) (by decide)).1
theorem msT_164 {G : AH} (h : MS G) : hT G 164 = 40 := (h.2 (94, 164, 40, 24) (by decide)).2.1
theorem msL_164 {G : AH} (h : MS G) : hL G 164 = 24 := (h.2 (94, 164, 40, 24) (by decide)).2.2
theorem msR_95 {G : AH} (h : MS G) : hR G 136 95 = some 165 := (h.2 (95, 165, 41, 5184) (by decide)).1
theorem msT_165 {G : AH} (h : MS G) : hT G 165 = 41 := (h.2 (95, 165, 41, 5184) (by decide)).2.1
theorem msL_165 {G : AH} (h : MS G) : hL G 165 = 5184 := (h.2 (95, 165, 41, 5184) (by decide)).2.2
theorem msR_99 {G : AH} (h : MS G) : hR G 136 99 = some 166 := (h.2 (99, 166, 40, 576) (by decide)).1
theorem msT_166 {G : AH} (h : MS G) : hT G 166 = 40 := (h.2 (99, 166, 40, 576) (by decide)).2.1
theorem msL_166 {G : AH} (h : MS G) : hL G 166 = 576 := (h.2 (99, 166, 40, 576) (by decide)).2.2
theorem msR_100 {G : AH} (h : MS G) : hR G 136 100 = some 167 := (h.2 (100, 167, 40, 8019) (by decide)).1
theorem msT_167 {G : AH} (h : MS G) : hT G 167 = 40 := (h.2 (100, 167, 40, 8019) (by decide)).2.1
theorem msL_167 {G : AH} (h : MS G) : hL G 167 = 8019 := (h.2 (100, 167, 40, 8019) (by decide)).2.2
theorem msR_102 {G : AH} (h : MS G) : hR G 136 102 = some 168 := (h.2 (102, 168, 40, 9) (by decide)).1
theorem msT_168 {G : AH} (h : MS G) : hT G 168 = 40 := (h.2 (102, 168, 40, 9) (by decide)).2.1
theorem msL_168 {G : AH} (h : MS G) : hL G 168 = 9 := (h.2 (102, 168, 40, 9) (by decide)).2.2
theorem msR_120 {G : AH} (h : MS G) : hR G 136 120 = some 169 := (h.2 (120, 169, 40, 24) (by decide)).1
theorem msT_169 {G : AH} (h : MS G) : hT G 169 = 40 := (h.2 (120, 169, 40, 24) (by decide)).2.1
theorem msL_169 {G : AH} (h : MS G) : hL G 169 = 24 := (h.2 (120, 169, 40, 24) (by decide)).2.2
theorem msR_121 {G : AH} (h : MS G) : hR G 136 121 = some 170 := (h.2 (121, 170, 40, 24) (by decide)).1
theorem msT_170 {G : AH} (h : MS G) : hT G 170 = 40 := (h.2 (121, 170, 40, 24) (by decide)).2.1
theorem msL_170 {G : AH} (h : MS G) : hL G 170 = 24 := (h.2 (121, 170, 40, 24) (by decide)).2.2
theorem msR_122 {G : AH} (h : MS G) : hR G 136 122 = some 171 := (h.2 (122, 171, 41, 512) (by decide)).1
theorem msT_171 {G : AH} (h : MS G) : hT G 171 = 41 := (h.2 (122, 171, 41, 512) (by decide)).2.1
theorem msL_171 {G : AH} (h : MS G) : hL G 171 = 512 := (h.2 (122, 171, 41, 512) (by decide)).2.2
theorem msR_125 {G : AH} (h : MS G) : hR G 136 125 = some 172 := (h.2 (125, 172, 40, 24) (by decide)).1
theorem msT_172 {G : AH} (h : MS G) : hT G 172 = 40 := (h.2 (125, 172, 40, 24) (by decide)).2.1
theorem msL_172 {G : AH} (h : MS G) : hL G 172 = 24 := (h.2 (125, 172, 40, 24) (by decide)).2.2
theorem msR_126 {G : AH} (h : MS G) : hR G 136 126 = some 173 := (h.2 (126, 173, 44, 2) (by decide)).1
theorem msT_173 {G : AH} (h : MS G) : hT G 173 = 44 := (h.2 (126, 173, 44, 2) (by decide)).2.1
theorem msL_173 {G : AH} (h : MS G) : hL G 173 = 2 := (h.2 (126, 173, 44, 2) (by decide)).2.2
theorem msR_127 {G : AH} (h : MS G) : hR G 136 127 = some 174 := (h.2 (127, 174, 40, 1600) (by decide)).1
theorem msT_174 {G : AH} (h : MS G) : hT G 174 = 40 := (h.2 (127, 174, 40, 1600) (by decide)).2.1
theorem msL_174 {G : AH} (h : MS G) : hL G 174 = 1600 := (h.2 (127, 174, 40, 1600) (by decide)).2.2
theorem msR_128 {G : AH} (h : MS G) : hR G 136 128 = some 175 := (h.2 (128, 175, 40, 8) (by decide)).1
theorem msT_175 {G : AH} (h : MS G) : hT G 175 = 40 := (h.2 (128, 175, 40, 8) (by decide)).2.1
theorem msL_175 {G : AH} (h : MS G) : hL G 175 = 8 := (h.2 (128, 175, 40, 8) (by decide)).2.2
theorem msR_129 {G : AH} (h : MS G) : hR G 136 129 = some 176 := (h.2 (129, 176, 40, 8) (by decide)).1
theorem msT_176 {G : AH} (h : MS G) : hT G 176 = 40 := (h.2 (129, 176, 40, 8) (by decide)).2.1
theorem msL_176 {G : AH} (h : MS G) : hL G 176 = 8 := (h.2 (129, 176, 40, 8) (by decide)).2.2
theorem msR_130 {G : AH} (h : MS G) : hR G 136 130 = some 177 := (h.2 (130, 177, 40, 8) (by decide)).1
theorem msT_177 {G : AH} (h : MS G) : hT G 177 = 40 := (h.2 (130, 177, 40, 8) (by decide)).2.1
theorem msL_177 {G : AH} (h : MS G) : hL G 177 = 8 := (h.2 (130, 177, 40, 8) (by decide)).2.2
theorem msR_131 {G : AH} (h : MS G) : hR G 136 131 = some 178 := (h.2 (131, 178, 40, 8) (by decide)).1
theorem msT_178 {G : AH} (h : MS G) : hT G 178 = 40 := (h.2 (131, 178, 40, 8) (by decide)).2.1
theorem msL_178 {G : AH} (h : MS G) : hL G 178 = 8 := (h.2 (131, 178, 40, 8) (by decide)).2.2
theorem msR_132 {G : AH} (h : MS G) : hR G 136 132 = some 179 := (h.2 (132, 179, 40, 8) (by decide)).1
theorem msT_179 {G : AH} (h : MS G) : hT G 179 = 40 := (h.2 (132, 179, 40, 8) (by decide)).2.1
theorem msL_179 {G : AH} (h : MS G) : hL G 179 = 8 := (h.2 (132, 179, 40, 8) (by decide)).2.2
theorem msR_134 {G : AH} (h : MS G) : hR G 136 134 = some 180 := (h.2 (134, 180, 40, 4) (by decide)).1
theorem msT_180 {G : AH} (h : MS G) : hT G 180 = 40 := (h.2 (134, 180, 40, 4) (by decide)).2.1
theorem msL_180 {G : AH} (h : MS G) : hL G 180 = 4 := (h.2 (134, 180, 40, 4) (by decide)).2.2
theorem msR_135 {G : AH} (h : MS G) : hR G 136 135 = some 181 := (h.2 (135, 181, 40, 4) (by decide)).1
theorem msT_181 {G : AH} (h : MS G) : hT G 181 = 40 := (h.2 (135, 181, 40, 4) (by decide)).2.1
theorem msL_181 {G : AH} (h : MS G) : hL G 181 = 4 := (h.2 (135, 181, 40, 4) (by decide)).2.2
theorem msR_136 {G : AH} (h : MS G) : hR G 136 136 = some 182 := (h.2 (136, 182, 41, 256) (by decide)).1
theorem msT_182 {G : AH} (h : MS G) : hT G 182 = 41 := (h.2 (136, 182, 41, 256) (by decide)).2.1
theorem msL_182 {G : AH} (h : MS G) : hL G 182 = 256 := (h.2 (136, 182, 41, 256) (by decide)).2.2
theorem msR_137 {G : AH} (h : MS G) : hR G 136 137 = some 183 := (h.2 (137, 183, 41, 64) (by decide)).1
theorem msT_183 {G : AH} (h : MS G) : hT G 183 = 41 := (h.2 (137, 183, 41, 64) (by decide)).2.1
theorem msL_183 {G : AH} (h : MS G) : hL G 183 = 64 := (h.2 (137, 183, 41, 64) (by decide)).2.2
theorem MS.of {G G' : AH} (h : MS G) (hR' : ∀ f, hR G' 136 f = hR G 136 f) (hT' : ∀ a, 136 ≤ a → a < 184 → hT G' a = hT G a ∧ hL G' a = hL G a) : MS G' := by
  refine ⟨(hT' 136 (by decide) (by decide)).1.trans h.1, fun q hq => ?_⟩
  obtain ⟨h1, h2, h3⟩ := h.2 q hq
  have hb : 136 ≤ q.2.1 ∧ q.2.1 < 184 := (show ∀ q ∈ msT, 136 ≤ q.2.1 ∧ q.2.1 < 184 by decide) q hq
  exact ⟨(hR' _).trans h1, (hT' _ hb.1 hb.2).1.trans h2, (hT' _ hb.1 hb.2).2.trans h3⟩
theorem MS_sI {G : AH} {a i : Nat} {v : Int32} : MS (sI G a i v) = MS G := rfl
theorem MS_sJ {G : AH} {a i : Nat} {v : Int64} : MS (sJ G a i v) = MS G := rfl
