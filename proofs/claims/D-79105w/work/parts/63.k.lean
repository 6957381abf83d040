/-! THE ROWS OF THE TABLES, ONE BY ONE (written by gen/gen_k.py) -/
set_option maxRecDepth 100000
theorem kF0_19 {M : MRec} (h : rP M = 0) : mLk tF M 19 = some (0, 1, .object "SwarmPlanner$World", false) := by unfold mLk; rw [h]; rfl
theorem kF0_23 {M : MRec} (h : rP M = 0) : mLk tF M 23 = some (1, 0, .array .boolean, true) := by unfold mLk; rw [h]; rfl
theorem kF0_29 {M : MRec} (h : rP M = 0) : mLk tF M 29 = some (0, 0, .array .int, true) := by unfold mLk; rw [h]; rfl
theorem kF0_42 {M : MRec} (h : rP M = 0) : mLk tF M 42 = some (0, 3, .array .int, true) := by unfold mLk; rw [h]; rfl
theorem kF0_45 {M : MRec} (h : rP M = 0) : mLk tF M 45 = some (0, 4, .array (.array .int), true) := by unfold mLk; rw [h]; rfl
theorem kF0_49 {M : MRec} (h : rP M = 0) : mLk tF M 49 = some (4, 1, .int, false) := by unfold mLk; rw [h]; rfl
theorem kF0_59 {M : MRec} (h : rP M = 0) : mLk tF M 59 = some (1, 3, .array (.object "SwarmPlanner$Shape"), true) := by unfold mLk; rw [h]; rfl
theorem kF0_63 {M : MRec} (h : rP M = 0) : mLk tF M 63 = some (1, 7, .int, false) := by unfold mLk; rw [h]; rfl
theorem kF0_71 {M : MRec} (h : rP M = 0) : mLk tF M 71 = some (0, 6, .int, false) := by unfold mLk; rw [h]; rfl
theorem kF0_74 {M : MRec} (h : rP M = 0) : mLk tF M 74 = some (0, 7, .int, false) := by unfold mLk; rw [h]; rfl
theorem kF0_77 {M : MRec} (h : rP M = 0) : mLk tF M 77 = some (7, 2, .int, true) := by unfold mLk; rw [h]; rfl
theorem kF0_80 {M : MRec} (h : rP M = 0) : mLk tF M 80 = some (1, 2, .array (.object "SwarmPlanner$Member"), true) := by unfold mLk; rw [h]; rfl
theorem kF0_84 {M : MRec} (h : rP M = 0) : mLk tF M 84 = some (7, 0, .array .int, true) := by unfold mLk; rw [h]; rfl
theorem kF0_87 {M : MRec} (h : rP M = 0) : mLk tF M 87 = some (7, 1, .array .int, true) := by unfold mLk; rw [h]; rfl
theorem kF0_98 {M : MRec} (h : rP M = 0) : mLk tF M 98 = some (0, 5, .array .int, true) := by unfold mLk; rw [h]; rfl
theorem kF0_109 {M : MRec} (h : rP M = 0) : mLk tF M 109 = some (4, 0, .int, true) := by unfold mLk; rw [h]; rfl
theorem kF0_132 {M : MRec} (h : rP M = 0) : mLk tF M 132 = some (4, 4, .int, false) := by unfold mLk; rw [h]; rfl
theorem kF0_135 {M : MRec} (h : rP M = 0) : mLk tF M 135 = some (4, 3, .int, false) := by unfold mLk; rw [h]; rfl
theorem kF0_138 {M : MRec} (h : rP M = 0) : mLk tF M 138 = some (4, 5, .int, false) := by unfold mLk; rw [h]; rfl
theorem kF0_141 {M : MRec} (h : rP M = 0) : mLk tF M 141 = some (1, 4, .array .int, true) := by unfold mLk; rw [h]; rfl
theorem kF0_144 {M : MRec} (h : rP M = 0) : mLk tF M 144 = some (1, 6, .int, false) := by unfold mLk; rw [h]; rfl
theorem kF0_147 {M : MRec} (h : rP M = 0) : mLk tF M 147 = some (0, 8, .array .int, true) := by unfold mLk; rw [h]; rfl
theorem kF0_150 {M : MRec} (h : rP M = 0) : mLk tF M 150 = some (1, 1, .array .int, true) := by unfold mLk; rw [h]; rfl
theorem kF0_170 {M : MRec} (h : rP M = 0) : mLk tF M 170 = some (4, 2, .int, false) := by unfold mLk; rw [h]; rfl
theorem kF0_193 {M : MRec} (h : rP M = 0) : mLk tF M 193 = some (4, 6, .int, false) := by unfold mLk; rw [h]; rfl
theorem kF0_201 {M : MRec} (h : rP M = 0) : mLk tF M 201 = some (0, 11, .object "java/util/Comparator", true) := by unfold mLk; rw [h]; rfl
theorem kF0_215 {M : MRec} (h : rP M = 0) : mLk tF M 215 = some (0, 10, .object "java/util/ArrayList", true) := by unfold mLk; rw [h]; rfl
theorem kF0_247 {M : MRec} (h : rP M = 0) : mLk tF M 247 = some (0, 2, .array (.array .int), true) := by unfold mLk; rw [h]; rfl
theorem kF0_250 {M : MRec} (h : rP M = 0) : mLk tF M 250 = some (0, 9, .array .boolean, true) := by unfold mLk; rw [h]; rfl
theorem kF0_259 {M : MRec} (h : rP M = 0) : mLk tF M 259 = some (0, 12, .object "java/util/ArrayList", true) := by unfold mLk; rw [h]; rfl
theorem kF0_262 {M : MRec} (h : rP M = 0) : mLk tF M 262 = some (0, 13, .array .byte, true) := by unfold mLk; rw [h]; rfl
theorem kF0_266 {M : MRec} (h : rP M = 0) : mLk tF M 266 = some (0, 15, .array .int, true) := by unfold mLk; rw [h]; rfl
theorem kF0_269 {M : MRec} (h : rP M = 0) : mLk tF M 269 = some (0, 16, .int, false) := by unfold mLk; rw [h]; rfl
theorem kF0_272 {M : MRec} (h : rP M = 0) : mLk tF M 272 = some (0, 17, .int, false) := by unfold mLk; rw [h]; rfl
theorem kF0_275 {M : MRec} (h : rP M = 0) : mLk tF M 275 = some (0, 18, .array .int, true) := by unfold mLk; rw [h]; rfl
theorem kF0_278 {M : MRec} (h : rP M = 0) : mLk tF M 278 = some (0, 19, .array .int, true) := by unfold mLk; rw [h]; rfl
theorem kF0_310 {M : MRec} (h : rP M = 0) : mLk tF M 310 = some (1, 5, .int, false) := by unfold mLk; rw [h]; rfl
theorem kF0_322 {M : MRec} (h : rP M = 0) : mLk tF M 322 = some (0, 14, .int, false) := by unfold mLk; rw [h]; rfl
theorem kF0_337 {M : MRec} (h : rP M = 0) : mLk tF M 337 = some (6, 6, .int, true) := by unfold mLk; rw [h]; rfl
theorem kF0_421 {M : MRec} (h : rP M = 0) : mLk tF M 421 = some (0, 20, .object "SwarmPlanner$World", false) := by unfold mLk; rw [h]; rfl
theorem kF1_9 {M : MRec} (h : rP M = 1) : mLk tF M 9 = some (1, 0, .array .boolean, true) := by unfold mLk; rw [h]; rfl
theorem kF1_15 {M : MRec} (h : rP M = 1) : mLk tF M 15 = some (1, 1, .array .int, true) := by unfold mLk; rw [h]; rfl
theorem kF1_21 {M : MRec} (h : rP M = 1) : mLk tF M 21 = some (1, 2, .array (.object "SwarmPlanner$Member"), true) := by unfold mLk; rw [h]; rfl
theorem kF1_27 {M : MRec} (h : rP M = 1) : mLk tF M 27 = some (1, 3, .array (.object "SwarmPlanner$Shape"), true) := by unfold mLk; rw [h]; rfl
theorem kF1_31 {M : MRec} (h : rP M = 1) : mLk tF M 31 = some (1, 4, .array .int, true) := by unfold mLk; rw [h]; rfl
theorem kF1_34 {M : MRec} (h : rP M = 1) : mLk tF M 34 = some (1, 5, .int, false) := by unfold mLk; rw [h]; rfl
theorem kF1_38 {M : MRec} (h : rP M = 1) : mLk tF M 38 = some (1, 6, .int, false) := by unfold mLk; rw [h]; rfl
theorem kF1_55 {M : MRec} (h : rP M = 1) : mLk tF M 55 = some (1, 7, .int, false) := by unfold mLk; rw [h]; rfl
theorem kF1_70 {M : MRec} (h : rP M = 1) : mLk tF M 70 = some (4, 1, .int, false) := by unfold mLk; rw [h]; rfl
theorem kF1_73 {M : MRec} (h : rP M = 1) : mLk tF M 73 = some (4, 0, .int, true) := by unfold mLk; rw [h]; rfl
theorem kF2_1 {M : MRec} (h : rP M = 2) : mLk tF M 1 = some (2, 0, .object "SwarmPlanner", true) := by unfold mLk; rw [h]; rfl
theorem kF2_19 {M : MRec} (h : rP M = 2) : mLk tF M 19 = some (4, 0, .int, true) := by unfold mLk; rw [h]; rfl
theorem kF3_9 {M : MRec} (h : rP M = 3) : mLk tF M 9 = some (3, 0, .array .int, true) := by unfold mLk; rw [h]; rfl
theorem kF3_13 {M : MRec} (h : rP M = 3) : mLk tF M 13 = some (3, 3, .array .int, true) := by unfold mLk; rw [h]; rfl
theorem kF3_16 {M : MRec} (h : rP M = 3) : mLk tF M 16 = some (3, 4, .array .int, true) := by unfold mLk; rw [h]; rfl
theorem kF3_19 {M : MRec} (h : rP M = 3) : mLk tF M 19 = some (3, 5, .array .int, true) := by unfold mLk; rw [h]; rfl
theorem kF3_22 {M : MRec} (h : rP M = 3) : mLk tF M 22 = some (3, 6, .array .int, true) := by unfold mLk; rw [h]; rfl
theorem kF3_25 {M : MRec} (h : rP M = 3) : mLk tF M 25 = some (3, 7, .array .int, true) := by unfold mLk; rw [h]; rfl
theorem kF3_28 {M : MRec} (h : rP M = 3) : mLk tF M 28 = some (3, 10, .array .int, true) := by unfold mLk; rw [h]; rfl
theorem kF3_31 {M : MRec} (h : rP M = 3) : mLk tF M 31 = some (3, 11, .array .int, true) := by unfold mLk; rw [h]; rfl
theorem kF3_34 {M : MRec} (h : rP M = 3) : mLk tF M 34 = some (3, 12, .array .int, true) := by unfold mLk; rw [h]; rfl
theorem kF3_37 {M : MRec} (h : rP M = 3) : mLk tF M 37 = some (3, 13, .array .int, true) := by unfold mLk; rw [h]; rfl
theorem kF3_40 {M : MRec} (h : rP M = 3) : mLk tF M 40 = some (3, 14, .array .int, true) := by unfold mLk; rw [h]; rfl
theorem kF3_43 {M : MRec} (h : rP M = 3) : mLk tF M 43 = some (3, 18, .array .int, true) := by unfold mLk; rw [h]; rfl
theorem kF3_46 {M : MRec} (h : rP M = 3) : mLk tF M 46 = some (3, 19, .array .int, true) := by unfold mLk; rw [h]; rfl
theorem kF3_49 {M : MRec} (h : rP M = 3) : mLk tF M 49 = some (3, 1, .int, false) := by unfold mLk; rw [h]; rfl
theorem kF3_95 {M : MRec} (h : rP M = 3) : mLk tF M 95 = some (3, 8, .int, false) := by unfold mLk; rw [h]; rfl
theorem kF3_98 {M : MRec} (h : rP M = 3) : mLk tF M 98 = some (3, 9, .int, false) := by unfold mLk; rw [h]; rfl
theorem kF3_172 {M : MRec} (h : rP M = 3) : mLk tF M 172 = some (3, 15, .int, false) := by unfold mLk; rw [h]; rfl
theorem kF3_175 {M : MRec} (h : rP M = 3) : mLk tF M 175 = some (3, 16, .int, false) := by unfold mLk; rw [h]; rfl
theorem kF3_178 {M : MRec} (h : rP M = 3) : mLk tF M 178 = some (3, 17, .int, false) := by unfold mLk; rw [h]; rfl
theorem kF3_187 {M : MRec} (h : rP M = 3) : mLk tF M 187 = some (3, 20, .int, false) := by unfold mLk; rw [h]; rfl
theorem kF3_200 {M : MRec} (h : rP M = 3) : mLk tF M 200 = some (3, 21, .int, false) := by unfold mLk; rw [h]; rfl
theorem kF3_203 {M : MRec} (h : rP M = 3) : mLk tF M 203 = some (3, 22, .int, false) := by unfold mLk; rw [h]; rfl
theorem kF3_219 {M : MRec} (h : rP M = 3) : mLk tF M 219 = some (3, 23, .int, false) := by unfold mLk; rw [h]; rfl
theorem kF3_222 {M : MRec} (h : rP M = 3) : mLk tF M 222 = some (3, 24, .int, false) := by unfold mLk; rw [h]; rfl
theorem kF3_234 {M : MRec} (h : rP M = 3) : mLk tF M 234 = some (3, 2, .boolean, false) := by unfold mLk; rw [h]; rfl
theorem kF4_9 {M : MRec} (h : rP M = 4) : mLk tF M 9 = some (4, 2, .int, false) := by unfold mLk; rw [h]; rfl
theorem kF4_15 {M : MRec} (h : rP M = 4) : mLk tF M 15 = some (4, 0, .int, true) := by unfold mLk; rw [h]; rfl
theorem kF4_18 {M : MRec} (h : rP M = 4) : mLk tF M 18 = some (4, 1, .int, false) := by unfold mLk; rw [h]; rfl
theorem kF4_24 {M : MRec} (h : rP M = 4) : mLk tF M 24 = some (4, 3, .int, false) := by unfold mLk; rw [h]; rfl
theorem kF4_27 {M : MRec} (h : rP M = 4) : mLk tF M 27 = some (4, 4, .int, false) := by unfold mLk; rw [h]; rfl
theorem kF4_30 {M : MRec} (h : rP M = 4) : mLk tF M 30 = some (4, 5, .int, false) := by unfold mLk; rw [h]; rfl
theorem kF4_33 {M : MRec} (h : rP M = 4) : mLk tF M 33 = some (4, 6, .int, false) := by unfold mLk; rw [h]; rfl
theorem kF5_3 {M : MRec} (h : rP M = 5) : mLk tF M 3 = some (5, 5, .object "SwarmPlanner", true) := by unfold mLk; rw [h]; rfl
theorem kF5_15 {M : MRec} (h : rP M = 5) : mLk tF M 15 = some (5, 0, .array .int, true) := by unfold mLk; rw [h]; rfl
theorem kF5_19 {M : MRec} (h : rP M = 5) : mLk tF M 19 = some (5, 1, .array .int, true) := by unfold mLk; rw [h]; rfl
theorem kF5_22 {M : MRec} (h : rP M = 5) : mLk tF M 22 = some (5, 3, .int, false) := by unfold mLk; rw [h]; rfl
theorem kF5_26 {M : MRec} (h : rP M = 5) : mLk tF M 26 = some (5, 4, .int, false) := by unfold mLk; rw [h]; rfl
theorem kF5_29 {M : MRec} (h : rP M = 5) : mLk tF M 29 = some (0, 14, .int, false) := by unfold mLk; rw [h]; rfl
theorem kF5_32 {M : MRec} (h : rP M = 5) : mLk tF M 32 = some (0, 13, .array .byte, true) := by unfold mLk; rw [h]; rfl
theorem kF5_53 {M : MRec} (h : rP M = 5) : mLk tF M 53 = some (5, 2, .int, false) := by unfold mLk; rw [h]; rfl
theorem kF6_7 {M : MRec} (h : rP M = 6) : mLk tF M 7 = some (6, 6, .int, true) := by unfold mLk; rw [h]; rfl
theorem kF7_9 {M : MRec} (h : rP M = 7) : mLk tF M 9 = some (7, 0, .array .int, true) := by unfold mLk; rw [h]; rfl
theorem kF7_15 {M : MRec} (h : rP M = 7) : mLk tF M 15 = some (7, 1, .array .int, true) := by unfold mLk; rw [h]; rfl
theorem kF7_18 {M : MRec} (h : rP M = 7) : mLk tF M 18 = some (7, 2, .int, true) := by unfold mLk; rw [h]; rfl
theorem kF8_3 {M : MRec} (h : rP M = 8) : mLk tF M 3 = some (8, 3, .object "SwarmPlanner", true) := by unfold mLk; rw [h]; rfl
theorem kF8_15 {M : MRec} (h : rP M = 8) : mLk tF M 15 = some (8, 0, .object "SwarmPlanner$Member", true) := by unfold mLk; rw [h]; rfl
theorem kF8_19 {M : MRec} (h : rP M = 8) : mLk tF M 19 = some (8, 1, .object "SwarmPlanner$Chain", true) := by unfold mLk; rw [h]; rfl
theorem kF8_23 {M : MRec} (h : rP M = 8) : mLk tF M 23 = some (0, 2, .array (.array .int), true) := by unfold mLk; rw [h]; rfl
theorem kF8_27 {M : MRec} (h : rP M = 8) : mLk tF M 27 = some (4, 0, .int, true) := by unfold mLk; rw [h]; rfl
theorem kF8_33 {M : MRec} (h : rP M = 8) : mLk tF M 33 = some (8, 2, .array .int, true) := by unfold mLk; rw [h]; rfl
theorem kF8_43 {M : MRec} (h : rP M = 8) : mLk tF M 43 = some (0, 4, .array (.array .int), true) := by unfold mLk; rw [h]; rfl
theorem kF8_46 {M : MRec} (h : rP M = 8) : mLk tF M 46 = some (4, 1, .int, false) := by unfold mLk; rw [h]; rfl
theorem kF8_53 {M : MRec} (h : rP M = 8) : mLk tF M 53 = some (0, 6, .int, false) := by unfold mLk; rw [h]; rfl
theorem kF8_73 {M : MRec} (h : rP M = 8) : mLk tF M 73 = some (0, 5, .array .int, true) := by unfold mLk; rw [h]; rfl
theorem kF9_3 {M : MRec} (h : rP M = 9) : mLk tF M 3 = some (9, 3, .object "SwarmPlanner", true) := by unfold mLk; rw [h]; rfl
theorem kF9_15 {M : MRec} (h : rP M = 9) : mLk tF M 15 = some (9, 0, .int, true) := by unfold mLk; rw [h]; rfl
theorem kF9_19 {M : MRec} (h : rP M = 9) : mLk tF M 19 = some (9, 1, .int, true) := by unfold mLk; rw [h]; rfl
theorem kF9_22 {M : MRec} (h : rP M = 9) : mLk tF M 22 = some (9, 2, .int, true) := by unfold mLk; rw [h]; rfl
theorem kF9_37 {M : MRec} (h : rP M = 9) : mLk tF M 37 = some (0, 1, .object "SwarmPlanner$World", false) := by unfold mLk; rw [h]; rfl
theorem kF9_41 {M : MRec} (h : rP M = 9) : mLk tF M 41 = some (1, 1, .array .int, true) := by unfold mLk; rw [h]; rfl
theorem kF9_65 {M : MRec} (h : rP M = 9) : mLk tF M 65 = some (1, 6, .int, false) := by unfold mLk; rw [h]; rfl
theorem kF9_68 {M : MRec} (h : rP M = 9) : mLk tF M 68 = some (1, 5, .int, false) := by unfold mLk; rw [h]; rfl
theorem kF21_7 {M : MRec} (h : rP M = 21) : mLk tF M 7 = some (10, 0, .int, false) := by unfold mLk; rw [h]; rfl
theorem kF22_9 {M : MRec} (h : rP M = 22) : mLk tF M 9 = some (10, 1, .array (.object "java/lang/Object"), false) := by unfold mLk; rw [h]; rfl
theorem kF22_48 {M : MRec} (h : rP M = 22) : mLk tF M 48 = some (10, 2, .int, false) := by unfold mLk; rw [h]; rfl
theorem kF22_63 {M : MRec} (h : rP M = 22) : mLk tF M 63 = some (10, 0, .int, false) := by unfold mLk; rw [h]; rfl
theorem kF28_7 {M : MRec} (h : rP M = 28) : mLk tF M 7 = some (6, 0, .object "java/lang/Throwable", false) := by unfold mLk; rw [h]; rfl
theorem kF28_17 {M : MRec} (h : rP M = 28) : mLk tF M 17 = some (6, 1, .array (.object "java/lang/StackTraceElement"), false) := by unfold mLk; rw [h]; rfl
theorem kF28_24 {M : MRec} (h : rP M = 28) : mLk tF M 24 = some (6, 2, .object "java/util/List", false) := by unfold mLk; rw [h]; rfl
theorem kF28_31 {M : MRec} (h : rP M = 28) : mLk tF M 31 = some (6, 3, .object "java/lang/String", false) := by unfold mLk; rw [h]; rfl
theorem kF31_17 {M : MRec} (h : rP M = 31) : mLk tF M 17 = some (11, 0, .array (.object "java/lang/Object"), false) := by unfold mLk; rw [h]; rfl
theorem kF31_21 {M : MRec} (h : rP M = 31) : mLk tF M 21 = some (11, 2, .object "java/util/Comparator", true) := by unfold mLk; rw [h]; rfl
theorem kF31_58 {M : MRec} (h : rP M = 31) : mLk tF M 58 = some (11, 1, .int, false) := by unfold mLk; rw [h]; rfl
theorem kF31_93 {M : MRec} (h : rP M = 31) : mLk tF M 93 = some (11, 3, .int, false) := by unfold mLk; rw [h]; rfl
theorem kT0_7 {M : MRec} (h : rP M = 0) : mLk tS M 7 = some 0 := by unfold mLk; rw [h]; rfl
theorem kT0_11 {M : MRec} (h : rP M = 0) : mLk tS M 11 = some 1 := by unfold mLk; rw [h]; rfl
theorem kT22_39 {M : MRec} (h : rP M = 22) : mLk tS M 39 = some 2 := by unfold mLk; rw [h]; rfl
theorem kT28_13 {M : MRec} (h : rP M = 28) : mLk tS M 13 = some 3 := by unfold mLk; rw [h]; rfl
theorem kT28_20 {M : MRec} (h : rP M = 28) : mLk tS M 20 = some 4 := by unfold mLk; rw [h]; rfl
theorem kK0_18 {M : MRec} (h : rP M = 0) : mLk tK M 18 = some (16777216) := by unfold mLk; rw [h]; rfl
theorem kK23_200 {M : MRec} (h : rP M = 23) : mLk tK M 200 = some (2147483639) := by unfold mLk; rw [h]; rfl
theorem kN0_24 {M : MRec} (h : rP M = 0) : mLk tN M 24 = some (1, [.inr none, .inr none, .inr none, .inr none, .inr none, .inl 0, .inl 0, .inl 0]) := by unfold mLk; rw [h]; rfl
theorem kN0_37 {M : MRec} (h : rP M = 0) : mLk tN M 37 = some (8, [.inr none, .inr none, .inr none, .inr none]) := by unfold mLk; rw [h]; rfl
theorem kN0_50 {M : MRec} (h : rP M = 0) : mLk tN M 50 = some (4, [.inl 0, .inl 0, .inl 0, .inl 0, .inl 0, .inl 0, .inl 0]) := by unfold mLk; rw [h]; rfl
theorem kN0_199 {M : MRec} (h : rP M = 0) : mLk tN M 199 = some (11, [.inr none, .inl 0, .inr none, .inl 0]) := by unfold mLk; rw [h]; rfl
theorem kN0_220 {M : MRec} (h : rP M = 0) : mLk tN M 220 = some (10, [.inl 0, .inr none, .inl 0]) := by unfold mLk; rw [h]; rfl
theorem kN0_254 {M : MRec} (h : rP M = 0) : mLk tN M 254 = some (2, [.inr none]) := by unfold mLk; rw [h]; rfl
theorem kN0_329 {M : MRec} (h : rP M = 0) : mLk tN M 329 = some (5, [.inr none, .inr none, .inl 0, .inl 0, .inl 0, .inr none]) := by unfold mLk; rw [h]; rfl
theorem kN1_19 {M : MRec} (h : rP M = 1) : mLk tN M 19 = some (4, [.inl 0, .inl 0, .inl 0, .inl 0, .inl 0, .inl 0, .inl 0]) := by unfold mLk; rw [h]; rfl
theorem kN5_36 {M : MRec} (h : rP M = 5) : mLk tN M 36 = some (6, [.inr none, .inr none, .inr none, .inr none, .inr none, .inl 0, .inl 0]) := by unfold mLk; rw [h]; rfl
theorem kN5_59 {M : MRec} (h : rP M = 5) : mLk tN M 59 = some (7, [.inr none, .inr none, .inl 0]) := by unfold mLk; rw [h]; rfl
theorem kN5_71 {M : MRec} (h : rP M = 5) : mLk tN M 71 = some (9, [.inl 0, .inl 0, .inl 0, .inr none]) := by unfold mLk; rw [h]; rfl
theorem kN5_76 {M : MRec} (h : rP M = 5) : mLk tN M 76 = some (10, [.inl 0, .inr none, .inl 0]) := by unfold mLk; rw [h]; rfl
theorem kN40_7 {M : MRec} (h : rP M = 40) : mLk tN M 7 = some (0, [.inr none, .inr none, .inr none, .inr none, .inr none, .inr none, .inl 0, .inl 0, .inr none, .inr none, .inr none, .inr none, .inr none, .inr none, .inl 0, .inr none, .inl 0, .inl 0, .inr none, .inr none, .inr none]) := by unfold mLk; rw [h]; rfl
theorem kN40_10 {M : MRec} (h : rP M = 40) : mLk tN M 10 = some (3, [.inr none, .inl 0, .inl 0, .inr none, .inr none, .inr none, .inr none, .inr none, .inl 0, .inl 0, .inr none, .inr none, .inr none, .inr none, .inr none, .inl 0, .inl 0, .inl 0, .inr none, .inr none, .inl 0, .inl 0, .inl 0, .inl 0, .inl 0]) := by unfold mLk; rw [h]; rfl
theorem kA1_19 {M : MRec} (h : rP M = 1) : mLk tA M 19 = some 1 := by unfold mLk; rw [h]; rfl
theorem kA1_25 {M : MRec} (h : rP M = 1) : mLk tA M 25 = some 2 := by unfold mLk; rw [h]; rfl
theorem kA22_7 {M : MRec} (h : rP M = 22) : mLk tA M 7 = some 0 := by unfold mLk; rw [h]; rfl
theorem kA25_2 {M : MRec} (h : rP M = 25) : mLk tA M 2 = some 0 := by unfold mLk; rw [h]; rfl
theorem kA31_15 {M : MRec} (h : rP M = 31) : mLk tA M 15 = some 0 := by unfold mLk; rw [h]; rfl
theorem kX0_24 {M : MRec} (h : rP M = 0) : mLk tX M 24 = some 1 := by unfold mLk; rw [h]; rfl
theorem kX0_50 {M : MRec} (h : rP M = 0) : mLk tX M 50 = some 4 := by unfold mLk; rw [h]; rfl
theorem kX0_352 {M : MRec} (h : rP M = 0) : mLk tX M 352 = some 9 := by unfold mLk; rw [h]; rfl
theorem kX2_20 {M : MRec} (h : rP M = 2) : mLk tX M 20 = some 4 := by unfold mLk; rw [h]; rfl
theorem kV0_36 {M : MRec} (h : rP M = 0) : mLk tV M 36 = some (rX8_sum, 1, 8) := by unfold mLk; rw [h]; rfl
theorem kV0_55 {M : MRec} (h : rP M = 0) : mLk tV M 55 = some (rX1_leads, 0, 1) := by unfold mLk; rw [h]; rfl
theorem kV0_66 {M : MRec} (h : rP M = 0) : mLk tV M 66 = some (rX7_size, 0, 7) := by unfold mLk; rw [h]; rfl
theorem kV0_90 {M : MRec} (h : rP M = 0) : mLk tV M 90 = some (rX0_lays, 2, 0) := by unfold mLk; rw [h]; rfl
theorem kV0_94 {M : MRec} (h : rP M = 0) : mLk tV M 94 = some (rX0_laysPlaces, 0, 0) := by unfold mLk; rw [h]; rfl
theorem kV0_105 {M : MRec} (h : rP M = 0) : mLk tV M 105 = some (rX8_gives, 1, 8) := by unfold mLk; rw [h]; rfl
theorem kV0_116 {M : MRec} (h : rP M = 0) : mLk tV M 116 = some (rX0_distanceOf, 1, 0) := by unfold mLk; rw [h]; rfl
theorem kV0_120 {M : MRec} (h : rP M = 0) : mLk tV M 120 = some (rX0_gives, 0, 0) := by unfold mLk; rw [h]; rfl
theorem kV0_122 {M : MRec} (h : rP M = 0) : mLk tV M 122 = some (rX0_distances, 0, 0) := by unfold mLk; rw [h]; rfl
theorem kV0_125 {M : MRec} (h : rP M = 0) : mLk tV M 125 = some (rX0_given, 0, 0) := by unfold mLk; rw [h]; rfl
theorem kV0_128 {M : MRec} (h : rP M = 0) : mLk tV M 128 = some (rX1_moves, 2, 1) := by unfold mLk; rw [h]; rfl
theorem kV0_153 {M : MRec} (h : rP M = 0) : mLk tV M 153 = some (rX0_steps, 2, 0) := by unfold mLk; rw [h]; rfl
theorem kV0_155 {M : MRec} (h : rP M = 0) : mLk tV M 155 = some (rX0_waits, 1, 0) := by unfold mLk; rw [h]; rfl
theorem kV0_158 {M : MRec} (h : rP M = 0) : mLk tV M 158 = some (rX0_isGood, 2, 0) := by unfold mLk; rw [h]; rfl
theorem kV0_162 {M : MRec} (h : rP M = 0) : mLk tV M 162 = some (rX1_isFree, 1, 1) := by unfold mLk; rw [h]; rfl
theorem kV0_166 {M : MRec} (h : rP M = 0) : mLk tV M 166 = some (rX0_gains, 2, 0) := by unfold mLk; rw [h]; rfl
theorem kV0_173 {M : MRec} (h : rP M = 0) : mLk tV M 173 = some (rX0_asideOf, 1, 0) := by unfold mLk; rw [h]; rfl
theorem kV0_176 {M : MRec} (h : rP M = 0) : mLk tV M 176 = some (rX0_freeFor, 1, 0) := by unfold mLk; rw [h]; rfl
theorem kV0_179 {M : MRec} (h : rP M = 0) : mLk tV M 179 = some (rX0_partnerOf, 1, 0) := by unfold mLk; rw [h]; rfl
theorem kV0_183 {M : MRec} (h : rP M = 0) : mLk tV M 183 = some (rX0_waitsOrGoes, 1, 0) := by unfold mLk; rw [h]; rfl
theorem kV0_186 {M : MRec} (h : rP M = 0) : mLk tV M 186 = some (rX1_exchanges, 2, 1) := by unfold mLk; rw [h]; rfl
theorem kV0_190 {M : MRec} (h : rP M = 0) : mLk tV M 190 = some (rX0_isExchanged, 1, 0) := by unfold mLk; rw [h]; rfl
theorem kV0_196 {M : MRec} (h : rP M = 0) : mLk tV M 196 = some (rX0_leaderActs, 1, 0) := by unfold mLk; rw [h]; rfl
theorem kV0_208 {M : MRec} (h : rP M = 0) : mLk tV M 208 = some (rX0_begins, 2, 0) := by unfold mLk; rw [h]; rfl
theorem kV0_211 {M : MRec} (h : rP M = 0) : mLk tV M 211 = some (rJ11_add, 1, 11) := by unfold mLk; rw [h]; rfl
theorem kV0_219 {M : MRec} (h : rP M = 0) : mLk tV M 219 = some (rJ2_clear, 0, 10) := by unfold mLk; rw [h]; rfl
theorem kV0_224 {M : MRec} (h : rP M = 0) : mLk tV M 224 = some (rJ0_isEmpty, 0, 11) := by unfold mLk; rw [h]; rfl
theorem kV0_228 {M : MRec} (h : rP M = 0) : mLk tV M 228 = some (rJ10_remove, 0, 11) := by unfold mLk; rw [h]; rfl
theorem kV0_232 {M : MRec} (h : rP M = 0) : mLk tV M 232 = some (rJ2_add, 1, 10) := by unfold mLk; rw [h]; rfl
theorem kV0_233 {M : MRec} (h : rP M = 0) : mLk tV M 233 = some (rJ2_size, 0, 10) := by unfold mLk; rw [h]; rfl
theorem kV0_234 {M : MRec} (h : rP M = 0) : mLk tV M 234 = some (rJ2_get, 1, 10) := by unfold mLk; rw [h]; rfl
theorem kV0_238 {M : MRec} (h : rP M = 0) : mLk tV M 238 = some (rX0_acts, 1, 0) := by unfold mLk; rw [h]; rfl
theorem kV0_284 {M : MRec} (h : rP M = 0) : mLk tV M 284 = some (rJ2_remove, 1, 10) := by unfold mLk; rw [h]; rfl
theorem kV0_286 {M : MRec} (h : rP M = 0) : mLk tV M 286 = some (rX0_added, 0, 0) := by unfold mLk; rw [h]; rfl
theorem kV0_292 {M : MRec} (h : rP M = 0) : mLk tV M 292 = some (rX0_againstAdding, 2, 0) := by unfold mLk; rw [h]; rfl
theorem kV0_295 {M : MRec} (h : rP M = 0) : mLk tV M 295 = some (rX0_changes, 0, 0) := by unfold mLk; rw [h]; rfl
theorem kV0_298 {M : MRec} (h : rP M = 0) : mLk tV M 298 = some (rX0_adds, 2, 0) := by unfold mLk; rw [h]; rfl
theorem kV0_301 {M : MRec} (h : rP M = 0) : mLk tV M 301 = some (rX1_isMember, 1, 1) := by unfold mLk; rw [h]; rfl
theorem kV0_304 {M : MRec} (h : rP M = 0) : mLk tV M 304 = some (rX1_loses, 1, 1) := by unfold mLk; rw [h]; rfl
theorem kV0_307 {M : MRec} (h : rP M = 0) : mLk tV M 307 = some (rX1_many, 0, 1) := by unfold mLk; rw [h]; rfl
theorem kV0_316 {M : MRec} (h : rP M = 0) : mLk tV M 316 = some (rX0_turns, 1, 0) := by unfold mLk; rw [h]; rfl
theorem kV0_332 {M : MRec} (h : rP M = 0) : mLk tV M 332 = some (rX5_shape, 0, 5) := by unfold mLk; rw [h]; rfl
theorem kV0_340 {M : MRec} (h : rP M = 0) : mLk tV M 340 = some (rX0_round, 0, 0) := by unfold mLk; rw [h]; rfl
theorem kV0_343 {M : MRec} (h : rP M = 0) : mLk tV M 343 = some (rX0_notesCells, 0, 0) := by unfold mLk; rw [h]; rfl
theorem kV0_346 {M : MRec} (h : rP M = 0) : mLk tV M 346 = some (rX0_makes, 1, 0) := by unfold mLk; rw [h]; rfl
theorem kV0_349 {M : MRec} (h : rP M = 0) : mLk tV M 349 = some (rX0_elsewhere, 0, 0) := by unfold mLk; rw [h]; rfl
theorem kV0_354 {M : MRec} (h : rP M = 0) : mLk tV M 354 = some (rX9_against, 0, 9) := by unfold mLk; rw [h]; rfl
theorem kV0_357 {M : MRec} (h : rP M = 0) : mLk tV M 357 = some (rX9_does, 0, 9) := by unfold mLk; rw [h]; rfl
theorem kV0_360 {M : MRec} (h : rP M = 0) : mLk tV M 360 = some (rX5_commands, 0, 5) := by unfold mLk; rw [h]; rfl
theorem kV0_364 {M : MRec} (h : rP M = 0) : mLk tV M 364 = some (rX0_carriesOut, 1, 0) := by unfold mLk; rw [h]; rfl
theorem kV0_368 {M : MRec} (h : rP M = 0) : mLk tV M 368 = some (rX0_placeOf, 1, 0) := by unfold mLk; rw [h]; rfl
theorem kV0_371 {M : MRec} (h : rP M = 0) : mLk tV M 371 = some (rX0_isFormed, 0, 0) := by unfold mLk; rw [h]; rfl
theorem kV0_374 {M : MRec} (h : rP M = 0) : mLk tV M 374 = some (rX0_slotAt, 1, 0) := by unfold mLk; rw [h]; rfl
theorem kV0_377 {M : MRec} (h : rP M = 0) : mLk tV M 377 = some (rX0_wayOf, 2, 0) := by unfold mLk; rw [h]; rfl
theorem kV0_380 {M : MRec} (h : rP M = 0) : mLk tV M 380 = some (rX0_openAround, 1, 0) := by unfold mLk; rw [h]; rfl
theorem kV0_383 {M : MRec} (h : rP M = 0) : mLk tV M 383 = some (rX0_isShape, 1, 0) := by unfold mLk; rw [h]; rfl
theorem kV0_386 {M : MRec} (h : rP M = 0) : mLk tV M 386 = some (rX7_told, 1, 7) := by unfold mLk; rw [h]; rfl
theorem kV0_389 {M : MRec} (h : rP M = 0) : mLk tV M 389 = some (rX7_lies, 4, 7) := by unfold mLk; rw [h]; rfl
theorem kV0_393 {M : MRec} (h : rP M = 0) : mLk tV M 393 = some (rX0_isSeen, 2, 0) := by unfold mLk; rw [h]; rfl
theorem kV0_397 {M : MRec} (h : rP M = 0) : mLk tV M 397 = some (rX0_formsWithin, 1, 0) := by unfold mLk; rw [h]; rfl
theorem kV0_400 {M : MRec} (h : rP M = 0) : mLk tV M 400 = some (rX0_thinks, 2, 0) := by unfold mLk; rw [h]; rfl
theorem kV0_408 {M : MRec} (h : rP M = 0) : mLk tV M 408 = some (rX0_givesTo, 2, 0) := by unfold mLk; rw [h]; rfl
theorem kV0_417 {M : MRec} (h : rP M = 0) : mLk tV M 417 = some (rX0_goesOn, 1, 0) := by unfold mLk; rw [h]; rfl
theorem kV0_420 {M : MRec} (h : rP M = 0) : mLk tV M 420 = some (rJ2_isEmpty, 0, 10) := by unfold mLk; rw [h]; rfl
theorem kV0_424 {M : MRec} (h : rP M = 0) : mLk tV M 424 = some (rX0_shapes, 0, 0) := by unfold mLk; rw [h]; rfl
theorem kV1_42 {M : MRec} (h : rP M = 1) : mLk tV M 42 = some (rX1_becomes, 1, 1) := by unfold mLk; rw [h]; rfl
theorem kV1_66 {M : MRec} (h : rP M = 1) : mLk tV M 66 = some (rX1_isMember, 1, 1) := by unfold mLk; rw [h]; rfl
theorem kV2_13 {M : MRec} (h : rP M = 2) : mLk tV M 13 = some (rX0_distanceOf, 1, 0) := by unfold mLk; rw [h]; rfl
theorem kV2_25 {M : MRec} (h : rP M = 2) : mLk tV M 25 = some (rX2_compare_2, 2, 2) := by unfold mLk; rw [h]; rfl
theorem kV3_53 {M : MRec} (h : rP M = 3) : mLk tV M 53 = some (rX3_copies, 2, 3) := by unfold mLk; rw [h]; rfl
theorem kV3_61 {M : MRec} (h : rP M = 3) : mLk tV M 61 = some (rX3_of, 2, 3) := by unfold mLk; rw [h]; rfl
theorem kV3_65 {M : MRec} (h : rP M = 3) : mLk tV M 65 = some (rX3_isMember, 1, 3) := by unfold mLk; rw [h]; rfl
theorem kV3_69 {M : MRec} (h : rP M = 3) : mLk tV M 69 = some (rX3_isBlocked, 1, 3) := by unfold mLk; rw [h]; rfl
theorem kV3_75 {M : MRec} (h : rP M = 3) : mLk tV M 75 = some (rX3_floods, 2, 3) := by unfold mLk; rw [h]; rfl
theorem kV3_82 {M : MRec} (h : rP M = 3) : mLk tV M 82 = some (rX3_anchor, 1, 3) := by unfold mLk; rw [h]; rfl
theorem kV3_85 {M : MRec} (h : rP M = 3) : mLk tV M 85 = some (rX3_leader, 0, 3) := by unfold mLk; rw [h]; rfl
theorem kV3_89 {M : MRec} (h : rP M = 3) : mLk tV M 89 = some (rX3_column, 2, 3) := by unfold mLk; rw [h]; rfl
theorem kV3_92 {M : MRec} (h : rP M = 3) : mLk tV M 92 = some (rX3_rowOf, 2, 3) := by unfold mLk; rw [h]; rfl
theorem kV3_101 {M : MRec} (h : rP M = 3) : mLk tV M 101 = some (rX3_slots, 1, 3) := by unfold mLk; rw [h]; rfl
theorem kV3_104 {M : MRec} (h : rP M = 3) : mLk tV M 104 = some (rX3_placeOf, 1, 3) := by unfold mLk; rw [h]; rfl
theorem kV3_107 {M : MRec} (h : rP M = 3) : mLk tV M 107 = some (rX3_reckons, 1, 3) := by unfold mLk; rw [h]; rfl
theorem kV3_111 {M : MRec} (h : rP M = 3) : mLk tV M 111 = some (rX3_gives, 0, 3) := by unfold mLk; rw [h]; rfl
theorem kV3_114 {M : MRec} (h : rP M = 3) : mLk tV M 114 = some (rX3_lays, 3, 3) := by unfold mLk; rw [h]; rfl
theorem kV3_118 {M : MRec} (h : rP M = 3) : mLk tV M 118 = some (rX3_counts, 2, 3) := by unfold mLk; rw [h]; rfl
theorem kV3_121 {M : MRec} (h : rP M = 3) : mLk tV M 121 = some (rX3_on, 1, 3) := by unfold mLk; rw [h]; rfl
theorem kV3_124 {M : MRec} (h : rP M = 3) : mLk tV M 124 = some (rX3_waits, 1, 3) := by unfold mLk; rw [h]; rfl
theorem kV3_127 {M : MRec} (h : rP M = 3) : mLk tV M 127 = some (rX3_goes, 2, 3) := by unfold mLk; rw [h]; rfl
theorem kV3_130 {M : MRec} (h : rP M = 3) : mLk tV M 130 = some (rX3_mayExchange, 3, 3) := by unfold mLk; rw [h]; rfl
theorem kV3_133 {M : MRec} (h : rP M = 3) : mLk tV M 133 = some (rX3_steps, 3, 3) := by unfold mLk; rw [h]; rfl
theorem kV3_136 {M : MRec} (h : rP M = 3) : mLk tV M 136 = some (rX3_exchanges, 3, 3) := by unfold mLk; rw [h]; rfl
theorem kV3_139 {M : MRec} (h : rP M = 3) : mLk tV M 139 = some (rX3_stepsAside, 1, 3) := by unfold mLk; rw [h]; rfl
theorem kV3_142 {M : MRec} (h : rP M = 3) : mLk tV M 142 = some (rX3_leads, 0, 3) := by unfold mLk; rw [h]; rfl
theorem kV3_145 {M : MRec} (h : rP M = 3) : mLk tV M 145 = some (rX3_acts, 1, 3) := by unfold mLk; rw [h]; rfl
theorem kV3_148 {M : MRec} (h : rP M = 3) : mLk tV M 148 = some (rX3_round, 0, 3) := by unfold mLk; rw [h]; rfl
theorem kV3_151 {M : MRec} (h : rP M = 3) : mLk tV M 151 = some (rX3_keeps, 0, 3) := by unfold mLk; rw [h]; rfl
theorem kV3_154 {M : MRec} (h : rP M = 3) : mLk tV M 154 = some (rX3_makes, 1, 3) := by unfold mLk; rw [h]; rfl
theorem kV3_157 {M : MRec} (h : rP M = 3) : mLk tV M 157 = some (rX3_members, 0, 3) := by unfold mLk; rw [h]; rfl
theorem kV3_160 {M : MRec} (h : rP M = 3) : mLk tV M 160 = some (rX3_opens, 1, 3) := by unfold mLk; rw [h]; rfl
theorem kV3_163 {M : MRec} (h : rP M = 3) : mLk tV M 163 = some (rX3_goesLost, 1, 3) := by unfold mLk; rw [h]; rfl
theorem kV3_169 {M : MRec} (h : rP M = 3) : mLk tV M 169 = some (rX3_turnsBlocked, 1, 3) := by unfold mLk; rw [h]; rfl
theorem kV3_181 {M : MRec} (h : rP M = 3) : mLk tV M 181 = some (rX3_here, 0, 3) := by unfold mLk; rw [h]; rfl
theorem kV3_184 {M : MRec} (h : rP M = 3) : mLk tV M 184 = some (rX3_readsShape, 0, 3) := by unfold mLk; rw [h]; rfl
theorem kV3_190 {M : MRec} (h : rP M = 3) : mLk tV M 190 = some (rX3_number, 0, 3) := by unfold mLk; rw [h]; rfl
theorem kV3_193 {M : MRec} (h : rP M = 3) : mLk tV M 193 = some (rX3_order, 0, 3) := by unfold mLk; rw [h]; rfl
theorem kV3_196 {M : MRec} (h : rP M = 3) : mLk tV M 196 = some (rX3_refusal, 3, 3) := by unfold mLk; rw [h]; rfl
theorem kV3_206 {M : MRec} (h : rP M = 3) : mLk tV M 206 = some (rX3_carries, 3, 3) := by unfold mLk; rw [h]; rfl
theorem kV3_209 {M : MRec} (h : rP M = 3) : mLk tV M 209 = some (rX3_isFormed, 0, 3) := by unfold mLk; rw [h]; rfl
theorem kV3_213 {M : MRec} (h : rP M = 3) : mLk tV M 213 = some (rX3_slotAt, 1, 3) := by unfold mLk; rw [h]; rfl
theorem kV3_216 {M : MRec} (h : rP M = 3) : mLk tV M 216 = some (rX3_distanceOf, 2, 3) := by unfold mLk; rw [h]; rfl
theorem kV3_225 {M : MRec} (h : rP M = 3) : mLk tV M 225 = some (rX3_turnsRound, 3, 3) := by unfold mLk; rw [h]; rfl
theorem kV3_228 {M : MRec} (h : rP M = 3) : mLk tV M 228 = some (rX3_isLike, 3, 3) := by unfold mLk; rw [h]; rfl
theorem kV3_231 {M : MRec} (h : rP M = 3) : mLk tV M 231 = some (rX3_forms, 1, 3) := by unfold mLk; rw [h]; rfl
theorem kV5_41 {M : MRec} (h : rP M = 5) : mLk tV M 41 = some (rX5_sign, 0, 5) := by unfold mLk; rw [h]; rfl
theorem kV5_45 {M : MRec} (h : rP M = 5) : mLk tV M 45 = some (rX5_isSlot, 0, 5) := by unfold mLk; rw [h]; rfl
theorem kV5_49 {M : MRec} (h : rP M = 5) : mLk tV M 49 = some (rX5_need, 1, 5) := by unfold mLk; rw [h]; rfl
theorem kV5_56 {M : MRec} (h : rP M = 5) : mLk tV M 56 = some (rX5_shapeRow, 1, 5) := by unfold mLk; rw [h]; rfl
theorem kV5_68 {M : MRec} (h : rP M = 5) : mLk tV M 68 = some (rX5_number, 0, 5) := by unfold mLk; rw [h]; rfl
theorem kV5_79 {M : MRec} (h : rP M = 5) : mLk tV M 79 = some (rX5_command, 0, 5) := by unfold mLk; rw [h]; rfl
theorem kV5_83 {M : MRec} (h : rP M = 5) : mLk tV M 83 = some (rJ2_add, 1, 10) := by unfold mLk; rw [h]; rfl
theorem kV7_25 {M : MRec} (h : rP M = 7) : mLk tV M 25 = some (rX7_size, 0, 7) := by unfold mLk; rw [h]; rfl
theorem kV7_33 {M : MRec} (h : rP M = 7) : mLk tV M 33 = some (rX7_turnedColumn, 2, 7) := by unfold mLk; rw [h]; rfl
theorem kV7_37 {M : MRec} (h : rP M = 7) : mLk tV M 37 = some (rX7_turnedRow, 2, 7) := by unfold mLk; rw [h]; rfl
theorem kV8_56 {M : MRec} (h : rP M = 8) : mLk tV M 56 = some (rX0_isGiveable, 3, 0) := by unfold mLk; rw [h]; rfl
theorem kV8_60 {M : MRec} (h : rP M = 8) : mLk tV M 60 = some (rX8_with, 2, 8) := by unfold mLk; rw [h]; rfl
theorem kV8_69 {M : MRec} (h : rP M = 8) : mLk tV M 69 = some (rX8_sum, 1, 8) := by unfold mLk; rw [h]; rfl
theorem kV8_76 {M : MRec} (h : rP M = 8) : mLk tV M 76 = some (rX8_gives, 1, 8) := by unfold mLk; rw [h]; rfl
theorem kV9_29 {M : MRec} (h : rP M = 9) : mLk tV M 29 = some (rX0_againstAdding, 2, 0) := by unfold mLk; rw [h]; rfl
theorem kV9_33 {M : MRec} (h : rP M = 9) : mLk tV M 33 = some (rX9_isThere, 0, 9) := by unfold mLk; rw [h]; rfl
theorem kV9_47 {M : MRec} (h : rP M = 9) : mLk tV M 47 = some (rX9_cell, 0, 9) := by unfold mLk; rw [h]; rfl
theorem kV9_51 {M : MRec} (h : rP M = 9) : mLk tV M 51 = some (rX1_leads, 0, 1) := by unfold mLk; rw [h]; rfl
theorem kV9_54 {M : MRec} (h : rP M = 9) : mLk tV M 54 = some (rX1_isMember, 1, 1) := by unfold mLk; rw [h]; rfl
theorem kV9_58 {M : MRec} (h : rP M = 9) : mLk tV M 58 = some (rX0_adds, 2, 0) := by unfold mLk; rw [h]; rfl
theorem kV9_61 {M : MRec} (h : rP M = 9) : mLk tV M 61 = some (rX0_turns, 1, 0) := by unfold mLk; rw [h]; rfl
theorem kV9_71 {M : MRec} (h : rP M = 9) : mLk tV M 71 = some (rX1_loses, 1, 1) := by unfold mLk; rw [h]; rfl
theorem kV9_75 {M : MRec} (h : rP M = 9) : mLk tV M 75 = some (rX0_makes, 1, 0) := by unfold mLk; rw [h]; rfl
theorem kV20_7 {M : MRec} (h : rP M = 20) : mLk tV M 7 = some (rJ11_size, 0, 11) := by unfold mLk; rw [h]; rfl
theorem kV22_69 {M : MRec} (h : rP M = 22) : mLk tV M 69 = some (rJ2_grow_2, 1, 10) := by unfold mLk; rw [h]; rfl
theorem kV22_123 {M : MRec} (h : rP M = 22) : mLk tV M 123 = some (rJ2_elementData, 1, 10) := by unfold mLk; rw [h]; rfl
theorem kV22_129 {M : MRec} (h : rP M = 22) : mLk tV M 129 = some (rJ2_grow, 0, 10) := by unfold mLk; rw [h]; rfl
theorem kV22_131 {M : MRec} (h : rP M = 22) : mLk tV M 131 = some (rJ2_add_2, 3, 10) := by unfold mLk; rw [h]; rfl
theorem kV22_144 {M : MRec} (h : rP M = 22) : mLk tV M 144 = some (rJ2_fastRemove, 2, 10) := by unfold mLk; rw [h]; rfl
theorem kV30_20 {M : MRec} (h : rP M = 30) : mLk tV M 20 = some (rJ11_poll, 0, 11) := by unfold mLk; rw [h]; rfl
theorem kV31_89 {M : MRec} (h : rP M = 31) : mLk tV M 89 = some (rJ11_offer, 1, 11) := by unfold mLk; rw [h]; rfl
theorem kV31_96 {M : MRec} (h : rP M = 31) : mLk tV M 96 = some (rJ11_grow, 1, 11) := by unfold mLk; rw [h]; rfl
theorem kV31_100 {M : MRec} (h : rP M = 31) : mLk tV M 100 = some (rJ11_siftUp, 2, 11) := by unfold mLk; rw [h]; rfl
theorem kV40_13 {M : MRec} (h : rP M = 40) : mLk tV M 13 = some (rX0_add, 2, 0) := by unfold mLk; rw [h]; rfl
theorem kV40_17 {M : MRec} (h : rP M = 40) : mLk tV M 17 = some (rX3_add, 2, 3) := by unfold mLk; rw [h]; rfl
theorem kV40_18 {M : MRec} (h : rP M = 40) : mLk tV M 18 = some (rX0_lose, 1, 0) := by unfold mLk; rw [h]; rfl
theorem kV40_22 {M : MRec} (h : rP M = 40) : mLk tV M 22 = some (rX3_lose, 1, 3) := by unfold mLk; rw [h]; rfl
theorem kV40_23 {M : MRec} (h : rP M = 40) : mLk tV M 23 = some (rX0_lead, 1, 0) := by unfold mLk; rw [h]; rfl
theorem kV40_26 {M : MRec} (h : rP M = 40) : mLk tV M 26 = some (rX3_lead, 1, 3) := by unfold mLk; rw [h]; rfl
theorem kV40_27 {M : MRec} (h : rP M = 40) : mLk tV M 27 = some (rX0_target, 1, 0) := by unfold mLk; rw [h]; rfl
theorem kV40_30 {M : MRec} (h : rP M = 40) : mLk tV M 30 = some (rX3_target, 1, 3) := by unfold mLk; rw [h]; rfl
theorem kV40_31 {M : MRec} (h : rP M = 40) : mLk tV M 31 = some (rX0_obstacle, 1, 0) := by unfold mLk; rw [h]; rfl
theorem kV40_34 {M : MRec} (h : rP M = 40) : mLk tV M 34 = some (rX3_obstacle, 1, 3) := by unfold mLk; rw [h]; rfl
theorem kV40_35 {M : MRec} (h : rP M = 40) : mLk tV M 35 = some (rX0_feed, 6, 0) := by unfold mLk; rw [h]; rfl
theorem kV40_39 {M : MRec} (h : rP M = 40) : mLk tV M 39 = some (rX3_feed, 6, 3) := by unfold mLk; rw [h]; rfl
theorem kV40_40 {M : MRec} (h : rP M = 40) : mLk tV M 40 = some (rX0_shape, 1, 0) := by unfold mLk; rw [h]; rfl
theorem kV40_43 {M : MRec} (h : rP M = 40) : mLk tV M 43 = some (rX3_shape, 1, 3) := by unfold mLk; rw [h]; rfl
theorem kV40_44 {M : MRec} (h : rP M = 40) : mLk tV M 44 = some (rX0_choose, 1, 0) := by unfold mLk; rw [h]; rfl
theorem kV40_47 {M : MRec} (h : rP M = 40) : mLk tV M 47 = some (rX3_choose, 1, 3) := by unfold mLk; rw [h]; rfl
theorem kV40_48 {M : MRec} (h : rP M = 40) : mLk tV M 48 = some (rX0_rounds, 1, 0) := by unfold mLk; rw [h]; rfl
theorem kV40_51 {M : MRec} (h : rP M = 40) : mLk tV M 51 = some (rX3_rounds, 1, 3) := by unfold mLk; rw [h]; rfl
theorem kV40_52 {M : MRec} (h : rP M = 40) : mLk tV M 52 = some (rX0_execute, 0, 0) := by unfold mLk; rw [h]; rfl
theorem kV40_56 {M : MRec} (h : rP M = 40) : mLk tV M 56 = some (rX3_execute, 0, 3) := by unfold mLk; rw [h]; rfl
theorem kV40_57 {M : MRec} (h : rP M = 40) : mLk tV M 57 = some (rX0_refusal, 1, 0) := by unfold mLk; rw [h]; rfl
theorem kV40_60 {M : MRec} (h : rP M = 40) : mLk tV M 60 = some (rX3_refusal_2, 1, 3) := by unfold mLk; rw [h]; rfl
theorem kV40_61 {M : MRec} (h : rP M = 40) : mLk tV M 61 = some (rX0_member, 2, 0) := by unfold mLk; rw [h]; rfl
theorem kV40_64 {M : MRec} (h : rP M = 40) : mLk tV M 64 = some (rX3_member, 2, 3) := by unfold mLk; rw [h]; rfl
theorem kV40_65 {M : MRec} (h : rP M = 40) : mLk tV M 65 = some (rX0_swarm, 1, 0) := by unfold mLk; rw [h]; rfl
theorem kV40_68 {M : MRec} (h : rP M = 40) : mLk tV M 68 = some (rX3_swarm, 1, 3) := by unfold mLk; rw [h]; rfl
theorem kV40_69 {M : MRec} (h : rP M = 40) : mLk tV M 69 = some (rX0_cell, 2, 0) := by unfold mLk; rw [h]; rfl
theorem kV40_72 {M : MRec} (h : rP M = 40) : mLk tV M 72 = some (rX3_cell, 2, 3) := by unfold mLk; rw [h]; rfl
theorem kV40_73 {M : MRec} (h : rP M = 40) : mLk tV M 73 = some (rX0_distance, 2, 0) := by unfold mLk; rw [h]; rfl
theorem kV40_76 {M : MRec} (h : rP M = 40) : mLk tV M 76 = some (rX3_distance, 2, 3) := by unfold mLk; rw [h]; rfl
theorem kV40_77 {M : MRec} (h : rP M = 40) : mLk tV M 77 = some (rX0_slot, 2, 0) := by unfold mLk; rw [h]; rfl
theorem kV40_80 {M : MRec} (h : rP M = 40) : mLk tV M 80 = some (rX3_slot, 2, 3) := by unfold mLk; rw [h]; rfl
theorem kV40_81 {M : MRec} (h : rP M = 40) : mLk tV M 81 = some (rX0_recognized, 1, 0) := by unfold mLk; rw [h]; rfl
theorem kV40_84 {M : MRec} (h : rP M = 40) : mLk tV M 84 = some (rX3_recognized, 1, 3) := by unfold mLk; rw [h]; rfl
theorem kV40_85 {M : MRec} (h : rP M = 40) : mLk tV M 85 = some (rX0_healed, 1, 0) := by unfold mLk; rw [h]; rfl
theorem kV40_88 {M : MRec} (h : rP M = 40) : mLk tV M 88 = some (rX3_healed, 1, 3) := by unfold mLk; rw [h]; rfl
theorem kV40_89 {M : MRec} (h : rP M = 40) : mLk tV M 89 = some (rX0_healedWithout, 2, 0) := by unfold mLk; rw [h]; rfl
theorem kV40_92 {M : MRec} (h : rP M = 40) : mLk tV M 92 = some (rX3_healedWithout, 2, 3) := by unfold mLk; rw [h]; rfl
theorem kV40_93 {M : MRec} (h : rP M = 40) : mLk tV M 93 = some (rX0_again, 0, 0) := by unfold mLk; rw [h]; rfl
theorem kV40_96 {M : MRec} (h : rP M = 40) : mLk tV M 96 = some (rX3_again, 0, 3) := by unfold mLk; rw [h]; rfl
theorem kV40_97 {M : MRec} (h : rP M = 40) : mLk tV M 97 = some (rX0_account, 1, 0) := by unfold mLk; rw [h]; rfl
theorem kV40_100 {M : MRec} (h : rP M = 40) : mLk tV M 100 = some (rX3_account, 1, 3) := by unfold mLk; rw [h]; rfl
theorem kV40_101 {M : MRec} (h : rP M = 40) : mLk tV M 101 = some (rX0_back, 0, 0) := by unfold mLk; rw [h]; rfl
theorem kV40_104 {M : MRec} (h : rP M = 40) : mLk tV M 104 = some (rX3_back, 0, 3) := by unfold mLk; rw [h]; rfl
theorem kV40_105 {M : MRec} (h : rP M = 40) : mLk tV M 105 = some (rX0_image, 0, 0) := by unfold mLk; rw [h]; rfl
theorem kV40_108 {M : MRec} (h : rP M = 40) : mLk tV M 108 = some (rX3_image, 0, 3) := by unfold mLk; rw [h]; rfl
theorem kV40_109 {M : MRec} (h : rP M = 40) : mLk tV M 109 = some (rX0_undo, 0, 0) := by unfold mLk; rw [h]; rfl
theorem kV40_112 {M : MRec} (h : rP M = 40) : mLk tV M 112 = some (rX3_undo, 0, 3) := by unfold mLk; rw [h]; rfl
theorem kV40_113 {M : MRec} (h : rP M = 40) : mLk tV M 113 = some (rX0_count, 1, 0) := by unfold mLk; rw [h]; rfl
theorem kV40_116 {M : MRec} (h : rP M = 40) : mLk tV M 116 = some (rX3_count, 1, 3) := by unfold mLk; rw [h]; rfl
theorem kG31_149 {M : MRec} (h : rP M = 31) : mLk tF5 M 149 = some (rX2_compare, 2, 2) := by unfold mLk; rw [h]; rfl
theorem kI0_101 {M : MRec} (h : rP M = 0) : mLk tI M 101 = some (rX8_init, 3) := by unfold mLk; rw [h]; rfl
theorem kI0_205 {M : MRec} (h : rP M = 0) : mLk tI M 205 = some (rJ11_init, 2) := by unfold mLk; rw [h]; rfl
theorem kI0_245 {M : MRec} (h : rP M = 0) : mLk tI M 245 = some (rX1_init, 0) := by unfold mLk; rw [h]; rfl
theorem kI0_253 {M : MRec} (h : rP M = 0) : mLk tI M 253 = some (rJ2_init, 0) := by unfold mLk; rw [h]; rfl
theorem kI0_256 {M : MRec} (h : rP M = 0) : mLk tI M 256 = some (rX2_init, 1) := by unfold mLk; rw [h]; rfl
theorem kI0_281 {M : MRec} (h : rP M = 0) : mLk tI M 281 = some (rX1_init_2, 1) := by unfold mLk; rw [h]; rfl
theorem kI0_289 {M : MRec} (h : rP M = 0) : mLk tI M 289 = some (rX4_init_2, 2) := by unfold mLk; rw [h]; rfl
theorem kI0_331 {M : MRec} (h : rP M = 0) : mLk tI M 331 = some (rX5_init, 1) := by unfold mLk; rw [h]; rfl
theorem kI1_41 {M : MRec} (h : rP M = 1) : mLk tI M 41 = some (rX1_init, 0) := by unfold mLk; rw [h]; rfl
theorem kI1_52 {M : MRec} (h : rP M = 1) : mLk tI M 52 = some (rX4_init, 1) := by unfold mLk; rw [h]; rfl
theorem kI4_21 {M : MRec} (h : rP M = 4) : mLk tI M 21 = some (rX4_init_2, 2) := by unfold mLk; rw [h]; rfl
theorem kI5_38 {M : MRec} (h : rP M = 5) : mLk tI M 38 = some (rX6_init, 1) := by unfold mLk; rw [h]; rfl
theorem kI5_61 {M : MRec} (h : rP M = 5) : mLk tI M 61 = some (rX7_init, 4) := by unfold mLk; rw [h]; rfl
theorem kI5_73 {M : MRec} (h : rP M = 5) : mLk tI M 73 = some (rX9_init, 4) := by unfold mLk; rw [h]; rfl
theorem kI5_78 {M : MRec} (h : rP M = 5) : mLk tI M 78 = some (rJ2_init, 0) := by unfold mLk; rw [h]; rfl
theorem kI6_1 {M : MRec} (h : rP M = 6) : mLk tI M 1 = some (rJ9_init, 4) := by unfold mLk; rw [h]; rfl
theorem kI7_22 {M : MRec} (h : rP M = 7) : mLk tI M 22 = some (rX7_init_2, 3) := by unfold mLk; rw [h]; rfl
theorem kI21_1 {M : MRec} (h : rP M = 21) : mLk tI M 1 = some (rJ0_init, 0) := by unfold mLk; rw [h]; rfl
theorem kI22_1 {M : MRec} (h : rP M = 22) : mLk tI M 1 = some (rJ1_init, 0) := by unfold mLk; rw [h]; rfl
theorem kI29_16 {M : MRec} (h : rP M = 29) : mLk tI M 16 = some (rJ8_init_2, 4) := by unfold mLk; rw [h]; rfl
theorem kI30_1 {M : MRec} (h : rP M = 30) : mLk tI M 1 = some (rJ0_init, 0) := by unfold mLk; rw [h]; rfl
theorem kI31_7 {M : MRec} (h : rP M = 31) : mLk tI M 7 = some (rJ10_init, 0) := by unfold mLk; rw [h]; rfl
theorem kI40_9 {M : MRec} (h : rP M = 40) : mLk tI M 9 = some (rX0_init, 0) := by unfold mLk; rw [h]; rfl
theorem kI40_12 {M : MRec} (h : rP M = 40) : mLk tI M 12 = some (rX3_init, 0) := by unfold mLk; rw [h]; rfl
theorem kS0_3 {M : MRec} (h : rP M = 0) : mLk tSt M 3 = some (rX0_in, 3) := by unfold mLk; rw [h]; rfl
theorem kSn0_3 {M : MRec} (h : rP M = 0) : ((mLk tCopy M 3).isSome || (mLk tMath M 3).isSome) = false := by unfold mLk; rw [h]; rfl
theorem kS0_14 {M : MRec} (h : rP M = 0) : mLk tSt M 14 = some (rX0_shifted, 3) := by unfold mLk; rw [h]; rfl
theorem kSn0_14 {M : MRec} (h : rP M = 0) : ((mLk tCopy M 14).isSome || (mLk tMath M 14).isSome) = false := by unfold mLk; rw [h]; rfl
theorem kS0_32 {M : MRec} (h : rP M = 0) : mLk tSt M 32 = some (rX0_neighbor, 2) := by unfold mLk; rw [h]; rfl
theorem kSn0_32 {M : MRec} (h : rP M = 0) : ((mLk tCopy M 32).isSome || (mLk tMath M 32).isSome) = false := by unfold mLk; rw [h]; rfl
theorem kS0_112 {M : MRec} (h : rP M = 0) : mLk tSt M 112 = some (rX0_bit, 1) := by unfold mLk; rw [h]; rfl
theorem kSn0_112 {M : MRec} (h : rP M = 0) : ((mLk tCopy M 112).isSome || (mLk tMath M 112).isSome) = false := by unfold mLk; rw [h]; rfl
theorem kS0_313 {M : MRec} (h : rP M = 0) : mLk tSt M 313 = some (rX0_isCell, 1) := by unfold mLk; rw [h]; rfl
theorem kSn0_313 {M : MRec} (h : rP M = 0) : ((mLk tCopy M 313).isSome || (mLk tMath M 313).isSome) = false := by unfold mLk; rw [h]; rfl
theorem kS0_318 {M : MRec} (h : rP M = 0) : mLk tSt M 318 = some (rX0_areSigns, 1) := by unfold mLk; rw [h]; rfl
theorem kSn0_318 {M : MRec} (h : rP M = 0) : ((mLk tCopy M 318).isSome || (mLk tMath M 318).isSome) = false := by unfold mLk; rw [h]; rfl
theorem kS0_325 {M : MRec} (h : rP M = 0) : mLk tSt M 325 = some (rX0_row, 1) := by unfold mLk; rw [h]; rfl
theorem kSn0_325 {M : MRec} (h : rP M = 0) : ((mLk tCopy M 325).isSome || (mLk tMath M 325).isSome) = false := by unfold mLk; rw [h]; rfl
theorem kS1_58 {M : MRec} (h : rP M = 1) : mLk tSt M 58 = some (rX0_in, 3) := by unfold mLk; rw [h]; rfl
theorem kSn1_58 {M : MRec} (h : rP M = 1) : ((mLk tCopy M 58).isSome || (mLk tMath M 58).isSome) = false := by unfold mLk; rw [h]; rfl
theorem kS1_62 {M : MRec} (h : rP M = 1) : mLk tSt M 62 = some (rX0_bit, 1) := by unfold mLk; rw [h]; rfl
theorem kSn1_62 {M : MRec} (h : rP M = 1) : ((mLk tCopy M 62).isSome || (mLk tMath M 62).isSome) = false := by unfold mLk; rw [h]; rfl
theorem kS3_57 {M : MRec} (h : rP M = 3) : mLk tSt M 57 = some (rX3_in, 3) := by unfold mLk; rw [h]; rfl
theorem kSn3_57 {M : MRec} (h : rP M = 3) : ((mLk tCopy M 57).isSome || (mLk tMath M 57).isSome) = false := by unfold mLk; rw [h]; rfl
theorem kS3_72 {M : MRec} (h : rP M = 3) : mLk tSt M 72 = some (rX3_beside, 2) := by unfold mLk; rw [h]; rfl
theorem kSn3_72 {M : MRec} (h : rP M = 3) : ((mLk tCopy M 72).isSome || (mLk tMath M 72).isSome) = false := by unfold mLk; rw [h]; rfl
theorem kS3_78 {M : MRec} (h : rP M = 3) : mLk tSt M 78 = some (rX3_shapeAt, 1) := by unfold mLk; rw [h]; rfl
theorem kSn3_78 {M : MRec} (h : rP M = 3) : ((mLk tCopy M 78).isSome || (mLk tMath M 78).isSome) = false := by unfold mLk; rw [h]; rfl
theorem kS3_166 {M : MRec} (h : rP M = 3) : mLk tSt M 166 = some (rX3_isCell, 1) := by unfold mLk; rw [h]; rfl
theorem kSn3_166 {M : MRec} (h : rP M = 3) : ((mLk tCopy M 166).isSome || (mLk tMath M 166).isSome) = false := by unfold mLk; rw [h]; rfl
theorem kS5_64 {M : MRec} (h : rP M = 5) : mLk tSt M 64 = some (rX0_in, 3) := by unfold mLk; rw [h]; rfl
theorem kSn5_64 {M : MRec} (h : rP M = 5) : ((mLk tCopy M 64).isSome || (mLk tMath M 64).isSome) = false := by unfold mLk; rw [h]; rfl
theorem kS7_29 {M : MRec} (h : rP M = 7) : mLk tSt M 29 = some (rX0_in, 3) := by unfold mLk; rw [h]; rfl
theorem kSn7_29 {M : MRec} (h : rP M = 7) : ((mLk tCopy M 29).isSome || (mLk tMath M 29).isSome) = false := by unfold mLk; rw [h]; rfl
theorem kS7_40 {M : MRec} (h : rP M = 7) : mLk tSt M 40 = some (rX0_shifted, 3) := by unfold mLk; rw [h]; rfl
theorem kSn7_40 {M : MRec} (h : rP M = 7) : ((mLk tCopy M 40).isSome || (mLk tMath M 40).isSome) = false := by unfold mLk; rw [h]; rfl
theorem kS8_37 {M : MRec} (h : rP M = 8) : mLk tSt M 37 = some (rJ5_fill, 2) := by unfold mLk; rw [h]; rfl
theorem kSn8_37 {M : MRec} (h : rP M = 8) : ((mLk tCopy M 37).isSome || (mLk tMath M 37).isSome) = false := by unfold mLk; rw [h]; rfl
theorem kS8_49 {M : MRec} (h : rP M = 8) : mLk tSt M 49 = some (rX0_best, 2) := by unfold mLk; rw [h]; rfl
theorem kSn8_49 {M : MRec} (h : rP M = 8) : ((mLk tCopy M 49).isSome || (mLk tMath M 49).isSome) = false := by unfold mLk; rw [h]; rfl
theorem kS9_25 {M : MRec} (h : rP M = 9) : mLk tSt M 25 = some (rX0_in, 3) := by unfold mLk; rw [h]; rfl
theorem kSn9_25 {M : MRec} (h : rP M = 9) : ((mLk tCopy M 25).isSome || (mLk tMath M 25).isSome) = false := by unfold mLk; rw [h]; rfl
theorem kS22_66 {M : MRec} (h : rP M = 22) : mLk tSt M 66 = some (rJ5_copyOf, 2) := by unfold mLk; rw [h]; rfl
theorem kSn22_66 {M : MRec} (h : rP M = 22) : ((mLk tCopy M 66).isSome || (mLk tMath M 66).isSome) = false := by unfold mLk; rw [h]; rfl
theorem kS22_73 {M : MRec} (h : rP M = 22) : mLk tSt M 73 = some (rJ3_newLength, 3) := by unfold mLk; rw [h]; rfl
theorem kSn22_73 {M : MRec} (h : rP M = 22) : ((mLk tCopy M 73).isSome || (mLk tMath M 73).isSome) = false := by unfold mLk; rw [h]; rfl
theorem kS22_118 {M : MRec} (h : rP M = 22) : mLk tSt M 118 = some (rJ6_checkIndex, 2) := by unfold mLk; rw [h]; rfl
theorem kSn22_118 {M : MRec} (h : rP M = 22) : ((mLk tCopy M 118).isSome || (mLk tMath M 118).isSome) = false := by unfold mLk; rw [h]; rfl
theorem kS23_201 {M : MRec} (h : rP M = 23) : mLk tSt M 201 = some (rJ3_hugeLength, 2) := by unfold mLk; rw [h]; rfl
theorem kSn23_201 {M : MRec} (h : rP M = 23) : ((mLk tCopy M 201).isSome || (mLk tMath M 201).isSome) = false := by unfold mLk; rw [h]; rfl
theorem kS25_300 {M : MRec} (h : rP M = 25) : mLk tSt M 300 = some (rJ5_copyOf_2, 3) := by unfold mLk; rw [h]; rfl
theorem kSn25_300 {M : MRec} (h : rP M = 25) : ((mLk tCopy M 300).isSome || (mLk tMath M 300).isSome) = false := by unfold mLk; rw [h]; rfl
theorem kS26_105 {M : MRec} (h : rP M = 26) : mLk tSt M 105 = some (rJ7_checkIndex, 3) := by unfold mLk; rw [h]; rfl
theorem kSn26_105 {M : MRec} (h : rP M = 26) : ((mLk tCopy M 105).isSome || (mLk tMath M 105).isSome) = false := by unfold mLk; rw [h]; rfl
theorem kS31_80 {M : MRec} (h : rP M = 31) : mLk tSt M 80 = some (rJ3_newLength, 3) := by unfold mLk; rw [h]; rfl
theorem kSn31_80 {M : MRec} (h : rP M = 31) : ((mLk tCopy M 80).isSome || (mLk tMath M 80).isSome) = false := by unfold mLk; rw [h]; rfl
theorem kS31_86 {M : MRec} (h : rP M = 31) : mLk tSt M 86 = some (rJ5_copyOf, 2) := by unfold mLk; rw [h]; rfl
theorem kSn31_86 {M : MRec} (h : rP M = 31) : ((mLk tCopy M 86).isSome || (mLk tMath M 86).isSome) = false := by unfold mLk; rw [h]; rfl
theorem kS31_125 {M : MRec} (h : rP M = 31) : mLk tSt M 125 = some (rJ11_siftDownComparable, 4) := by unfold mLk; rw [h]; rfl
theorem kSn31_125 {M : MRec} (h : rP M = 31) : ((mLk tCopy M 125).isSome || (mLk tMath M 125).isSome) = false := by unfold mLk; rw [h]; rfl
theorem kS31_129 {M : MRec} (h : rP M = 31) : mLk tSt M 129 = some (rJ11_siftDownUsingComparator, 5) := by unfold mLk; rw [h]; rfl
theorem kSn31_129 {M : MRec} (h : rP M = 31) : ((mLk tCopy M 129).isSome || (mLk tMath M 129).isSome) = false := by unfold mLk; rw [h]; rfl
theorem kS31_136 {M : MRec} (h : rP M = 31) : mLk tSt M 136 = some (rJ11_siftUpUsingComparator, 4) := by unfold mLk; rw [h]; rfl
theorem kSn31_136 {M : MRec} (h : rP M = 31) : ((mLk tCopy M 136).isSome || (mLk tMath M 136).isSome) = false := by unfold mLk; rw [h]; rfl
theorem kS31_140 {M : MRec} (h : rP M = 31) : mLk tSt M 140 = some (rJ11_siftUpComparable, 3) := by unfold mLk; rw [h]; rfl
theorem kSn31_140 {M : MRec} (h : rP M = 31) : ((mLk tCopy M 140).isSome || (mLk tMath M 140).isSome) = false := by unfold mLk; rw [h]; rfl
