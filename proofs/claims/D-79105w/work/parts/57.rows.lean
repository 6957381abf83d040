/-! THE TABLES' ROWS HOLD (written by gen/gen_rows.py) -/
set_option maxRecDepth 1000000
theorem fa {α : Type} {P : α → Prop} {a : α} {l : List α} (h1 : P a) (h2 : ∀ q ∈ l, P q) : ∀ q ∈ a :: l, P q := List.forall_mem_cons.mpr ⟨h1, h2⟩
theorem fnil {α : Type} {P : α → Prop} : ∀ q ∈ ([] : List α), P q := fun q h => by cases h
theorem clok_X0 : CLOK 0 RX0 TX0 21 tyX0 := ⟨rfl, in_X0, tyX0_ok, nmX0⟩
theorem clok_X1 : CLOK 1 RX1 TX1 8 tyX1 := ⟨rfl, in_X1, tyX1_ok, nmX1⟩
theorem clok_X2 : CLOK 2 RX2 TX2 1 tyX2 := ⟨rfl, in_X2, tyX2_ok, nmX2⟩
theorem clok_X3 : CLOK 3 RX3 TX3 25 tyX3 := ⟨rfl, in_X3, tyX3_ok, nmX3⟩
theorem clok_X4 : CLOK 4 RX4 TX4 7 tyX4 := ⟨rfl, in_X4, tyX4_ok, nmX4⟩
theorem clok_X5 : CLOK 5 RX5 TX5 6 tyX5 := ⟨rfl, in_X5, tyX5_ok, nmX5⟩
theorem clok_X6 : CLOK 6 RX6 TX6 7 tyX6 := ⟨rfl, in_X6, tyX6_ok, nmX6⟩
theorem clok_X7 : CLOK 7 RX7 TX7 3 tyX7 := ⟨rfl, in_X7, tyX7_ok, nmX7⟩
theorem clok_X8 : CLOK 8 RX8 TX8 4 tyX8 := ⟨rfl, in_X8, tyX8_ok, nmX8⟩
theorem clok_X9 : CLOK 9 RX9 TX9 4 tyX9 := ⟨rfl, in_X9, tyX9_ok, nmX9⟩
theorem clok_J2 : CLOK 10 RJ2 TJ2 3 tyJ2 := ⟨rfl, in_J2, tyJ2_ok, nmJ2⟩
theorem clok_J11 : CLOK 11 RJ11 TJ11 4 tyJ11 := ⟨rfl, in_J11, tyJ11_ok, nmJ11⟩
theorem fok_0 : FOK (19, (0, 1, .object "SwarmPlanner$World", false)) := ⟨RX0, TX0, 21, tyX0, "SwarmPlanner", clok_X0, by decide, tyX0_ok 1 (by decide), rfl, (fun h => (by cases h)), Or.inl q223, Or.inl rfl⟩
theorem fok_1 : FOK (23, (1, 0, .array .boolean, true)) := ⟨RX1, TX1, 8, tyX1, "SwarmPlanner$World", clok_X1, by decide, tyX1_ok 0 (by decide), rfl, (fun _ => rfl), Or.inr ⟨⟨"SwarmPlanner", nw_q q146 rfl⟩, by decide, by decide⟩, Or.inl rfl⟩
theorem fok_2 : FOK (29, (0, 0, .array .int, true)) := ⟨RX0, TX0, 21, tyX0, "SwarmPlanner", clok_X0, by decide, tyX0_ok 0 (by decide), rfl, (fun _ => rfl), Or.inl q221, Or.inl rfl⟩
theorem fok_3 : FOK (42, (0, 3, .array .int, true)) := ⟨RX0, TX0, 21, tyX0, "SwarmPlanner", clok_X0, by decide, tyX0_ok 3 (by decide), rfl, (fun _ => rfl), Or.inl q226, Or.inl rfl⟩
theorem fok_4 : FOK (45, (0, 4, .array (.array .int), true)) := ⟨RX0, TX0, 21, tyX0, "SwarmPlanner", clok_X0, by decide, tyX0_ok 4 (by decide), rfl, (fun _ => rfl), Or.inl q228, Or.inl rfl⟩
theorem fok_5 : FOK (49, (4, 1, .int, false)) := ⟨RX4, TX4, 7, tyX4, "SwarmPlanner$Member", clok_X4, by decide, tyX4_ok 1 (by decide), rfl, (fun h => (by cases h)), Or.inr ⟨⟨"SwarmPlanner", nw_q q339 rfl⟩, by decide, by decide⟩, Or.inl rfl⟩
theorem fok_6 : FOK (59, (1, 3, .array (.object "SwarmPlanner$Shape"), true)) := ⟨RX1, TX1, 8, tyX1, "SwarmPlanner$World", clok_X1, by decide, tyX1_ok 3 (by decide), rfl, (fun _ => rfl), Or.inr ⟨⟨"SwarmPlanner", nw_q q153 rfl⟩, by decide, by decide⟩, Or.inl rfl⟩
theorem fok_7 : FOK (63, (1, 7, .int, false)) := ⟨RX1, TX1, 8, tyX1, "SwarmPlanner$World", clok_X1, by decide, tyX1_ok 7 (by decide), rfl, (fun h => (by cases h)), Or.inr ⟨⟨"SwarmPlanner", nw_q q163 rfl⟩, by decide, by decide⟩, Or.inl rfl⟩
theorem fok_8 : FOK (71, (0, 6, .int, false)) := ⟨RX0, TX0, 21, tyX0, "SwarmPlanner", clok_X0, by decide, tyX0_ok 6 (by decide), rfl, (fun h => (by cases h)), Or.inl q232, Or.inl rfl⟩
theorem fok_9 : FOK (74, (0, 7, .int, false)) := ⟨RX0, TX0, 21, tyX0, "SwarmPlanner", clok_X0, by decide, tyX0_ok 7 (by decide), rfl, (fun h => (by cases h)), Or.inl q233, Or.inl rfl⟩
theorem fok_10 : FOK (77, (7, 2, .int, true)) := ⟨RX7, TX7, 3, tyX7, "SwarmPlanner$Shape", clok_X7, by decide, tyX7_ok 2 (by decide), rfl, (fun _ => rfl), Or.inr ⟨⟨"SwarmPlanner", nw_q q629 rfl⟩, by decide, by decide⟩, Or.inl rfl⟩
theorem fok_11 : FOK (80, (1, 2, .array (.object "SwarmPlanner$Member"), true)) := ⟨RX1, TX1, 8, tyX1, "SwarmPlanner$World", clok_X1, by decide, tyX1_ok 2 (by decide), rfl, (fun _ => rfl), Or.inr ⟨⟨"SwarmPlanner", nw_q q151 rfl⟩, by decide, by decide⟩, Or.inl rfl⟩
theorem fok_12 : FOK (84, (7, 0, .array .int, true)) := ⟨RX7, TX7, 3, tyX7, "SwarmPlanner$Shape", clok_X7, by decide, tyX7_ok 0 (by decide), rfl, (fun _ => rfl), Or.inr ⟨⟨"SwarmPlanner", nw_q q625 rfl⟩, by decide, by decide⟩, Or.inl rfl⟩
theorem fok_13 : FOK (87, (7, 1, .array .int, true)) := ⟨RX7, TX7, 3, tyX7, "SwarmPlanner$Shape", clok_X7, by decide, tyX7_ok 1 (by decide), rfl, (fun _ => rfl), Or.inr ⟨⟨"SwarmPlanner", nw_q q627 rfl⟩, by decide, by decide⟩, Or.inl rfl⟩
theorem fok_14 : FOK (98, (0, 5, .array .int, true)) := ⟨RX0, TX0, 21, tyX0, "SwarmPlanner", clok_X0, by decide, tyX0_ok 5 (by decide), rfl, (fun _ => rfl), Or.inl q230, Or.inl rfl⟩
theorem fok_15 : FOK (109, (4, 0, .int, true)) := ⟨RX4, TX4, 7, tyX4, "SwarmPlanner$Member", clok_X4, by decide, tyX4_ok 0 (by decide), rfl, (fun _ => rfl), Or.inr ⟨⟨"SwarmPlanner", nw_q q335 rfl⟩, by decide, by decide⟩, Or.inl rfl⟩
theorem fok_16 : FOK (132, (4, 4, .int, false)) := ⟨RX4, TX4, 7, tyX4, "SwarmPlanner$Member", clok_X4, by decide, tyX4_ok 4 (by decide), rfl, (fun h => (by cases h)), Or.inr ⟨⟨"SwarmPlanner", nw_q q345 rfl⟩, by decide, by decide⟩, Or.inl rfl⟩
theorem fok_17 : FOK (135, (4, 3, .int, false)) := ⟨RX4, TX4, 7, tyX4, "SwarmPlanner$Member", clok_X4, by decide, tyX4_ok 3 (by decide), rfl, (fun h => (by cases h)), Or.inr ⟨⟨"SwarmPlanner", nw_q q343 rfl⟩, by decide, by decide⟩, Or.inl rfl⟩
theorem fok_18 : FOK (138, (4, 5, .int, false)) := ⟨RX4, TX4, 7, tyX4, "SwarmPlanner$Member", clok_X4, by decide, tyX4_ok 5 (by decide), rfl, (fun h => (by cases h)), Or.inr ⟨⟨"SwarmPlanner", nw_q q347 rfl⟩, by decide, by decide⟩, Or.inl rfl⟩
theorem fok_19 : FOK (141, (1, 4, .array .int, true)) := ⟨RX1, TX1, 8, tyX1, "SwarmPlanner$World", clok_X1, by decide, tyX1_ok 4 (by decide), rfl, (fun _ => rfl), Or.inr ⟨⟨"SwarmPlanner", nw_q q155 rfl⟩, by decide, by decide⟩, Or.inl rfl⟩
theorem fok_20 : FOK (144, (1, 6, .int, false)) := ⟨RX1, TX1, 8, tyX1, "SwarmPlanner$World", clok_X1, by decide, tyX1_ok 6 (by decide), rfl, (fun h => (by cases h)), Or.inr ⟨⟨"SwarmPlanner", nw_q q161 rfl⟩, by decide, by decide⟩, Or.inl rfl⟩
theorem fok_21 : FOK (147, (0, 8, .array .int, true)) := ⟨RX0, TX0, 21, tyX0, "SwarmPlanner", clok_X0, by decide, tyX0_ok 8 (by decide), rfl, (fun _ => rfl), Or.inl q234, Or.inl rfl⟩
theorem fok_22 : FOK (150, (1, 1, .array .int, true)) := ⟨RX1, TX1, 8, tyX1, "SwarmPlanner$World", clok_X1, by decide, tyX1_ok 1 (by decide), rfl, (fun _ => rfl), Or.inr ⟨⟨"SwarmPlanner", nw_q q149 rfl⟩, by decide, by decide⟩, Or.inl rfl⟩
theorem fok_23 : FOK (170, (4, 2, .int, false)) := ⟨RX4, TX4, 7, tyX4, "SwarmPlanner$Member", clok_X4, by decide, tyX4_ok 2 (by decide), rfl, (fun h => (by cases h)), Or.inr ⟨⟨"SwarmPlanner", nw_q q341 rfl⟩, by decide, by decide⟩, Or.inl rfl⟩
theorem fok_24 : FOK (193, (4, 6, .int, false)) := ⟨RX4, TX4, 7, tyX4, "SwarmPlanner$Member", clok_X4, by decide, tyX4_ok 6 (by decide), rfl, (fun h => (by cases h)), Or.inr ⟨⟨"SwarmPlanner", nw_q q349 rfl⟩, by decide, by decide⟩, Or.inl rfl⟩
theorem fok_25 : FOK (201, (0, 11, .object "java/util/Comparator", true)) := ⟨RX0, TX0, 21, tyX0, "SwarmPlanner", clok_X0, by decide, tyX0_ok 11 (by decide), rfl, (fun _ => rfl), Or.inl q237, Or.inl rfl⟩
theorem fok_26 : FOK (215, (0, 10, .object "java/util/ArrayList", true)) := ⟨RX0, TX0, 21, tyX0, "SwarmPlanner", clok_X0, by decide, tyX0_ok 10 (by decide), rfl, (fun _ => rfl), Or.inl q236, Or.inl rfl⟩
theorem fok_27 : FOK (247, (0, 2, .array (.array .int), true)) := ⟨RX0, TX0, 21, tyX0, "SwarmPlanner", clok_X0, by decide, tyX0_ok 2 (by decide), rfl, (fun _ => rfl), Or.inl q225, Or.inl rfl⟩
theorem fok_28 : FOK (250, (0, 9, .array .boolean, true)) := ⟨RX0, TX0, 21, tyX0, "SwarmPlanner", clok_X0, by decide, tyX0_ok 9 (by decide), rfl, (fun _ => rfl), Or.inl q235, Or.inl rfl⟩
theorem fok_29 : FOK (259, (0, 12, .object "java/util/ArrayList", true)) := ⟨RX0, TX0, 21, tyX0, "SwarmPlanner", clok_X0, by decide, tyX0_ok 12 (by decide), rfl, (fun _ => rfl), Or.inl q238, Or.inl rfl⟩
theorem fok_30 : FOK (262, (0, 13, .array .byte, true)) := ⟨RX0, TX0, 21, tyX0, "SwarmPlanner", clok_X0, by decide, tyX0_ok 13 (by decide), rfl, (fun _ => rfl), Or.inl q240, Or.inl rfl⟩
theorem fok_31 : FOK (266, (0, 15, .array .int, true)) := ⟨RX0, TX0, 21, tyX0, "SwarmPlanner", clok_X0, by decide, tyX0_ok 15 (by decide), rfl, (fun _ => rfl), Or.inl q243, Or.inl rfl⟩
theorem fok_32 : FOK (269, (0, 16, .int, false)) := ⟨RX0, TX0, 21, tyX0, "SwarmPlanner", clok_X0, by decide, tyX0_ok 16 (by decide), rfl, (fun h => (by cases h)), Or.inl q244, Or.inl rfl⟩
theorem fok_33 : FOK (272, (0, 17, .int, false)) := ⟨RX0, TX0, 21, tyX0, "SwarmPlanner", clok_X0, by decide, tyX0_ok 17 (by decide), rfl, (fun h => (by cases h)), Or.inl q245, Or.inl rfl⟩
theorem fok_34 : FOK (275, (0, 18, .array .int, true)) := ⟨RX0, TX0, 21, tyX0, "SwarmPlanner", clok_X0, by decide, tyX0_ok 18 (by decide), rfl, (fun _ => rfl), Or.inl q246, Or.inl rfl⟩
theorem fok_35 : FOK (278, (0, 19, .array .int, true)) := ⟨RX0, TX0, 21, tyX0, "SwarmPlanner", clok_X0, by decide, tyX0_ok 19 (by decide), rfl, (fun _ => rfl), Or.inl q247, Or.inl rfl⟩
theorem fok_36 : FOK (310, (1, 5, .int, false)) := ⟨RX1, TX1, 8, tyX1, "SwarmPlanner$World", clok_X1, by decide, tyX1_ok 5 (by decide), rfl, (fun h => (by cases h)), Or.inr ⟨⟨"SwarmPlanner", nw_q q158 rfl⟩, by decide, by decide⟩, Or.inl rfl⟩
theorem fok_37 : FOK (322, (0, 14, .int, false)) := ⟨RX0, TX0, 21, tyX0, "SwarmPlanner", clok_X0, by decide, tyX0_ok 14 (by decide), rfl, (fun h => (by cases h)), Or.inl q242, Or.inl rfl⟩
theorem fok_38 : FOK (337, (6, 6, .int, true)) := ⟨RX6, TX6, 7, tyX6, "SwarmPlanner$Wrong", clok_X6, by decide, tyX6_ok 6 (by decide), rfl, (fun _ => rfl), Or.inr ⟨⟨"SwarmPlanner", nw_q q599 rfl⟩, by decide, by decide⟩, Or.inl rfl⟩
theorem fok_39 : FOK (421, (0, 20, .object "SwarmPlanner$World", false)) := ⟨RX0, TX0, 21, tyX0, "SwarmPlanner", clok_X0, by decide, tyX0_ok 20 (by decide), rfl, (fun h => (by cases h)), Or.inl q248, Or.inl rfl⟩
theorem fok_40 : FOK (65545, (1, 0, .array .boolean, true)) := ⟨RX1, TX1, 8, tyX1, "SwarmPlanner$World", clok_X1, by decide, tyX1_ok 0 (by decide), rfl, (fun _ => rfl), Or.inl q145, Or.inl rfl⟩
theorem fok_41 : FOK (65551, (1, 1, .array .int, true)) := ⟨RX1, TX1, 8, tyX1, "SwarmPlanner$World", clok_X1, by decide, tyX1_ok 1 (by decide), rfl, (fun _ => rfl), Or.inl q147, Or.inl rfl⟩
theorem fok_42 : FOK (65557, (1, 2, .array (.object "SwarmPlanner$Member"), true)) := ⟨RX1, TX1, 8, tyX1, "SwarmPlanner$World", clok_X1, by decide, tyX1_ok 2 (by decide), rfl, (fun _ => rfl), Or.inl q150, Or.inl rfl⟩
theorem fok_43 : FOK (65563, (1, 3, .array (.object "SwarmPlanner$Shape"), true)) := ⟨RX1, TX1, 8, tyX1, "SwarmPlanner$World", clok_X1, by decide, tyX1_ok 3 (by decide), rfl, (fun _ => rfl), Or.inl q152, Or.inl rfl⟩
theorem fok_44 : FOK (65567, (1, 4, .array .int, true)) := ⟨RX1, TX1, 8, tyX1, "SwarmPlanner$World", clok_X1, by decide, tyX1_ok 4 (by decide), rfl, (fun _ => rfl), Or.inl q154, Or.inl rfl⟩
theorem fok_45 : FOK (65570, (1, 5, .int, false)) := ⟨RX1, TX1, 8, tyX1, "SwarmPlanner$World", clok_X1, by decide, tyX1_ok 5 (by decide), rfl, (fun h => (by cases h)), Or.inl q156, Or.inl rfl⟩
theorem fok_46 : FOK (65574, (1, 6, .int, false)) := ⟨RX1, TX1, 8, tyX1, "SwarmPlanner$World", clok_X1, by decide, tyX1_ok 6 (by decide), rfl, (fun h => (by cases h)), Or.inl q159, Or.inl rfl⟩
theorem fok_47 : FOK (65591, (1, 7, .int, false)) := ⟨RX1, TX1, 8, tyX1, "SwarmPlanner$World", clok_X1, by decide, tyX1_ok 7 (by decide), rfl, (fun h => (by cases h)), Or.inl q162, Or.inl rfl⟩
theorem fok_48 : FOK (65606, (4, 1, .int, false)) := ⟨RX4, TX4, 7, tyX4, "SwarmPlanner$Member", clok_X4, by decide, tyX4_ok 1 (by decide), rfl, (fun h => (by cases h)), Or.inr ⟨⟨"SwarmPlanner", nw_q q338 rfl⟩, by decide, by decide⟩, Or.inl rfl⟩
theorem fok_49 : FOK (65609, (4, 0, .int, true)) := ⟨RX4, TX4, 7, tyX4, "SwarmPlanner$Member", clok_X4, by decide, tyX4_ok 0 (by decide), rfl, (fun _ => rfl), Or.inr ⟨⟨"SwarmPlanner", nw_q q334 rfl⟩, by decide, by decide⟩, Or.inl rfl⟩
theorem fok_50 : FOK (131073, (2, 0, .object "SwarmPlanner", true)) := ⟨RX2, TX2, 1, tyX2, "SwarmPlanner$ByDistance", clok_X2, by decide, tyX2_ok 0 (by decide), rfl, (fun _ => rfl), Or.inl q217, Or.inl rfl⟩
theorem fok_51 : FOK (131091, (4, 0, .int, true)) := ⟨RX4, TX4, 7, tyX4, "SwarmPlanner$Member", clok_X4, by decide, tyX4_ok 0 (by decide), rfl, (fun _ => rfl), Or.inr ⟨⟨"SwarmPlanner", nw_q q333 rfl⟩, by decide, by decide⟩, Or.inl rfl⟩
theorem fok_52 : FOK (196617, (3, 0, .array .int, true)) := ⟨RX3, TX3, 25, tyX3, "SwarmPlannerModel", clok_X3, by decide, tyX3_ok 0 (by decide), rfl, (fun _ => rfl), Or.inl q1121, Or.inl rfl⟩
theorem fok_53 : FOK (196621, (3, 3, .array .int, true)) := ⟨RX3, TX3, 25, tyX3, "SwarmPlannerModel", clok_X3, by decide, tyX3_ok 3 (by decide), rfl, (fun _ => rfl), Or.inl q1124, Or.inl rfl⟩
theorem fok_54 : FOK (196624, (3, 4, .array .int, true)) := ⟨RX3, TX3, 25, tyX3, "SwarmPlannerModel", clok_X3, by decide, tyX3_ok 4 (by decide), rfl, (fun _ => rfl), Or.inl q1125, Or.inl rfl⟩
theorem fok_55 : FOK (196627, (3, 5, .array .int, true)) := ⟨RX3, TX3, 25, tyX3, "SwarmPlannerModel", clok_X3, by decide, tyX3_ok 5 (by decide), rfl, (fun _ => rfl), Or.inl q1126, Or.inl rfl⟩
theorem fok_56 : FOK (196630, (3, 6, .array .int, true)) := ⟨RX3, TX3, 25, tyX3, "SwarmPlannerModel", clok_X3, by decide, tyX3_ok 6 (by decide), rfl, (fun _ => rfl), Or.inl q1127, Or.inl rfl⟩
theorem fok_57 : FOK (196633, (3, 7, .array .int, true)) := ⟨RX3, TX3, 25, tyX3, "SwarmPlannerModel", clok_X3, by decide, tyX3_ok 7 (by decide), rfl, (fun _ => rfl), Or.inl q1128, Or.inl rfl⟩
theorem fok_58 : FOK (196636, (3, 10, .array .int, true)) := ⟨RX3, TX3, 25, tyX3, "SwarmPlannerModel", clok_X3, by decide, tyX3_ok 10 (by decide), rfl, (fun _ => rfl), Or.inl q1131, Or.inl rfl⟩
theorem fok_59 : FOK (196639, (3, 11, .array .int, true)) := ⟨RX3, TX3, 25, tyX3, "SwarmPlannerModel", clok_X3, by decide, tyX3_ok 11 (by decide), rfl, (fun _ => rfl), Or.inl q1132, Or.inl rfl⟩
theorem fok_60 : FOK (196642, (3, 12, .array .int, true)) := ⟨RX3, TX3, 25, tyX3, "SwarmPlannerModel", clok_X3, by decide, tyX3_ok 12 (by decide), rfl, (fun _ => rfl), Or.inl q1133, Or.inl rfl⟩
theorem fok_61 : FOK (196645, (3, 13, .array .int, true)) := ⟨RX3, TX3, 25, tyX3, "SwarmPlannerModel", clok_X3, by decide, tyX3_ok 13 (by decide), rfl, (fun _ => rfl), Or.inl q1134, Or.inl rfl⟩
theorem fok_62 : FOK (196648, (3, 14, .array .int, true)) := ⟨RX3, TX3, 25, tyX3, "SwarmPlannerModel", clok_X3, by decide, tyX3_ok 14 (by decide), rfl, (fun _ => rfl), Or.inl q1135, Or.inl rfl⟩
theorem fok_63 : FOK (196651, (3, 18, .array .int, true)) := ⟨RX3, TX3, 25, tyX3, "SwarmPlannerModel", clok_X3, by decide, tyX3_ok 18 (by decide), rfl, (fun _ => rfl), Or.inl q1139, Or.inl rfl⟩
theorem fok_64 : FOK (196654, (3, 19, .array .int, true)) := ⟨RX3, TX3, 25, tyX3, "SwarmPlannerModel", clok_X3, by decide, tyX3_ok 19 (by decide), rfl, (fun _ => rfl), Or.inl q1140, Or.inl rfl⟩
theorem fok_65 : FOK (196657, (3, 1, .int, false)) := ⟨RX3, TX3, 25, tyX3, "SwarmPlannerModel", clok_X3, by decide, tyX3_ok 1 (by decide), rfl, (fun h => (by cases h)), Or.inl q1122, Or.inl rfl⟩
theorem fok_66 : FOK (196703, (3, 8, .int, false)) := ⟨RX3, TX3, 25, tyX3, "SwarmPlannerModel", clok_X3, by decide, tyX3_ok 8 (by decide), rfl, (fun h => (by cases h)), Or.inl q1129, Or.inl rfl⟩
theorem fok_67 : FOK (196706, (3, 9, .int, false)) := ⟨RX3, TX3, 25, tyX3, "SwarmPlannerModel", clok_X3, by decide, tyX3_ok 9 (by decide), rfl, (fun h => (by cases h)), Or.inl q1130, Or.inl rfl⟩
theorem fok_68 : FOK (196780, (3, 15, .int, false)) := ⟨RX3, TX3, 25, tyX3, "SwarmPlannerModel", clok_X3, by decide, tyX3_ok 15 (by decide), rfl, (fun h => (by cases h)), Or.inl q1136, Or.inl rfl⟩
theorem fok_69 : FOK (196783, (3, 16, .int, false)) := ⟨RX3, TX3, 25, tyX3, "SwarmPlannerModel", clok_X3, by decide, tyX3_ok 16 (by decide), rfl, (fun h => (by cases h)), Or.inl q1137, Or.inl rfl⟩
theorem fok_70 : FOK (196786, (3, 17, .int, false)) := ⟨RX3, TX3, 25, tyX3, "SwarmPlannerModel", clok_X3, by decide, tyX3_ok 17 (by decide), rfl, (fun h => (by cases h)), Or.inl q1138, Or.inl rfl⟩
theorem fok_71 : FOK (196795, (3, 20, .int, false)) := ⟨RX3, TX3, 25, tyX3, "SwarmPlannerModel", clok_X3, by decide, tyX3_ok 20 (by decide), rfl, (fun h => (by cases h)), Or.inl q1141, Or.inl rfl⟩
theorem fok_72 : FOK (196808, (3, 21, .int, false)) := ⟨RX3, TX3, 25, tyX3, "SwarmPlannerModel", clok_X3, by decide, tyX3_ok 21 (by decide), rfl, (fun h => (by cases h)), Or.inl q1142, Or.inl rfl⟩
theorem fok_73 : FOK (196811, (3, 22, .int, false)) := ⟨RX3, TX3, 25, tyX3, "SwarmPlannerModel", clok_X3, by decide, tyX3_ok 22 (by decide), rfl, (fun h => (by cases h)), Or.inl q1143, Or.inl rfl⟩
theorem fok_74 : FOK (196827, (3, 23, .int, false)) := ⟨RX3, TX3, 25, tyX3, "SwarmPlannerModel", clok_X3, by decide, tyX3_ok 23 (by decide), rfl, (fun h => (by cases h)), Or.inl q1144, Or.inl rfl⟩
theorem fok_75 : FOK (196830, (3, 24, .int, false)) := ⟨RX3, TX3, 25, tyX3, "SwarmPlannerModel", clok_X3, by decide, tyX3_ok 24 (by decide), rfl, (fun h => (by cases h)), Or.inl q1145, Or.inl rfl⟩
theorem fok_76 : FOK (196842, (3, 2, .boolean, false)) := ⟨RX3, TX3, 25, tyX3, "SwarmPlannerModel", clok_X3, by decide, tyX3_ok 2 (by decide), rfl, (fun h => (by cases h)), Or.inl q1123, Or.inl rfl⟩
theorem fok_77 : FOK (262153, (4, 2, .int, false)) := ⟨RX4, TX4, 7, tyX4, "SwarmPlanner$Member", clok_X4, by decide, tyX4_ok 2 (by decide), rfl, (fun h => (by cases h)), Or.inl q340, Or.inl rfl⟩
theorem fok_78 : FOK (262159, (4, 0, .int, true)) := ⟨RX4, TX4, 7, tyX4, "SwarmPlanner$Member", clok_X4, by decide, tyX4_ok 0 (by decide), rfl, (fun _ => rfl), Or.inl q331, Or.inl rfl⟩
theorem fok_79 : FOK (262162, (4, 1, .int, false)) := ⟨RX4, TX4, 7, tyX4, "SwarmPlanner$Member", clok_X4, by decide, tyX4_ok 1 (by decide), rfl, (fun h => (by cases h)), Or.inl q336, Or.inl rfl⟩
theorem fok_80 : FOK (262168, (4, 3, .int, false)) := ⟨RX4, TX4, 7, tyX4, "SwarmPlanner$Member", clok_X4, by decide, tyX4_ok 3 (by decide), rfl, (fun h => (by cases h)), Or.inl q342, Or.inl rfl⟩
theorem fok_81 : FOK (262171, (4, 4, .int, false)) := ⟨RX4, TX4, 7, tyX4, "SwarmPlanner$Member", clok_X4, by decide, tyX4_ok 4 (by decide), rfl, (fun h => (by cases h)), Or.inl q344, Or.inl rfl⟩
theorem fok_82 : FOK (262174, (4, 5, .int, false)) := ⟨RX4, TX4, 7, tyX4, "SwarmPlanner$Member", clok_X4, by decide, tyX4_ok 5 (by decide), rfl, (fun h => (by cases h)), Or.inl q346, Or.inl rfl⟩
theorem fok_83 : FOK (262177, (4, 6, .int, false)) := ⟨RX4, TX4, 7, tyX4, "SwarmPlanner$Member", clok_X4, by decide, tyX4_ok 6 (by decide), rfl, (fun h => (by cases h)), Or.inl q348, Or.inl rfl⟩
theorem fok_84 : FOK (327683, (5, 5, .object "SwarmPlanner", true)) := ⟨RX5, TX5, 6, tyX5, "SwarmPlanner$Reader", clok_X5, by decide, tyX5_ok 5 (by decide), rfl, (fun _ => rfl), Or.inl q518, Or.inl rfl⟩
theorem fok_85 : FOK (327695, (5, 0, .array .int, true)) := ⟨RX5, TX5, 6, tyX5, "SwarmPlanner$Reader", clok_X5, by decide, tyX5_ok 0 (by decide), rfl, (fun _ => rfl), Or.inl q513, Or.inl rfl⟩
theorem fok_86 : FOK (327699, (5, 1, .array .int, true)) := ⟨RX5, TX5, 6, tyX5, "SwarmPlanner$Reader", clok_X5, by decide, tyX5_ok 1 (by decide), rfl, (fun _ => rfl), Or.inl q514, Or.inl rfl⟩
theorem fok_87 : FOK (327702, (5, 3, .int, false)) := ⟨RX5, TX5, 6, tyX5, "SwarmPlanner$Reader", clok_X5, by decide, tyX5_ok 3 (by decide), rfl, (fun h => (by cases h)), Or.inl q516, Or.inl rfl⟩
theorem fok_88 : FOK (327706, (5, 4, .int, false)) := ⟨RX5, TX5, 6, tyX5, "SwarmPlanner$Reader", clok_X5, by decide, tyX5_ok 4 (by decide), rfl, (fun h => (by cases h)), Or.inl q517, Or.inl rfl⟩
theorem fok_89 : FOK (327709, (0, 14, .int, false)) := ⟨RX0, TX0, 21, tyX0, "SwarmPlanner", clok_X0, by decide, tyX0_ok 14 (by decide), rfl, (fun h => (by cases h)), Or.inr ⟨⟨"SwarmPlanner", nw_q q241 rfl⟩, by decide, by decide⟩, Or.inl rfl⟩
theorem fok_90 : FOK (327712, (0, 13, .array .byte, true)) := ⟨RX0, TX0, 21, tyX0, "SwarmPlanner", clok_X0, by decide, tyX0_ok 13 (by decide), rfl, (fun _ => rfl), Or.inr ⟨⟨"SwarmPlanner", nw_q q239 rfl⟩, by decide, by decide⟩, Or.inl rfl⟩
theorem fok_91 : FOK (327733, (5, 2, .int, false)) := ⟨RX5, TX5, 6, tyX5, "SwarmPlanner$Reader", clok_X5, by decide, tyX5_ok 2 (by decide), rfl, (fun h => (by cases h)), Or.inl q515, Or.inl rfl⟩
theorem fok_92 : FOK (393223, (6, 6, .int, true)) := ⟨RX6, TX6, 7, tyX6, "SwarmPlanner$Wrong", clok_X6, by decide, tyX6_ok 6 (by decide), rfl, (fun _ => rfl), Or.inl q598, Or.inl rfl⟩
theorem fok_93 : FOK (458761, (7, 0, .array .int, true)) := ⟨RX7, TX7, 3, tyX7, "SwarmPlanner$Shape", clok_X7, by decide, tyX7_ok 0 (by decide), rfl, (fun _ => rfl), Or.inl q624, Or.inl rfl⟩
theorem fok_94 : FOK (458767, (7, 1, .array .int, true)) := ⟨RX7, TX7, 3, tyX7, "SwarmPlanner$Shape", clok_X7, by decide, tyX7_ok 1 (by decide), rfl, (fun _ => rfl), Or.inl q626, Or.inl rfl⟩
theorem fok_95 : FOK (458770, (7, 2, .int, true)) := ⟨RX7, TX7, 3, tyX7, "SwarmPlanner$Shape", clok_X7, by decide, tyX7_ok 2 (by decide), rfl, (fun _ => rfl), Or.inl q628, Or.inl rfl⟩
theorem fok_96 : FOK (524291, (8, 3, .object "SwarmPlanner", true)) := ⟨RX8, TX8, 4, tyX8, "SwarmPlanner$Chain", clok_X8, by decide, tyX8_ok 3 (by decide), rfl, (fun _ => rfl), Or.inl q712, Or.inl rfl⟩
theorem fok_97 : FOK (524303, (8, 0, .object "SwarmPlanner$Member", true)) := ⟨RX8, TX8, 4, tyX8, "SwarmPlanner$Chain", clok_X8, by decide, tyX8_ok 0 (by decide), rfl, (fun _ => rfl), Or.inl q709, Or.inl rfl⟩
theorem fok_98 : FOK (524307, (8, 1, .object "SwarmPlanner$Chain", true)) := ⟨RX8, TX8, 4, tyX8, "SwarmPlanner$Chain", clok_X8, by decide, tyX8_ok 1 (by decide), rfl, (fun _ => rfl), Or.inl q710, Or.inl rfl⟩
theorem fok_99 : FOK (524311, (0, 2, .array (.array .int), true)) := ⟨RX0, TX0, 21, tyX0, "SwarmPlanner", clok_X0, by decide, tyX0_ok 2 (by decide), rfl, (fun _ => rfl), Or.inr ⟨⟨"SwarmPlanner", nw_q q224 rfl⟩, by decide, by decide⟩, Or.inl rfl⟩
theorem fok_100 : FOK (524315, (4, 0, .int, true)) := ⟨RX4, TX4, 7, tyX4, "SwarmPlanner$Member", clok_X4, by decide, tyX4_ok 0 (by decide), rfl, (fun _ => rfl), Or.inr ⟨⟨"SwarmPlanner", nw_q q332 rfl⟩, by decide, by decide⟩, Or.inl rfl⟩
theorem fok_101 : FOK (524321, (8, 2, .array .int, true)) := ⟨RX8, TX8, 4, tyX8, "SwarmPlanner$Chain", clok_X8, by decide, tyX8_ok 2 (by decide), rfl, (fun _ => rfl), Or.inl q711, Or.inl rfl⟩
theorem fok_102 : FOK (524331, (0, 4, .array (.array .int), true)) := ⟨RX0, TX0, 21, tyX0, "SwarmPlanner", clok_X0, by decide, tyX0_ok 4 (by decide), rfl, (fun _ => rfl), Or.inr ⟨⟨"SwarmPlanner", nw_q q227 rfl⟩, by decide, by decide⟩, Or.inl rfl⟩
theorem fok_103 : FOK (524334, (4, 1, .int, false)) := ⟨RX4, TX4, 7, tyX4, "SwarmPlanner$Member", clok_X4, by decide, tyX4_ok 1 (by decide), rfl, (fun h => (by cases h)), Or.inr ⟨⟨"SwarmPlanner", nw_q q337 rfl⟩, by decide, by decide⟩, Or.inl rfl⟩
theorem fok_104 : FOK (524341, (0, 6, .int, false)) := ⟨RX0, TX0, 21, tyX0, "SwarmPlanner", clok_X0, by decide, tyX0_ok 6 (by decide), rfl, (fun h => (by cases h)), Or.inr ⟨⟨"SwarmPlanner", nw_q q231 rfl⟩, by decide, by decide⟩, Or.inl rfl⟩
theorem fok_105 : FOK (524361, (0, 5, .array .int, true)) := ⟨RX0, TX0, 21, tyX0, "SwarmPlanner", clok_X0, by decide, tyX0_ok 5 (by decide), rfl, (fun _ => rfl), Or.inr ⟨⟨"SwarmPlanner", nw_q q229 rfl⟩, by decide, by decide⟩, Or.inl rfl⟩
theorem fok_106 : FOK (589827, (9, 3, .object "SwarmPlanner", true)) := ⟨RX9, TX9, 4, tyX9, "SwarmPlanner$Command", clok_X9, by decide, tyX9_ok 3 (by decide), rfl, (fun _ => rfl), Or.inl q934, Or.inl rfl⟩
theorem fok_107 : FOK (589839, (9, 0, .int, true)) := ⟨RX9, TX9, 4, tyX9, "SwarmPlanner$Command", clok_X9, by decide, tyX9_ok 0 (by decide), rfl, (fun _ => rfl), Or.inl q931, Or.inl rfl⟩
theorem fok_108 : FOK (589843, (9, 1, .int, true)) := ⟨RX9, TX9, 4, tyX9, "SwarmPlanner$Command", clok_X9, by decide, tyX9_ok 1 (by decide), rfl, (fun _ => rfl), Or.inl q932, Or.inl rfl⟩
theorem fok_109 : FOK (589846, (9, 2, .int, true)) := ⟨RX9, TX9, 4, tyX9, "SwarmPlanner$Command", clok_X9, by decide, tyX9_ok 2 (by decide), rfl, (fun _ => rfl), Or.inl q933, Or.inl rfl⟩
theorem fok_110 : FOK (589861, (0, 1, .object "SwarmPlanner$World", false)) := ⟨RX0, TX0, 21, tyX0, "SwarmPlanner", clok_X0, by decide, tyX0_ok 1 (by decide), rfl, (fun h => (by cases h)), Or.inr ⟨⟨"SwarmPlanner", nw_q q222 rfl⟩, by decide, by decide⟩, Or.inl rfl⟩
theorem fok_111 : FOK (589865, (1, 1, .array .int, true)) := ⟨RX1, TX1, 8, tyX1, "SwarmPlanner$World", clok_X1, by decide, tyX1_ok 1 (by decide), rfl, (fun _ => rfl), Or.inr ⟨⟨"SwarmPlanner", nw_q q148 rfl⟩, by decide, by decide⟩, Or.inl rfl⟩
theorem fok_112 : FOK (589889, (1, 6, .int, false)) := ⟨RX1, TX1, 8, tyX1, "SwarmPlanner$World", clok_X1, by decide, tyX1_ok 6 (by decide), rfl, (fun h => (by cases h)), Or.inr ⟨⟨"SwarmPlanner", nw_q q160 rfl⟩, by decide, by decide⟩, Or.inl rfl⟩
theorem fok_113 : FOK (589892, (1, 5, .int, false)) := ⟨RX1, TX1, 8, tyX1, "SwarmPlanner$World", clok_X1, by decide, tyX1_ok 5 (by decide), rfl, (fun h => (by cases h)), Or.inr ⟨⟨"SwarmPlanner", nw_q q157 rfl⟩, by decide, by decide⟩, Or.inl rfl⟩
theorem fok_114 : FOK (1376263, (10, 0, .int, false)) := ⟨RJ2, TJ2, 3, tyJ2, "java/util/AbstractList", clok_J2, by decide, tyJ2_ok 0 (by decide), rfl, (fun h => (by cases h)), Or.inl q201, Or.inl rfl⟩
theorem fok_115 : FOK (1441801, (10, 1, .array (.object "java/lang/Object"), false)) := ⟨RJ2, TJ2, 3, tyJ2, "java/util/ArrayList", clok_J2, by decide, tyJ2_ok 1 (by decide), rfl, (fun h => (by cases h)), Or.inl q199, Or.inl rfl⟩
theorem fok_116 : FOK (1441840, (10, 2, .int, false)) := ⟨RJ2, TJ2, 3, tyJ2, "java/util/ArrayList", clok_J2, by decide, tyJ2_ok 2 (by decide), rfl, (fun h => (by cases h)), Or.inl q200, Or.inl rfl⟩
theorem fok_117 : FOK (1441855, (10, 0, .int, false)) := ⟨RJ2, TJ2, 3, tyJ2, "java/util/ArrayList", clok_J2, by decide, tyJ2_ok 0 (by decide), rfl, (fun h => (by cases h)), Or.inl q202, Or.inr q203⟩
theorem fok_118 : FOK (1835015, (6, 0, .object "java/lang/Throwable", false)) := ⟨RX6, TX6, 7, tyX6, "java/lang/Throwable", clok_X6, by decide, tyX6_ok 0 (by decide), rfl, (fun h => (by cases h)), Or.inl q602, Or.inl rfl⟩
theorem fok_119 : FOK (1835025, (6, 1, .array (.object "java/lang/StackTraceElement"), false)) := ⟨RX6, TX6, 7, tyX6, "java/lang/Throwable", clok_X6, by decide, tyX6_ok 1 (by decide), rfl, (fun h => (by cases h)), Or.inl q603, Or.inl rfl⟩
theorem fok_120 : FOK (1835032, (6, 2, .object "java/util/List", false)) := ⟨RX6, TX6, 7, tyX6, "java/lang/Throwable", clok_X6, by decide, tyX6_ok 2 (by decide), rfl, (fun h => (by cases h)), Or.inl q604, Or.inl rfl⟩
theorem fok_121 : FOK (1835039, (6, 3, .object "java/lang/String", false)) := ⟨RX6, TX6, 7, tyX6, "java/lang/Throwable", clok_X6, by decide, tyX6_ok 3 (by decide), rfl, (fun h => (by cases h)), Or.inl q601, Or.inl rfl⟩
theorem fok_122 : FOK (2031633, (11, 0, .array (.object "java/lang/Object"), false)) := ⟨RJ11, TJ11, 4, tyJ11, "java/util/PriorityQueue", clok_J11, by decide, tyJ11_ok 0 (by decide), rfl, (fun h => (by cases h)), Or.inl q754, Or.inl rfl⟩
theorem fok_123 : FOK (2031637, (11, 2, .object "java/util/Comparator", true)) := ⟨RJ11, TJ11, 4, tyJ11, "java/util/PriorityQueue", clok_J11, by decide, tyJ11_ok 2 (by decide), rfl, (fun _ => rfl), Or.inl q756, Or.inl rfl⟩
theorem fok_124 : FOK (2031674, (11, 1, .int, false)) := ⟨RJ11, TJ11, 4, tyJ11, "java/util/PriorityQueue", clok_J11, by decide, tyJ11_ok 1 (by decide), rfl, (fun h => (by cases h)), Or.inl q755, Or.inl rfl⟩
theorem fok_125 : FOK (2031709, (11, 3, .int, false)) := ⟨RJ11, TJ11, 4, tyJ11, "java/util/PriorityQueue", clok_J11, by decide, tyJ11_ok 3 (by decide), rfl, (fun h => (by cases h)), Or.inl q757, Or.inl rfl⟩
theorem tF_ok : ∀ q ∈ tF, FOK q := (fa fok_0 (fa fok_1 (fa fok_2 (fa fok_3 (fa fok_4 (fa fok_5 (fa fok_6 (fa fok_7 (fa fok_8 (fa fok_9 (fa fok_10 (fa fok_11 (fa fok_12 (fa fok_13 (fa fok_14 (fa fok_15 (fa fok_16 (fa fok_17 (fa fok_18 (fa fok_19 (fa fok_20 (fa fok_21 (fa fok_22 (fa fok_23 (fa fok_24 (fa fok_25 (fa fok_26 (fa fok_27 (fa fok_28 (fa fok_29 (fa fok_30 (fa fok_31 (fa fok_32 (fa fok_33 (fa fok_34 (fa fok_35 (fa fok_36 (fa fok_37 (fa fok_38 (fa fok_39 (fa fok_40 (fa fok_41 (fa fok_42 (fa fok_43 (fa fok_44 (fa fok_45 (fa fok_46 (fa fok_47 (fa fok_48 (fa fok_49 (fa fok_50 (fa fok_51 (fa fok_52 (fa fok_53 (fa fok_54 (fa fok_55 (fa fok_56 (fa fok_57 (fa fok_58 (fa fok_59 (fa fok_60 (fa fok_61 (fa fok_62 (fa fok_63 (fa fok_64 (fa fok_65 (fa fok_66 (fa fok_67 (fa fok_68 (fa fok_69 (fa fok_70 (fa fok_71 (fa fok_72 (fa fok_73 (fa fok_74 (fa fok_75 (fa fok_76 (fa fok_77 (fa fok_78 (fa fok_79 (fa fok_80 (fa fok_81 (fa fok_82 (fa fok_83 (fa fok_84 (fa fok_85 (fa fok_86 (fa fok_87 (fa fok_88 (fa fok_89 (fa fok_90 (fa fok_91 (fa fok_92 (fa fok_93 (fa fok_94 (fa fok_95 (fa fok_96 (fa fok_97 (fa fok_98 (fa fok_99 (fa fok_100 (fa fok_101 (fa fok_102 (fa fok_103 (fa fok_104 (fa fok_105 (fa fok_106 (fa fok_107 (fa fok_108 (fa fok_109 (fa fok_110 (fa fok_111 (fa fok_112 (fa fok_113 (fa fok_114 (fa fok_115 (fa fok_116 (fa fok_117 (fa fok_118 (fa fok_119 (fa fok_120 (fa fok_121 (fa fok_122 (fa fok_123 (fa fok_124 (fa fok_125 fnil))))))))))))))))))))))))))))))))))))))))))))))))))))))))))))))))))))))))))))))))))))))))))))))))))))))))))))))))))))))))))))))
theorem sok_0 : SOK (7, 0) := ⟨"SwarmPlanner", "EAST", "[I", List.mem_of_getElem? (i := 0) rfl, q673⟩
theorem sok_1 : SOK (11, 1) := ⟨"SwarmPlanner", "SOUTH", "[I", List.mem_of_getElem? (i := 1) rfl, q675⟩
theorem sok_2 : SOK (1441831, 2) := ⟨"java/util/ArrayList", "DEFAULTCAPACITY_EMPTY_ELEMENTDATA", "[Ljava/lang/Object;", List.mem_of_getElem? (i := 2) rfl, q197⟩
theorem sok_3 : SOK (1835021, 3) := ⟨"java/lang/Throwable", "UNASSIGNED_STACK", "[Ljava/lang/StackTraceElement;", List.mem_of_getElem? (i := 3) rfl, q576⟩
theorem sok_4 : SOK (1835028, 4) := ⟨"java/lang/Throwable", "SUPPRESSED_SENTINEL", "Ljava/util/List;", List.mem_of_getElem? (i := 4) rfl, q578⟩
theorem tS_ok : ∀ q ∈ tS, SOK q := (fa sok_0 (fa sok_1 (fa sok_2 (fa sok_3 (fa sok_4 fnil)))))
theorem kok_0 : KOK (18, 16777216) := q669
theorem kok_1 : KOK (1507528, 2147483639) := q387
theorem tK_ok : ∀ q ∈ tK, KOK q := (fa kok_0 (fa kok_1 fnil))
theorem nok_0 : NOK (24, (1, [.inr none, .inr none, .inr none, .inr none, .inr none, .inl 0, .inl 0, .inl 0])) := ⟨RX1, TX1, 8, tyX1, clok_X1, q135, q136, q105, rfl, fun j hj => by
  match j, hj with
  | 0, _ => rfl
  | 1, _ => rfl
  | 2, _ => rfl
  | 3, _ => rfl
  | 4, _ => rfl
  | 5, _ => rfl
  | 6, _ => rfl
  | 7, _ => rfl
  | j + 8, hj => omega⟩
theorem nok_1 : NOK (37, (8, [.inr none, .inr none, .inr none, .inr none])) := ⟨RX8, TX8, 4, tyX8, clok_X8, q700, q701, q123, rfl, fun j hj => by
  match j, hj with
  | 0, _ => rfl
  | 1, _ => rfl
  | 2, _ => rfl
  | 3, _ => rfl
  | j + 4, hj => omega⟩
theorem nok_2 : NOK (50, (4, [.inl 0, .inl 0, .inl 0, .inl 0, .inl 0, .inl 0, .inl 0])) := ⟨RX4, TX4, 7, tyX4, clok_X4, q445, q323, q112, rfl, fun j hj => by
  match j, hj with
  | 0, _ => rfl
  | 1, _ => rfl
  | 2, _ => rfl
  | 3, _ => rfl
  | 4, _ => rfl
  | 5, _ => rfl
  | 6, _ => rfl
  | j + 7, hj => omega⟩
theorem nok_3 : NOK (199, (11, [.inr none, .inl 0, .inr none, .inl 0])) := ⟨RJ11, TJ11, 4, tyJ11, clok_J11, q744, q745, q125, rfl, fun j hj => by
  match j, hj with
  | 0, _ => rfl
  | 1, _ => rfl
  | 2, _ => rfl
  | 3, _ => rfl
  | j + 4, hj => omega⟩
theorem nok_4 : NOK (220, (10, [.inl 0, .inr none, .inl 0])) := ⟨RJ2, TJ2, 3, tyJ2, clok_J2, q185, q186, q108, rfl, fun j hj => by
  match j, hj with
  | 0, _ => rfl
  | 1, _ => rfl
  | 2, _ => rfl
  | j + 3, hj => omega⟩
theorem nok_5 : NOK (254, (2, [.inr none])) := ⟨RX2, TX2, 1, tyX2, clok_X2, q211, q212, q109, rfl, fun j hj => by
  match j, hj with
  | 0, _ => rfl
  | j + 1, hj => omega⟩
theorem nok_6 : NOK (329, (5, [.inr none, .inr none, .inl 0, .inl 0, .inl 0, .inr none])) := ⟨RX5, TX5, 6, tyX5, clok_X5, q507, q508, q118, rfl, fun j hj => by
  match j, hj with
  | 0, _ => rfl
  | 1, _ => rfl
  | 2, _ => rfl
  | 3, _ => rfl
  | 4, _ => rfl
  | 5, _ => rfl
  | j + 6, hj => omega⟩
theorem nok_7 : NOK (65555, (4, [.inl 0, .inl 0, .inl 0, .inl 0, .inl 0, .inl 0, .inl 0])) := ⟨RX4, TX4, 7, tyX4, clok_X4, q141, q323, q112, rfl, fun j hj => by
  match j, hj with
  | 0, _ => rfl
  | 1, _ => rfl
  | 2, _ => rfl
  | 3, _ => rfl
  | 4, _ => rfl
  | 5, _ => rfl
  | 6, _ => rfl
  | j + 7, hj => omega⟩
theorem nok_8 : NOK (327716, (6, [.inr none, .inr none, .inr none, .inr none, .inr none, .inl 0, .inl 0])) := ⟨RX6, TX6, 7, tyX6, clok_X6, q552, q553, q121, rfl, fun j hj => by
  match j, hj with
  | 0, _ => rfl
  | 1, _ => rfl
  | 2, _ => rfl
  | 3, _ => rfl
  | 4, _ => rfl
  | 5, _ => rfl
  | 6, _ => rfl
  | j + 7, hj => omega⟩
theorem nok_9 : NOK (327739, (7, [.inr none, .inr none, .inl 0])) := ⟨RX7, TX7, 3, tyX7, clok_X7, q615, q616, q122, rfl, fun j hj => by
  match j, hj with
  | 0, _ => rfl
  | 1, _ => rfl
  | 2, _ => rfl
  | j + 3, hj => omega⟩
theorem nok_10 : NOK (327751, (9, [.inl 0, .inl 0, .inl 0, .inr none])) := ⟨RX9, TX9, 4, tyX9, clok_X9, q925, q926, q126, rfl, fun j hj => by
  match j, hj with
  | 0, _ => rfl
  | 1, _ => rfl
  | 2, _ => rfl
  | 3, _ => rfl
  | j + 4, hj => omega⟩
theorem nok_11 : NOK (327756, (10, [.inl 0, .inr none, .inl 0])) := ⟨RJ2, TJ2, 3, tyJ2, clok_J2, q914, q186, q108, rfl, fun j hj => by
  match j, hj with
  | 0, _ => rfl
  | 1, _ => rfl
  | 2, _ => rfl
  | j + 3, hj => omega⟩
theorem nok_12 : NOK (2621447, (0, [.inr none, .inr none, .inr none, .inr none, .inr none, .inr none, .inl 0, .inl 0, .inr none, .inr none, .inr none, .inr none, .inr none, .inr none, .inl 0, .inr none, .inl 0, .inl 0, .inr none, .inr none, .inr none])) := ⟨RX0, TX0, 21, tyX0, clok_X0, q127, q128, q104, rfl, fun j hj => by
  match j, hj with
  | 0, _ => rfl
  | 1, _ => rfl
  | 2, _ => rfl
  | 3, _ => rfl
  | 4, _ => rfl
  | 5, _ => rfl
  | 6, _ => rfl
  | 7, _ => rfl
  | 8, _ => rfl
  | 9, _ => rfl
  | 10, _ => rfl
  | 11, _ => rfl
  | 12, _ => rfl
  | 13, _ => rfl
  | 14, _ => rfl
  | 15, _ => rfl
  | 16, _ => rfl
  | 17, _ => rfl
  | 18, _ => rfl
  | 19, _ => rfl
  | 20, _ => rfl
  | j + 21, hj => omega⟩
theorem nok_13 : NOK (2621450, (3, [.inr none, .inl 0, .inl 0, .inr none, .inr none, .inr none, .inr none, .inr none, .inl 0, .inl 0, .inr none, .inr none, .inr none, .inr none, .inr none, .inl 0, .inl 0, .inl 0, .inr none, .inr none, .inl 0, .inl 0, .inl 0, .inl 0, .inl 0])) := ⟨RX3, TX3, 25, tyX3, clok_X3, q1115, q1116, q110, rfl, fun j hj => by
  match j, hj with
  | 0, _ => rfl
  | 1, _ => rfl
  | 2, _ => rfl
  | 3, _ => rfl
  | 4, _ => rfl
  | 5, _ => rfl
  | 6, _ => rfl
  | 7, _ => rfl
  | 8, _ => rfl
  | 9, _ => rfl
  | 10, _ => rfl
  | 11, _ => rfl
  | 12, _ => rfl
  | 13, _ => rfl
  | 14, _ => rfl
  | 15, _ => rfl
  | 16, _ => rfl
  | 17, _ => rfl
  | 18, _ => rfl
  | 19, _ => rfl
  | 20, _ => rfl
  | 21, _ => rfl
  | 22, _ => rfl
  | 23, _ => rfl
  | 24, _ => rfl
  | j + 25, hj => omega⟩
theorem tN_ok : ∀ q ∈ tN, NOK q := (fa nok_0 (fa nok_1 (fa nok_2 (fa nok_3 (fa nok_4 (fa nok_5 (fa nok_6 (fa nok_7 (fa nok_8 (fa nok_9 (fa nok_10 (fa nok_11 (fa nok_12 (fa nok_13 fnil))))))))))))))
theorem aok_0 : AOK (65555, 1) := ⟨q141, by decide⟩
theorem aok_1 : AOK (65561, 2) := ⟨q143, by decide⟩
theorem aok_2 : AOK (1441799, 0) := ⟨q421, by decide⟩
theorem aok_3 : AOK (1638402, 0) := ⟨q415, by decide⟩
theorem aok_4 : AOK (2031631, 0) := ⟨q753, by decide⟩
theorem tA_ok : ∀ q ∈ tA, AOK q := (fa aok_0 (fa aok_1 (fa aok_2 (fa aok_3 (fa aok_4 fnil)))))
theorem xok_0 : XOK (24, 1) := ⟨RX1, TX1, 8, rfl, q135⟩
theorem xok_1 : XOK (50, 4) := ⟨RX4, TX4, 7, rfl, q445⟩
theorem xok_2 : XOK (352, 9) := ⟨RX9, TX9, 4, rfl, q949⟩
theorem xok_3 : XOK (131092, 4) := ⟨RX4, TX4, 7, rfl, q806⟩
theorem tX_ok : ∀ q ∈ tX, XOK q := (fa xok_0 (fa xok_1 (fa xok_2 (fa xok_3 fnil))))
theorem cpok_0 : CPOK (411, ()) := q1086
theorem cpok_1 : CPOK (65582, ()) := q320
theorem cpok_2 : CPOK (1441904, ()) := q440
theorem cpok_3 : CPOK (1638550, ()) := q419
theorem tCopy_ok : ∀ q ∈ tCopy, CPOK q := (fa cpok_0 (fa cpok_1 (fa cpok_2 (fa cpok_3 fnil))))
theorem muok_0 : MUOK (246, ()) := q183
theorem tMulti_ok : ∀ q ∈ tMulti, MUOK q := (fa muok_0 fnil)
theorem obok_0 : OBOK (241, ()) := q132
theorem obok_1 : OBOK (65539, ()) := q140
theorem obok_2 : OBOK (131079, ()) := q216
theorem obok_3 : OBOK (196611, ()) := q1120
theorem obok_4 : OBOK (262147, ()) := q330
theorem obok_5 : OBOK (327689, ()) := q512
theorem obok_6 : OBOK (458755, ()) := q623
theorem obok_7 : OBOK (524297, ()) := q705
theorem obok_8 : OBOK (589833, ()) := q930
theorem obok_9 : OBOK (1310721, ()) := q196
theorem obok_10 : OBOK (1835009, ()) := q575
theorem tObj_ok : ∀ q ∈ tObj, OBOK q := (fa obok_0 (fa obok_1 (fa obok_2 (fa obok_3 (fa obok_4 (fa obok_5 (fa obok_6 (fa obok_7 (fa obok_8 (fa obok_9 (fa obok_10 fnil)))))))))))
theorem maok_0 : MAOK (403, true) := q1085
theorem maok_1 : MAOK (524352, true) := q742
theorem maok_2 : MAOK (1441871, false) := q420
theorem maok_3 : MAOK (1507522, false) := q384
theorem maok_4 : MAOK (1638704, true) := q416
theorem tMath_ok : ∀ q ∈ tMath, MAOK q := (fa maok_0 (fa maok_1 (fa maok_2 (fa maok_3 (fa maok_4 fnil)))))
theorem tok : TOK := ⟨tF_ok, tS_ok, tK_ok, tN_ok, tA_ok, tX_ok, tCopy_ok, tMulti_ok, tObj_ok, tMath_ok⟩
theorem mokH {hh : List (Nat × Nat × Nat × Nat)} (h : ∀ q ∈ hh, q.2.2.2 = 0 ∨ q.2.2.2 = 335) : ∀ q ∈ hh, q.2.2.2 ≠ 0 → Cond.classLink "SwarmPlanner" q.2.2.2 RX6 ∈ lw_all := fun q hq h0 => by
  rcases h q hq with h1 | h1
  · exact absurd h1 h0
  · rw [h1]
    exact q506
theorem mok_J0_init : MOK rJ0_init := ⟨by decide +kernel, rfl, by decide, fun q hq => by cases hq⟩
theorem mok_J0_isEmpty : MOK rJ0_isEmpty := ⟨by decide +kernel, rfl, by decide, fun q hq => by cases hq⟩
theorem mok_J10_init : MOK rJ10_init := ⟨by decide +kernel, rfl, by decide, fun q hq => by cases hq⟩
theorem mok_J10_remove : MOK rJ10_remove := ⟨by decide +kernel, rfl, by decide, fun q hq => by cases hq⟩
theorem mok_J11_add : MOK rJ11_add := ⟨by decide +kernel, rfl, by decide, fun q hq => by cases hq⟩
theorem mok_J11_grow : MOK rJ11_grow := ⟨by decide +kernel, rfl, by decide, fun q hq => by cases hq⟩
theorem mok_J11_init : MOK rJ11_init := ⟨by decide +kernel, rfl, by decide, fun q hq => by cases hq⟩
theorem mok_J11_offer : MOK rJ11_offer := ⟨by decide +kernel, rfl, by decide, fun q hq => by cases hq⟩
theorem mok_J11_poll : MOK rJ11_poll := ⟨by decide +kernel, rfl, by decide, fun q hq => by cases hq⟩
theorem mok_J11_siftDownComparable : MOK rJ11_siftDownComparable := ⟨by decide +kernel, rfl, by decide, fun q hq => by cases hq⟩
theorem mok_J11_siftDownUsingComparator : MOK rJ11_siftDownUsingComparator := ⟨by decide +kernel, rfl, by decide, fun q hq => by cases hq⟩
theorem mok_J11_siftUp : MOK rJ11_siftUp := ⟨by decide +kernel, rfl, by decide, fun q hq => by cases hq⟩
theorem mok_J11_siftUpComparable : MOK rJ11_siftUpComparable := ⟨by decide +kernel, rfl, by decide, fun q hq => by cases hq⟩
theorem mok_J11_siftUpUsingComparator : MOK rJ11_siftUpUsingComparator := ⟨by decide +kernel, rfl, by decide, fun q hq => by cases hq⟩
theorem mok_J11_size : MOK rJ11_size := ⟨by decide +kernel, rfl, by decide, fun q hq => by cases hq⟩
theorem mok_J1_init : MOK rJ1_init := ⟨by decide +kernel, rfl, by decide, fun q hq => by cases hq⟩
theorem mok_J2_add : MOK rJ2_add := ⟨by decide +kernel, rfl, by decide, fun q hq => by cases hq⟩
theorem mok_J2_add_2 : MOK rJ2_add_2 := ⟨by decide +kernel, rfl, by decide, fun q hq => by cases hq⟩
theorem mok_J2_clear : MOK rJ2_clear := ⟨by decide +kernel, rfl, by decide, fun q hq => by cases hq⟩
theorem mok_J2_elementData : MOK rJ2_elementData := ⟨by decide +kernel, rfl, by decide, fun q hq => by cases hq⟩
theorem mok_J2_fastRemove : MOK rJ2_fastRemove := ⟨by decide +kernel, rfl, by decide, fun q hq => by cases hq⟩
theorem mok_J2_get : MOK rJ2_get := ⟨by decide +kernel, rfl, by decide, fun q hq => by cases hq⟩
theorem mok_J2_grow : MOK rJ2_grow := ⟨by decide +kernel, rfl, by decide, fun q hq => by cases hq⟩
theorem mok_J2_grow_2 : MOK rJ2_grow_2 := ⟨by decide +kernel, rfl, by decide, fun q hq => by cases hq⟩
theorem mok_J2_init : MOK rJ2_init := ⟨by decide +kernel, rfl, by decide, fun q hq => by cases hq⟩
theorem mok_J2_isEmpty : MOK rJ2_isEmpty := ⟨by decide +kernel, rfl, by decide, fun q hq => by cases hq⟩
theorem mok_J2_remove : MOK rJ2_remove := ⟨by decide +kernel, rfl, by decide, fun q hq => by cases hq⟩
theorem mok_J2_size : MOK rJ2_size := ⟨by decide +kernel, rfl, by decide, fun q hq => by cases hq⟩
theorem mok_J3_hugeLength : MOK rJ3_hugeLength := ⟨by decide +kernel, rfl, by decide, fun q hq => by cases hq⟩
theorem mok_J3_newLength : MOK rJ3_newLength := ⟨by decide +kernel, rfl, by decide, fun q hq => by cases hq⟩
theorem mok_J5_copyOf : MOK rJ5_copyOf := ⟨by decide +kernel, rfl, by decide, fun q hq => by cases hq⟩
theorem mok_J5_copyOf_2 : MOK rJ5_copyOf_2 := ⟨by decide +kernel, rfl, by decide, fun q hq => by cases hq⟩
theorem mok_J5_fill : MOK rJ5_fill := ⟨by decide +kernel, rfl, by decide, fun q hq => by cases hq⟩
theorem mok_J6_checkIndex : MOK rJ6_checkIndex := ⟨by decide +kernel, rfl, by decide, fun q hq => by cases hq⟩
theorem mok_J7_checkIndex : MOK rJ7_checkIndex := ⟨by decide +kernel, rfl, by decide, fun q hq => by cases hq⟩
theorem mok_J8_init_2 : MOK rJ8_init_2 := ⟨by decide +kernel, rfl, by decide, fun q hq => by cases hq⟩
theorem mok_J9_init : MOK rJ9_init := ⟨by decide +kernel, rfl, by decide, fun q hq => by cases hq⟩
theorem mok_X0_account : MOK rX0_account := ⟨by decide +kernel, rfl, by decide, fun q hq => by cases hq⟩
theorem mok_X0_acts : MOK rX0_acts := ⟨by decide +kernel, rfl, by decide, fun q hq => by cases hq⟩
theorem mok_X0_add : MOK rX0_add := ⟨by decide +kernel, rfl, by decide, fun q hq => by cases hq⟩
theorem mok_X0_added : MOK rX0_added := ⟨by decide +kernel, rfl, by decide, fun q hq => by cases hq⟩
theorem mok_X0_adds : MOK rX0_adds := ⟨by decide +kernel, rfl, by decide, fun q hq => by cases hq⟩
theorem mok_X0_again : MOK rX0_again := ⟨by decide +kernel, rfl, by decide, fun q hq => by cases hq⟩
theorem mok_X0_againstAdding : MOK rX0_againstAdding := ⟨by decide +kernel, rfl, by decide, fun q hq => by cases hq⟩
theorem mok_X0_areSigns : MOK rX0_areSigns := ⟨by decide +kernel, rfl, by decide, fun q hq => by cases hq⟩
theorem mok_X0_asideOf : MOK rX0_asideOf := ⟨by decide +kernel, rfl, by decide, fun q hq => by cases hq⟩
theorem mok_X0_back : MOK rX0_back := ⟨by decide +kernel, rfl, by decide, fun q hq => by cases hq⟩
theorem mok_X0_begins : MOK rX0_begins := ⟨by decide +kernel, rfl, by decide, fun q hq => by cases hq⟩
theorem mok_X0_best : MOK rX0_best := ⟨by decide +kernel, rfl, by decide, fun q hq => by cases hq⟩
theorem mok_X0_bit : MOK rX0_bit := ⟨by decide +kernel, rfl, by decide, fun q hq => by cases hq⟩
theorem mok_X0_carriesOut : MOK rX0_carriesOut := ⟨by decide +kernel, rfl, by decide, fun q hq => by cases hq⟩
theorem mok_X0_cell : MOK rX0_cell := ⟨by decide +kernel, rfl, by decide, fun q hq => by cases hq⟩
theorem mok_X0_changes : MOK rX0_changes := ⟨by decide +kernel, rfl, by decide, fun q hq => by cases hq⟩
theorem mok_X0_choose : MOK rX0_choose := ⟨by decide +kernel, rfl, by decide, fun q hq => by cases hq⟩
theorem mok_X0_count : MOK rX0_count := ⟨by decide +kernel, rfl, by decide, fun q hq => by cases hq⟩
theorem mok_X0_distance : MOK rX0_distance := ⟨by decide +kernel, rfl, by decide, fun q hq => by cases hq⟩
theorem mok_X0_distanceOf : MOK rX0_distanceOf := ⟨by decide +kernel, rfl, by decide, fun q hq => by cases hq⟩
theorem mok_X0_distances : MOK rX0_distances := ⟨by decide +kernel, rfl, by decide, fun q hq => by cases hq⟩
theorem mok_X0_elsewhere : MOK rX0_elsewhere := ⟨by decide +kernel, rfl, by decide, fun q hq => by cases hq⟩
theorem mok_X0_execute : MOK rX0_execute := ⟨by decide +kernel, rfl, by decide, mokH (by decide)⟩
theorem mok_X0_feed : MOK rX0_feed := ⟨by decide +kernel, rfl, by decide, fun q hq => by cases hq⟩
theorem mok_X0_formsWithin : MOK rX0_formsWithin := ⟨by decide +kernel, rfl, by decide, fun q hq => by cases hq⟩
theorem mok_X0_freeFor : MOK rX0_freeFor := ⟨by decide +kernel, rfl, by decide, fun q hq => by cases hq⟩
theorem mok_X0_gains : MOK rX0_gains := ⟨by decide +kernel, rfl, by decide, fun q hq => by cases hq⟩
theorem mok_X0_given : MOK rX0_given := ⟨by decide +kernel, rfl, by decide, fun q hq => by cases hq⟩
theorem mok_X0_gives : MOK rX0_gives := ⟨by decide +kernel, rfl, by decide, fun q hq => by cases hq⟩
theorem mok_X0_givesTo : MOK rX0_givesTo := ⟨by decide +kernel, rfl, by decide, fun q hq => by cases hq⟩
theorem mok_X0_goesOn : MOK rX0_goesOn := ⟨by decide +kernel, rfl, by decide, fun q hq => by cases hq⟩
theorem mok_X0_healed : MOK rX0_healed := ⟨by decide +kernel, rfl, by decide, fun q hq => by cases hq⟩
theorem mok_X0_healedWithout : MOK rX0_healedWithout := ⟨by decide +kernel, rfl, by decide, fun q hq => by cases hq⟩
theorem mok_X0_image : MOK rX0_image := ⟨by decide +kernel, rfl, by decide, fun q hq => by cases hq⟩
theorem mok_X0_in : MOK rX0_in := ⟨by decide +kernel, rfl, by decide, fun q hq => by cases hq⟩
theorem mok_X0_init : MOK rX0_init := ⟨by decide +kernel, rfl, by decide, fun q hq => by cases hq⟩
theorem mok_X0_isCell : MOK rX0_isCell := ⟨by decide +kernel, rfl, by decide, fun q hq => by cases hq⟩
theorem mok_X0_isExchanged : MOK rX0_isExchanged := ⟨by decide +kernel, rfl, by decide, fun q hq => by cases hq⟩
theorem mok_X0_isFormed : MOK rX0_isFormed := ⟨by decide +kernel, rfl, by decide, fun q hq => by cases hq⟩
theorem mok_X0_isGiveable : MOK rX0_isGiveable := ⟨by decide +kernel, rfl, by decide, fun q hq => by cases hq⟩
theorem mok_X0_isGood : MOK rX0_isGood := ⟨by decide +kernel, rfl, by decide, fun q hq => by cases hq⟩
theorem mok_X0_isSeen : MOK rX0_isSeen := ⟨by decide +kernel, rfl, by decide, fun q hq => by cases hq⟩
theorem mok_X0_isShape : MOK rX0_isShape := ⟨by decide +kernel, rfl, by decide, fun q hq => by cases hq⟩
theorem mok_X0_lays : MOK rX0_lays := ⟨by decide +kernel, rfl, by decide, fun q hq => by cases hq⟩
theorem mok_X0_laysPlaces : MOK rX0_laysPlaces := ⟨by decide +kernel, rfl, by decide, fun q hq => by cases hq⟩
theorem mok_X0_lead : MOK rX0_lead := ⟨by decide +kernel, rfl, by decide, fun q hq => by cases hq⟩
theorem mok_X0_leaderActs : MOK rX0_leaderActs := ⟨by decide +kernel, rfl, by decide, fun q hq => by cases hq⟩
theorem mok_X0_lose : MOK rX0_lose := ⟨by decide +kernel, rfl, by decide, fun q hq => by cases hq⟩
theorem mok_X0_makes : MOK rX0_makes := ⟨by decide +kernel, rfl, by decide, fun q hq => by cases hq⟩
theorem mok_X0_member : MOK rX0_member := ⟨by decide +kernel, rfl, by decide, fun q hq => by cases hq⟩
theorem mok_X0_neighbor : MOK rX0_neighbor := ⟨by decide +kernel, rfl, by decide, fun q hq => by cases hq⟩
theorem mok_X0_notesCells : MOK rX0_notesCells := ⟨by decide +kernel, rfl, by decide, fun q hq => by cases hq⟩
theorem mok_X0_obstacle : MOK rX0_obstacle := ⟨by decide +kernel, rfl, by decide, fun q hq => by cases hq⟩
theorem mok_X0_openAround : MOK rX0_openAround := ⟨by decide +kernel, rfl, by decide, fun q hq => by cases hq⟩
theorem mok_X0_partnerOf : MOK rX0_partnerOf := ⟨by decide +kernel, rfl, by decide, fun q hq => by cases hq⟩
theorem mok_X0_placeOf : MOK rX0_placeOf := ⟨by decide +kernel, rfl, by decide, fun q hq => by cases hq⟩
theorem mok_X0_recognized : MOK rX0_recognized := ⟨by decide +kernel, rfl, by decide, fun q hq => by cases hq⟩
theorem mok_X0_refusal : MOK rX0_refusal := ⟨by decide +kernel, rfl, by decide, fun q hq => by cases hq⟩
theorem mok_X0_round : MOK rX0_round := ⟨by decide +kernel, rfl, by decide, fun q hq => by cases hq⟩
theorem mok_X0_rounds : MOK rX0_rounds := ⟨by decide +kernel, rfl, by decide, fun q hq => by cases hq⟩
theorem mok_X0_row : MOK rX0_row := ⟨by decide +kernel, rfl, by decide, fun q hq => by cases hq⟩
theorem mok_X0_shape : MOK rX0_shape := ⟨by decide +kernel, rfl, by decide, mokH (by decide)⟩
theorem mok_X0_shapes : MOK rX0_shapes := ⟨by decide +kernel, rfl, by decide, fun q hq => by cases hq⟩
theorem mok_X0_shifted : MOK rX0_shifted := ⟨by decide +kernel, rfl, by decide, fun q hq => by cases hq⟩
theorem mok_X0_slot : MOK rX0_slot := ⟨by decide +kernel, rfl, by decide, fun q hq => by cases hq⟩
theorem mok_X0_slotAt : MOK rX0_slotAt := ⟨by decide +kernel, rfl, by decide, fun q hq => by cases hq⟩
theorem mok_X0_steps : MOK rX0_steps := ⟨by decide +kernel, rfl, by decide, fun q hq => by cases hq⟩
theorem mok_X0_swarm : MOK rX0_swarm := ⟨by decide +kernel, rfl, by decide, fun q hq => by cases hq⟩
theorem mok_X0_target : MOK rX0_target := ⟨by decide +kernel, rfl, by decide, fun q hq => by cases hq⟩
theorem mok_X0_thinks : MOK rX0_thinks := ⟨by decide +kernel, rfl, by decide, mokH (by decide)⟩
theorem mok_X0_turns : MOK rX0_turns := ⟨by decide +kernel, rfl, by decide, fun q hq => by cases hq⟩
theorem mok_X0_undo : MOK rX0_undo := ⟨by decide +kernel, rfl, by decide, fun q hq => by cases hq⟩
theorem mok_X0_waits : MOK rX0_waits := ⟨by decide +kernel, rfl, by decide, fun q hq => by cases hq⟩
theorem mok_X0_waitsOrGoes : MOK rX0_waitsOrGoes := ⟨by decide +kernel, rfl, by decide, fun q hq => by cases hq⟩
theorem mok_X0_wayOf : MOK rX0_wayOf := ⟨by decide +kernel, rfl, by decide, fun q hq => by cases hq⟩
theorem mok_X1_becomes : MOK rX1_becomes := ⟨by decide +kernel, rfl, by decide, fun q hq => by cases hq⟩
theorem mok_X1_exchanges : MOK rX1_exchanges := ⟨by decide +kernel, rfl, by decide, fun q hq => by cases hq⟩
theorem mok_X1_init : MOK rX1_init := ⟨by decide +kernel, rfl, by decide, fun q hq => by cases hq⟩
theorem mok_X1_init_2 : MOK rX1_init_2 := ⟨by decide +kernel, rfl, by decide, fun q hq => by cases hq⟩
theorem mok_X1_isFree : MOK rX1_isFree := ⟨by decide +kernel, rfl, by decide, fun q hq => by cases hq⟩
theorem mok_X1_isMember : MOK rX1_isMember := ⟨by decide +kernel, rfl, by decide, fun q hq => by cases hq⟩
theorem mok_X1_leads : MOK rX1_leads := ⟨by decide +kernel, rfl, by decide, fun q hq => by cases hq⟩
theorem mok_X1_loses : MOK rX1_loses := ⟨by decide +kernel, rfl, by decide, fun q hq => by cases hq⟩
theorem mok_X1_many : MOK rX1_many := ⟨by decide +kernel, rfl, by decide, fun q hq => by cases hq⟩
theorem mok_X1_moves : MOK rX1_moves := ⟨by decide +kernel, rfl, by decide, fun q hq => by cases hq⟩
theorem mok_X2_compare : MOK rX2_compare := ⟨by decide +kernel, rfl, by decide, fun q hq => by cases hq⟩
theorem mok_X2_compare_2 : MOK rX2_compare_2 := ⟨by decide +kernel, rfl, by decide, fun q hq => by cases hq⟩
theorem mok_X2_init : MOK rX2_init := ⟨by decide +kernel, rfl, by decide, fun q hq => by cases hq⟩
theorem mok_X3_account : MOK rX3_account := ⟨by decide +kernel, rfl, by decide, fun q hq => by cases hq⟩
theorem mok_X3_acts : MOK rX3_acts := ⟨by decide +kernel, rfl, by decide, fun q hq => by cases hq⟩
theorem mok_X3_add : MOK rX3_add := ⟨by decide +kernel, rfl, by decide, fun q hq => by cases hq⟩
theorem mok_X3_again : MOK rX3_again := ⟨by decide +kernel, rfl, by decide, fun q hq => by cases hq⟩
theorem mok_X3_anchor : MOK rX3_anchor := ⟨by decide +kernel, rfl, by decide, fun q hq => by cases hq⟩
theorem mok_X3_back : MOK rX3_back := ⟨by decide +kernel, rfl, by decide, fun q hq => by cases hq⟩
theorem mok_X3_beside : MOK rX3_beside := ⟨by decide +kernel, rfl, by decide, fun q hq => by cases hq⟩
theorem mok_X3_carries : MOK rX3_carries := ⟨by decide +kernel, rfl, by decide, fun q hq => by cases hq⟩
theorem mok_X3_cell : MOK rX3_cell := ⟨by decide +kernel, rfl, by decide, fun q hq => by cases hq⟩
theorem mok_X3_choose : MOK rX3_choose := ⟨by decide +kernel, rfl, by decide, fun q hq => by cases hq⟩
theorem mok_X3_column : MOK rX3_column := ⟨by decide +kernel, rfl, by decide, fun q hq => by cases hq⟩
theorem mok_X3_copies : MOK rX3_copies := ⟨by decide +kernel, rfl, by decide, fun q hq => by cases hq⟩
theorem mok_X3_count : MOK rX3_count := ⟨by decide +kernel, rfl, by decide, fun q hq => by cases hq⟩
theorem mok_X3_counts : MOK rX3_counts := ⟨by decide +kernel, rfl, by decide, fun q hq => by cases hq⟩
theorem mok_X3_distance : MOK rX3_distance := ⟨by decide +kernel, rfl, by decide, fun q hq => by cases hq⟩
theorem mok_X3_distanceOf : MOK rX3_distanceOf := ⟨by decide +kernel, rfl, by decide, fun q hq => by cases hq⟩
theorem mok_X3_exchanges : MOK rX3_exchanges := ⟨by decide +kernel, rfl, by decide, fun q hq => by cases hq⟩
theorem mok_X3_execute : MOK rX3_execute := ⟨by decide +kernel, rfl, by decide, fun q hq => by cases hq⟩
theorem mok_X3_feed : MOK rX3_feed := ⟨by decide +kernel, rfl, by decide, fun q hq => by cases hq⟩
theorem mok_X3_floods : MOK rX3_floods := ⟨by decide +kernel, rfl, by decide, fun q hq => by cases hq⟩
theorem mok_X3_forms : MOK rX3_forms := ⟨by decide +kernel, rfl, by decide, fun q hq => by cases hq⟩
theorem mok_X3_gives : MOK rX3_gives := ⟨by decide +kernel, rfl, by decide, fun q hq => by cases hq⟩
theorem mok_X3_goes : MOK rX3_goes := ⟨by decide +kernel, rfl, by decide, fun q hq => by cases hq⟩
theorem mok_X3_goesLost : MOK rX3_goesLost := ⟨by decide +kernel, rfl, by decide, fun q hq => by cases hq⟩
theorem mok_X3_healed : MOK rX3_healed := ⟨by decide +kernel, rfl, by decide, fun q hq => by cases hq⟩
theorem mok_X3_healedWithout : MOK rX3_healedWithout := ⟨by decide +kernel, rfl, by decide, fun q hq => by cases hq⟩
theorem mok_X3_here : MOK rX3_here := ⟨by decide +kernel, rfl, by decide, fun q hq => by cases hq⟩
theorem mok_X3_image : MOK rX3_image := ⟨by decide +kernel, rfl, by decide, fun q hq => by cases hq⟩
theorem mok_X3_in : MOK rX3_in := ⟨by decide +kernel, rfl, by decide, fun q hq => by cases hq⟩
theorem mok_X3_init : MOK rX3_init := ⟨by decide +kernel, rfl, by decide, fun q hq => by cases hq⟩
theorem mok_X3_isBlocked : MOK rX3_isBlocked := ⟨by decide +kernel, rfl, by decide, fun q hq => by cases hq⟩
theorem mok_X3_isCell : MOK rX3_isCell := ⟨by decide +kernel, rfl, by decide, fun q hq => by cases hq⟩
theorem mok_X3_isFormed : MOK rX3_isFormed := ⟨by decide +kernel, rfl, by decide, fun q hq => by cases hq⟩
theorem mok_X3_isLike : MOK rX3_isLike := ⟨by decide +kernel, rfl, by decide, fun q hq => by cases hq⟩
theorem mok_X3_isMember : MOK rX3_isMember := ⟨by decide +kernel, rfl, by decide, fun q hq => by cases hq⟩
theorem mok_X3_keeps : MOK rX3_keeps := ⟨by decide +kernel, rfl, by decide, fun q hq => by cases hq⟩
theorem mok_X3_lays : MOK rX3_lays := ⟨by decide +kernel, rfl, by decide, fun q hq => by cases hq⟩
theorem mok_X3_lead : MOK rX3_lead := ⟨by decide +kernel, rfl, by decide, fun q hq => by cases hq⟩
theorem mok_X3_leader : MOK rX3_leader := ⟨by decide +kernel, rfl, by decide, fun q hq => by cases hq⟩
theorem mok_X3_leads : MOK rX3_leads := ⟨by decide +kernel, rfl, by decide, fun q hq => by cases hq⟩
theorem mok_X3_lose : MOK rX3_lose := ⟨by decide +kernel, rfl, by decide, fun q hq => by cases hq⟩
theorem mok_X3_makes : MOK rX3_makes := ⟨by decide +kernel, rfl, by decide, fun q hq => by cases hq⟩
theorem mok_X3_mayExchange : MOK rX3_mayExchange := ⟨by decide +kernel, rfl, by decide, fun q hq => by cases hq⟩
theorem mok_X3_member : MOK rX3_member := ⟨by decide +kernel, rfl, by decide, fun q hq => by cases hq⟩
theorem mok_X3_members : MOK rX3_members := ⟨by decide +kernel, rfl, by decide, fun q hq => by cases hq⟩
theorem mok_X3_number : MOK rX3_number := ⟨by decide +kernel, rfl, by decide, fun q hq => by cases hq⟩
theorem mok_X3_obstacle : MOK rX3_obstacle := ⟨by decide +kernel, rfl, by decide, fun q hq => by cases hq⟩
theorem mok_X3_of : MOK rX3_of := ⟨by decide +kernel, rfl, by decide, fun q hq => by cases hq⟩
theorem mok_X3_on : MOK rX3_on := ⟨by decide +kernel, rfl, by decide, fun q hq => by cases hq⟩
theorem mok_X3_opens : MOK rX3_opens := ⟨by decide +kernel, rfl, by decide, fun q hq => by cases hq⟩
theorem mok_X3_order : MOK rX3_order := ⟨by decide +kernel, rfl, by decide, fun q hq => by cases hq⟩
theorem mok_X3_placeOf : MOK rX3_placeOf := ⟨by decide +kernel, rfl, by decide, fun q hq => by cases hq⟩
theorem mok_X3_readsShape : MOK rX3_readsShape := ⟨by decide +kernel, rfl, by decide, fun q hq => by cases hq⟩
theorem mok_X3_reckons : MOK rX3_reckons := ⟨by decide +kernel, rfl, by decide, fun q hq => by cases hq⟩
theorem mok_X3_recognized : MOK rX3_recognized := ⟨by decide +kernel, rfl, by decide, fun q hq => by cases hq⟩
theorem mok_X3_refusal : MOK rX3_refusal := ⟨by decide +kernel, rfl, by decide, fun q hq => by cases hq⟩
theorem mok_X3_refusal_2 : MOK rX3_refusal_2 := ⟨by decide +kernel, rfl, by decide, fun q hq => by cases hq⟩
theorem mok_X3_round : MOK rX3_round := ⟨by decide +kernel, rfl, by decide, fun q hq => by cases hq⟩
theorem mok_X3_rounds : MOK rX3_rounds := ⟨by decide +kernel, rfl, by decide, fun q hq => by cases hq⟩
theorem mok_X3_rowOf : MOK rX3_rowOf := ⟨by decide +kernel, rfl, by decide, fun q hq => by cases hq⟩
theorem mok_X3_shape : MOK rX3_shape := ⟨by decide +kernel, rfl, by decide, fun q hq => by cases hq⟩
theorem mok_X3_shapeAt : MOK rX3_shapeAt := ⟨by decide +kernel, rfl, by decide, fun q hq => by cases hq⟩
theorem mok_X3_slot : MOK rX3_slot := ⟨by decide +kernel, rfl, by decide, fun q hq => by cases hq⟩
theorem mok_X3_slotAt : MOK rX3_slotAt := ⟨by decide +kernel, rfl, by decide, fun q hq => by cases hq⟩
theorem mok_X3_slots : MOK rX3_slots := ⟨by decide +kernel, rfl, by decide, fun q hq => by cases hq⟩
theorem mok_X3_steps : MOK rX3_steps := ⟨by decide +kernel, rfl, by decide, fun q hq => by cases hq⟩
theorem mok_X3_stepsAside : MOK rX3_stepsAside := ⟨by decide +kernel, rfl, by decide, fun q hq => by cases hq⟩
theorem mok_X3_swarm : MOK rX3_swarm := ⟨by decide +kernel, rfl, by decide, fun q hq => by cases hq⟩
theorem mok_X3_target : MOK rX3_target := ⟨by decide +kernel, rfl, by decide, fun q hq => by cases hq⟩
theorem mok_X3_turnsBlocked : MOK rX3_turnsBlocked := ⟨by decide +kernel, rfl, by decide, fun q hq => by cases hq⟩
theorem mok_X3_turnsRound : MOK rX3_turnsRound := ⟨by decide +kernel, rfl, by decide, fun q hq => by cases hq⟩
theorem mok_X3_undo : MOK rX3_undo := ⟨by decide +kernel, rfl, by decide, fun q hq => by cases hq⟩
theorem mok_X3_waits : MOK rX3_waits := ⟨by decide +kernel, rfl, by decide, fun q hq => by cases hq⟩
theorem mok_X4_init : MOK rX4_init := ⟨by decide +kernel, rfl, by decide, fun q hq => by cases hq⟩
theorem mok_X4_init_2 : MOK rX4_init_2 := ⟨by decide +kernel, rfl, by decide, fun q hq => by cases hq⟩
theorem mok_X5_command : MOK rX5_command := ⟨by decide +kernel, rfl, by decide, fun q hq => by cases hq⟩
theorem mok_X5_commands : MOK rX5_commands := ⟨by decide +kernel, rfl, by decide, fun q hq => by cases hq⟩
theorem mok_X5_init : MOK rX5_init := ⟨by decide +kernel, rfl, by decide, fun q hq => by cases hq⟩
theorem mok_X5_isSlot : MOK rX5_isSlot := ⟨by decide +kernel, rfl, by decide, fun q hq => by cases hq⟩
theorem mok_X5_need : MOK rX5_need := ⟨by decide +kernel, rfl, by decide, fun q hq => by cases hq⟩
theorem mok_X5_number : MOK rX5_number := ⟨by decide +kernel, rfl, by decide, fun q hq => by cases hq⟩
theorem mok_X5_shape : MOK rX5_shape := ⟨by decide +kernel, rfl, by decide, fun q hq => by cases hq⟩
theorem mok_X5_shapeRow : MOK rX5_shapeRow := ⟨by decide +kernel, rfl, by decide, fun q hq => by cases hq⟩
theorem mok_X5_sign : MOK rX5_sign := ⟨by decide +kernel, rfl, by decide, fun q hq => by cases hq⟩
theorem mok_X6_init : MOK rX6_init := ⟨by decide +kernel, rfl, by decide, fun q hq => by cases hq⟩
theorem mok_X7_init : MOK rX7_init := ⟨by decide +kernel, rfl, by decide, fun q hq => by cases hq⟩
theorem mok_X7_init_2 : MOK rX7_init_2 := ⟨by decide +kernel, rfl, by decide, fun q hq => by cases hq⟩
theorem mok_X7_lies : MOK rX7_lies := ⟨by decide +kernel, rfl, by decide, fun q hq => by cases hq⟩
theorem mok_X7_size : MOK rX7_size := ⟨by decide +kernel, rfl, by decide, fun q hq => by cases hq⟩
theorem mok_X7_told : MOK rX7_told := ⟨by decide +kernel, rfl, by decide, fun q hq => by cases hq⟩
theorem mok_X7_turnedColumn : MOK rX7_turnedColumn := ⟨by decide +kernel, rfl, by decide, fun q hq => by cases hq⟩
theorem mok_X7_turnedRow : MOK rX7_turnedRow := ⟨by decide +kernel, rfl, by decide, fun q hq => by cases hq⟩
theorem mok_X8_gives : MOK rX8_gives := ⟨by decide +kernel, rfl, by decide, fun q hq => by cases hq⟩
theorem mok_X8_init : MOK rX8_init := ⟨by decide +kernel, rfl, by decide, fun q hq => by cases hq⟩
theorem mok_X8_sum : MOK rX8_sum := ⟨by decide +kernel, rfl, by decide, fun q hq => by cases hq⟩
theorem mok_X8_with : MOK rX8_with := ⟨by decide +kernel, rfl, by decide, fun q hq => by cases hq⟩
theorem mok_X9_against : MOK rX9_against := ⟨by decide +kernel, rfl, by decide, fun q hq => by cases hq⟩
theorem mok_X9_cell : MOK rX9_cell := ⟨by decide +kernel, rfl, by decide, fun q hq => by cases hq⟩
theorem mok_X9_does : MOK rX9_does := ⟨by decide +kernel, rfl, by decide, fun q hq => by cases hq⟩
theorem mok_X9_init : MOK rX9_init := ⟨by decide +kernel, rfl, by decide, fun q hq => by cases hq⟩
theorem mok_X9_isThere : MOK rX9_isThere := ⟨by decide +kernel, rfl, by decide, fun q hq => by cases hq⟩
theorem nw_all {w : Cond} (h : w ∈ lw_all) (g : nwOK w = true) : w ∈ nwL := nw_q (lw_all_tbl h) g
theorem cv_0 : COKV 36 rX8_sum 1 8 := cok_VN (key := 36) (n := 1) (ci := 8) (y := yX8_sum) (C := RX8) (T := TX8) (N := 4) rfl (nw_q q733 rfl) q728 qs23 q123 q729 (by decide +kernel)
theorem cv_1 : COKV 55 rX1_leads 0 1 := cok_V (key := 55) (n := 0) (ci := 1) (y := yX1_leads) (C := RX1) (T := TX1) (N := 8) rfl q471 q472 q473 q105 q474 (by decide +kernel)
theorem cv_2 : COKV 66 rX7_size 0 7 := cok_V (key := 66) (n := 0) (ci := 7) (y := yX7_size) (C := RX7) (T := TX7) (N := 3) rfl q637 q638 q639 q122 q640 (by decide +kernel)
theorem cv_3 : COKV 90 rX0_lays 2 0 := cok_V (key := 90) (n := 2) (ci := 0) (y := yX0_lays) (C := RX0) (T := TX0) (N := 21) rfl q665 q667 qs18 q104 q668 (by decide +kernel)
theorem cv_4 : COKV 94 rX0_laysPlaces 0 0 := cok_V (key := 94) (n := 0) (ci := 0) (y := yX0_laysPlaces) (C := RX0) (T := TX0) (N := 21) rfl q696 q698 qs22 q104 q699 (by decide +kernel)
theorem cv_5 : COKV 105 rX8_gives 1 8 := cok_V (key := 105) (n := 1) (ci := 8) (y := yX8_gives) (C := RX8) (T := TX8) (N := 4) rfl q722 q723 q724 q123 q725 (by decide +kernel)
theorem cv_6 : COKV 116 rX0_distanceOf 1 0 := cok_V (key := 116) (n := 1) (ci := 0) (y := yX0_distanceOf) (C := RX0) (T := TX0) (N := 21) rfl q771 q773 qs27 q104 q774 (by decide +kernel)
theorem cv_7 : COKV 120 rX0_gives 0 0 := cok_V (key := 120) (n := 0) (ci := 0) (y := yX0_gives) (C := RX0) (T := TX0) (N := 21) rfl q692 q694 qs21 q104 q695 (by decide +kernel)
theorem cv_8 : COKV 122 rX0_distances 0 0 := cok_V (key := 122) (n := 0) (ci := 0) (y := yX0_distances) (C := RX0) (T := TX0) (N := 21) rfl q994 q996 qs46 q104 q997 (by decide +kernel)
theorem cv_9 : COKV 125 rX0_given 0 0 := cok_V (key := 125) (n := 0) (ci := 0) (y := yX0_given) (C := RX0) (T := TX0) (N := 21) rfl q990 q992 qs45 q104 q993 (by decide +kernel)
theorem cv_10 : COKV 128 rX1_moves 2 1 := cok_V (key := 128) (n := 2) (ci := 1) (y := yX1_moves) (C := RX1) (T := TX1) (N := 8) rfl q684 q685 q686 q105 q687 (by decide +kernel)
theorem cv_11 : COKV 153 rX0_steps 2 0 := cok_V (key := 153) (n := 2) (ci := 0) (y := yX0_steps) (C := RX0) (T := TX0) (N := 21) rfl q680 q682 qs19 q104 q683 (by decide +kernel)
theorem cv_12 : COKV 155 rX0_waits 1 0 := cok_V (key := 155) (n := 1) (ci := 0) (y := yX0_waits) (C := RX0) (T := TX0) (N := 21) rfl q688 q690 qs20 q104 q691 (by decide +kernel)
theorem cv_13 : COKV 158 rX0_isGood 2 0 := cok_V (key := 158) (n := 2) (ci := 0) (y := yX0_isGood) (C := RX0) (T := TX0) (N := 21) rfl q870 q872 qs32 q104 q873 (by decide +kernel)
theorem cv_14 : COKV 162 rX1_isFree 1 1 := cok_V (key := 162) (n := 1) (ci := 1) (y := yX1_isFree) (C := RX1) (T := TX1) (N := 8) rfl q874 q875 q876 q105 q877 (by decide +kernel)
theorem cv_15 : COKV 166 rX0_gains 2 0 := cok_V (key := 166) (n := 2) (ci := 0) (y := yX0_gains) (C := RX0) (T := TX0) (N := 21) rfl q882 q884 qs34 q104 q885 (by decide +kernel)
theorem cv_16 : COKV 173 rX0_asideOf 1 0 := cok_V (key := 173) (n := 1) (ci := 0) (y := yX0_asideOf) (C := RX0) (T := TX0) (N := 21) rfl q890 q892 qs36 q104 q893 (by decide +kernel)
theorem cv_17 : COKV 176 rX0_freeFor 1 0 := cok_V (key := 176) (n := 1) (ci := 0) (y := yX0_freeFor) (C := RX0) (T := TX0) (N := 21) rfl q866 q868 qs31 q104 q869 (by decide +kernel)
theorem cv_18 : COKV 179 rX0_partnerOf 1 0 := cok_V (key := 179) (n := 1) (ci := 0) (y := yX0_partnerOf) (C := RX0) (T := TX0) (N := 21) rfl q878 q880 qs33 q104 q881 (by decide +kernel)
theorem cv_19 : COKV 183 rX0_waitsOrGoes 1 0 := cok_V (key := 183) (n := 1) (ci := 0) (y := yX0_waitsOrGoes) (C := RX0) (T := TX0) (N := 21) rfl q886 q888 qs35 q104 q889 (by decide +kernel)
theorem cv_20 : COKV 186 rX1_exchanges 2 1 := cok_V (key := 186) (n := 2) (ci := 1) (y := yX1_exchanges) (C := RX1) (T := TX1) (N := 8) rfl q894 q895 q896 q105 q897 (by decide +kernel)
theorem cv_21 : COKV 190 rX0_isExchanged 1 0 := cok_V (key := 190) (n := 1) (ci := 0) (y := yX0_isExchanged) (C := RX0) (T := TX0) (N := 21) rfl q898 q900 qs37 q104 q901 (by decide +kernel)
theorem cv_22 : COKV 196 rX0_leaderActs 1 0 := cok_V (key := 196) (n := 1) (ci := 0) (y := yX0_leaderActs) (C := RX0) (T := TX0) (N := 21) rfl q661 q663 qs17 q104 q664 (by decide +kernel)
theorem cv_23 : COKV 208 rX0_begins 2 0 := cok_V (key := 208) (n := 2) (ci := 0) (y := yX0_begins) (C := RX0) (T := TX0) (N := 21) rfl q767 q769 qs26 q104 q770 (by decide +kernel)
theorem cv_24 : COKV 211 rJ11_add 1 11 := cok_V (key := 211) (n := 1) (ci := 11) (y := yJ11_add) (C := RJ11) (T := TJ11) (N := 4) rfl q775 q776 q777 q125 q778 (by decide +kernel)
theorem cv_25 : COKV 219 rJ2_clear 0 10 := cok_V (key := 219) (n := 0) (ci := 10) (y := yJ2_clear) (C := RJ2) (T := TJ2) (N := 3) rfl q820 q821 q822 q108 q823 (by decide +kernel)
theorem cv_26 : COKV 224 rJ0_isEmpty 0 11 := cok_U (key := 224) (n := 0) (ci := 11) (y := yJ0_isEmpty) (x := ⟨"java/util/PriorityQueue", "isEmpty", "()Z"⟩) (owner := "java/util/AbstractCollection") (C := RJ11) (T := TJ11) (N := 4) rfl (nw_all q824 rfl) (nw_all q825 rfl) (nw_q q826 rfl) q828 q827 q106 q829 (by decide +kernel)
theorem cv_27 : COKV 228 rJ10_remove 0 11 := cok_U (key := 228) (n := 0) (ci := 11) (y := yJ10_remove) (x := ⟨"java/util/PriorityQueue", "remove", "()Ljava/lang/Object;"⟩) (owner := "java/util/AbstractQueue") (C := RJ11) (T := TJ11) (N := 4) rfl (nw_all q837 rfl) (nw_all q838 rfl) (nw_q q839 rfl) q841 q840 q124 q842 (by decide +kernel)
theorem cv_28 : COKV 232 rJ2_add 1 10 := cok_V (key := 232) (n := 1) (ci := 10) (y := yJ2_add) (C := RJ2) (T := TJ2) (N := 3) rfl q365 q366 q367 q108 q368 (by decide +kernel)
theorem cv_29 : COKV 233 rJ2_size 0 10 := cok_V (key := 233) (n := 0) (ci := 10) (y := yJ2_size) (C := RJ2) (T := TJ2) (N := 3) rfl q422 q423 q424 q108 q425 (by decide +kernel)
theorem cv_30 : COKV 234 rJ2_get 1 10 := cok_V (key := 234) (n := 1) (ci := 10) (y := yJ2_get) (C := RJ2) (T := TJ2) (N := 3) rfl q854 q855 q856 q108 q857 (by decide +kernel)
theorem cv_31 : COKV 238 rX0_acts 1 0 := cok_V (key := 238) (n := 1) (ci := 0) (y := yX0_acts) (C := RX0) (T := TX0) (N := 21) rfl q862 q864 qs30 q104 q865 (by decide +kernel)
theorem cv_32 : COKV 284 rJ2_remove 1 10 := cok_V (key := 284) (n := 1) (ci := 10) (y := yJ2_remove) (C := RJ2) (T := TJ2) (N := 3) rfl q426 q427 q428 q108 q429 (by decide +kernel)
theorem cv_33 : COKV 286 rX0_added 0 0 := cok_V (key := 286) (n := 0) (ci := 0) (y := yX0_added) (C := RX0) (T := TX0) (N := 21) rfl q304 q306 qs1 q104 q307 (by decide +kernel)
theorem cv_34 : COKV 292 rX0_againstAdding 2 0 := cok_V (key := 292) (n := 2) (ci := 0) (y := yX0_againstAdding) (C := RX0) (T := TX0) (N := 21) rfl q297 q299 qs0 q104 q300 (by decide +kernel)
theorem cv_35 : COKV 295 rX0_changes 0 0 := cok_V (key := 295) (n := 0) (ci := 0) (y := yX0_changes) (C := RX0) (T := TX0) (N := 21) rfl q308 q310 qs2 q104 q311 (by decide +kernel)
theorem cv_36 : COKV 298 rX0_adds 2 0 := cok_V (key := 298) (n := 2) (ci := 0) (y := yX0_adds) (C := RX0) (T := TX0) (N := 21) rfl q441 q443 qs7 q104 q444 (by decide +kernel)
theorem cv_37 : COKV 301 rX1_isMember 1 1 := cok_V (key := 301) (n := 1) (ci := 1) (y := yX1_isMember) (C := RX1) (T := TX1) (N := 8) rfl q451 q452 q453 q105 q454 (by decide +kernel)
theorem cv_38 : COKV 304 rX1_loses 1 1 := cok_V (key := 304) (n := 1) (ci := 1) (y := yX1_loses) (C := RX1) (T := TX1) (N := 8) rfl q456 q457 q458 q105 q459 (by decide +kernel)
theorem cv_39 : COKV 307 rX1_many 0 1 := cok_V (key := 307) (n := 0) (ci := 1) (y := yX1_many) (C := RX1) (T := TX1) (N := 8) rfl q460 q461 q462 q105 q463 (by decide +kernel)
theorem cv_40 : COKV 316 rX0_turns 1 0 := cok_V (key := 316) (n := 1) (ci := 0) (y := yX0_turns) (C := RX0) (T := TX0) (N := 21) rfl q487 q489 qs8 q104 q490 (by decide +kernel)
theorem cv_41 : COKV 332 rX5_shape 0 5 := cok_V (key := 332) (n := 0) (ci := 5) (y := yX5_shape) (C := RX5) (T := TX5) (N := 6) rfl q532 q533 q534 q118 q535 (by decide +kernel)
theorem cv_42 : COKV 340 rX0_round 0 0 := cok_V (key := 340) (n := 0) (ci := 0) (y := yX0_round) (C := RX0) (T := TX0) (N := 21) rfl q657 q659 qs16 q104 q660 (by decide +kernel)
theorem cv_43 : COKV 343 rX0_notesCells 0 0 := cok_V (key := 343) (n := 0) (ci := 0) (y := yX0_notesCells) (C := RX0) (T := TX0) (N := 21) rfl q649 q651 qs14 q104 q652 (by decide +kernel)
theorem cv_44 : COKV 346 rX0_makes 1 0 := cok_V (key := 346) (n := 1) (ci := 0) (y := yX0_makes) (C := RX0) (T := TX0) (N := 21) rfl q653 q655 qs15 q104 q656 (by decide +kernel)
theorem cv_45 : COKV 349 rX0_elsewhere 0 0 := cok_V (key := 349) (n := 0) (ci := 0) (y := yX0_elsewhere) (C := RX0) (T := TX0) (N := 21) rfl q902 q904 qs38 q104 q905 (by decide +kernel)
theorem cv_46 : COKV 354 rX9_against 0 9 := cok_V (key := 354) (n := 0) (ci := 9) (y := yX9_against) (C := RX9) (T := TX9) (N := 4) rfl q950 q951 q952 q126 q953 (by decide +kernel)
theorem cv_47 : COKV 357 rX9_does 0 9 := cok_V (key := 357) (n := 0) (ci := 9) (y := yX9_does) (C := RX9) (T := TX9) (N := 4) rfl q966 q967 q968 q126 q969 (by decide +kernel)
theorem cv_48 : COKV 360 rX5_commands 0 5 := cok_V (key := 360) (n := 0) (ci := 5) (y := yX5_commands) (C := RX5) (T := TX5) (N := 6) rfl q910 q911 q912 q118 q913 (by decide +kernel)
theorem cv_49 : COKV 364 rX0_carriesOut 1 0 := cok_V (key := 364) (n := 1) (ci := 0) (y := yX0_carriesOut) (C := RX0) (T := TX0) (N := 21) rfl q945 q947 qs41 q104 q948 (by decide +kernel)
theorem cv_50 : COKV 368 rX0_placeOf 1 0 := cok_V (key := 368) (n := 1) (ci := 0) (y := yX0_placeOf) (C := RX0) (T := TX0) (N := 21) rfl q982 q984 qs44 q104 q985 (by decide +kernel)
theorem cv_51 : COKV 371 rX0_isFormed 0 0 := cok_V (key := 371) (n := 0) (ci := 0) (y := yX0_isFormed) (C := RX0) (T := TX0) (N := 21) rfl q998 q1000 qs47 q104 q1001 (by decide +kernel)
theorem cv_52 : COKV 374 rX0_slotAt 1 0 := cok_V (key := 374) (n := 1) (ci := 0) (y := yX0_slotAt) (C := RX0) (T := TX0) (N := 21) rfl q1006 q1008 qs48 q104 q1009 (by decide +kernel)
theorem cv_53 : COKV 377 rX0_wayOf 2 0 := cok_V (key := 377) (n := 2) (ci := 0) (y := yX0_wayOf) (C := RX0) (T := TX0) (N := 21) rfl q1010 q1012 qs49 q104 q1013 (by decide +kernel)
theorem cv_54 : COKV 380 rX0_openAround 1 0 := cok_V (key := 380) (n := 1) (ci := 0) (y := yX0_openAround) (C := RX0) (T := TX0) (N := 21) rfl q1014 q1016 qs50 q104 q1017 (by decide +kernel)
theorem cv_55 : COKV 383 rX0_isShape 1 0 := cok_V (key := 383) (n := 1) (ci := 0) (y := yX0_isShape) (C := RX0) (T := TX0) (N := 21) rfl q1026 q1028 qs51 q104 q1029 (by decide +kernel)
theorem cv_56 : COKV 386 rX7_told 1 7 := cok_V (key := 386) (n := 1) (ci := 7) (y := yX7_told) (C := RX7) (T := TX7) (N := 3) rfl q1030 q1031 q1032 q122 q1033 (by decide +kernel)
theorem cv_57 : COKV 389 rX7_lies 4 7 := cok_V (key := 389) (n := 4) (ci := 7) (y := yX7_lies) (C := RX7) (T := TX7) (N := 3) rfl q1044 q1045 q1046 q122 q1047 (by decide +kernel)
theorem cv_58 : COKV 393 rX0_isSeen 2 0 := cok_V (key := 393) (n := 2) (ci := 0) (y := yX0_isSeen) (C := RX0) (T := TX0) (N := 21) rfl q1040 q1042 qs52 q104 q1043 (by decide +kernel)
theorem cv_59 : COKV 397 rX0_formsWithin 1 0 := cok_V (key := 397) (n := 1) (ci := 0) (y := yX0_formsWithin) (C := RX0) (T := TX0) (N := 21) rfl q1065 q1067 qs56 q104 q1068 (by decide +kernel)
theorem cv_60 : COKV 400 rX0_thinks 2 0 := cok_VW (key := 400) (n := 2) (ci := 0) (y := yX0_thinks) (C := RX0) (T := TX0) (N := 21) rfl q1061 q1063 qs55 q104 q1064 (by decide +kernel)
theorem cv_61 : COKV 408 rX0_givesTo 2 0 := cok_V (key := 408) (n := 2) (ci := 0) (y := yX0_givesTo) (C := RX0) (T := TX0) (N := 21) rfl q1081 q1083 qs58 q104 q1084 (by decide +kernel)
theorem cv_62 : COKV 417 rX0_goesOn 1 0 := cok_V (key := 417) (n := 1) (ci := 0) (y := yX0_goesOn) (C := RX0) (T := TX0) (N := 21) rfl q1077 q1079 qs57 q104 q1080 (by decide +kernel)
theorem cv_63 : COKV 420 rJ2_isEmpty 0 10 := cok_V (key := 420) (n := 0) (ci := 10) (y := yJ2_isEmpty) (C := RJ2) (T := TJ2) (N := 3) rfl q1095 q1096 q1097 q108 q1098 (by decide +kernel)
theorem cv_64 : COKV 424 rX0_shapes 0 0 := cok_V (key := 424) (n := 0) (ci := 0) (y := yX0_shapes) (C := RX0) (T := TX0) (N := 21) rfl q1111 q1113 qs59 q104 q1114 (by decide +kernel)
theorem cv_65 : COKV 65578 rX1_becomes 1 1 := cok_V (key := 65578) (n := 1) (ci := 1) (y := yX1_becomes) (C := RX1) (T := TX1) (N := 8) rfl q316 q317 q318 q105 q319 (by decide +kernel)
theorem cv_66 : COKV 65602 rX1_isMember 1 1 := cok_V (key := 65602) (n := 1) (ci := 1) (y := yX1_isMember) (C := RX1) (T := TX1) (N := 8) rfl q475 q452 q453 q105 q454 (by decide +kernel)
theorem cv_67 : COKV 131085 rX0_distanceOf 1 0 := cok_VN (key := 131085) (n := 1) (ci := 0) (y := yX0_distanceOf) (C := RX0) (T := TX0) (N := 21) rfl (nw_q q811 rfl) q773 qs27 q104 q774 (by decide +kernel)
theorem cv_68 : COKV 131097 rX2_compare_2 2 2 := cok_V (key := 131097) (n := 2) (ci := 2) (y := yX2_compare_2) (C := RX2) (T := TX2) (N := 1) rfl q807 q808 q809 q109 q810 (by decide +kernel)
theorem cv_69 : COKV 196661 rX3_copies 2 3 := cok_V (key := 196661) (n := 2) (ci := 3) (y := yX3_copies) (C := RX3) (T := TX3) (N := 25) rfl q1220 q1222 qs64 q110 q1223 (by decide +kernel)
theorem cv_70 : COKV 196669 rX3_of 2 3 := cok_V (key := 196669) (n := 2) (ci := 3) (y := yX3_of) (C := RX3) (T := TX3) (N := 25) rfl q1212 q1214 qs62 q110 q1215 (by decide +kernel)
theorem cv_71 : COKV 196673 rX3_isMember 1 3 := cok_V (key := 196673) (n := 1) (ci := 3) (y := yX3_isMember) (C := RX3) (T := TX3) (N := 25) rfl q1208 q1210 qs61 q110 q1211 (by decide +kernel)
theorem cv_72 : COKV 196677 rX3_isBlocked 1 3 := cok_V (key := 196677) (n := 1) (ci := 3) (y := yX3_isBlocked) (C := RX3) (T := TX3) (N := 25) rfl q1248 q1250 qs71 q110 q1251 (by decide +kernel)
theorem cv_73 : COKV 196683 rX3_floods 2 3 := cok_V (key := 196683) (n := 2) (ci := 3) (y := yX3_floods) (C := RX3) (T := TX3) (N := 25) rfl q1244 q1246 qs70 q110 q1247 (by decide +kernel)
theorem cv_74 : COKV 196690 rX3_anchor 1 3 := cok_V (key := 196690) (n := 1) (ci := 3) (y := yX3_anchor) (C := RX3) (T := TX3) (N := 25) rfl q1278 q1280 qs77 q110 q1281 (by decide +kernel)
theorem cv_75 : COKV 196693 rX3_leader 0 3 := cok_V (key := 196693) (n := 0) (ci := 3) (y := yX3_leader) (C := RX3) (T := TX3) (N := 25) rfl q1204 q1206 qs60 q110 q1207 (by decide +kernel)
theorem cv_76 : COKV 196697 rX3_column 2 3 := cok_V (key := 196697) (n := 2) (ci := 3) (y := yX3_column) (C := RX3) (T := TX3) (N := 25) rfl q1286 q1288 qs79 q110 q1289 (by decide +kernel)
theorem cv_77 : COKV 196700 rX3_rowOf 2 3 := cok_V (key := 196700) (n := 2) (ci := 3) (y := yX3_rowOf) (C := RX3) (T := TX3) (N := 25) rfl q1290 q1292 qs80 q110 q1293 (by decide +kernel)
theorem cv_78 : COKV 196709 rX3_slots 1 3 := cok_V (key := 196709) (n := 1) (ci := 3) (y := yX3_slots) (C := RX3) (T := TX3) (N := 25) rfl q1271 q1273 qs76 q110 q1274 (by decide +kernel)
theorem cv_79 : COKV 196712 rX3_placeOf 1 3 := cok_V (key := 196712) (n := 1) (ci := 3) (y := yX3_placeOf) (C := RX3) (T := TX3) (N := 25) rfl q1282 q1284 qs78 q110 q1285 (by decide +kernel)
theorem cv_80 : COKV 196715 rX3_reckons 1 3 := cok_V (key := 196715) (n := 1) (ci := 3) (y := yX3_reckons) (C := RX3) (T := TX3) (N := 25) rfl q1294 q1296 qs81 q110 q1297 (by decide +kernel)
theorem cv_81 : COKV 196719 rX3_gives 0 3 := cok_V (key := 196719) (n := 0) (ci := 3) (y := yX3_gives) (C := RX3) (T := TX3) (N := 25) rfl q1267 q1269 qs75 q110 q1270 (by decide +kernel)
theorem cv_82 : COKV 196722 rX3_lays 3 3 := cok_V (key := 196722) (n := 3) (ci := 3) (y := yX3_lays) (C := RX3) (T := TX3) (N := 25) rfl q1240 q1242 qs69 q110 q1243 (by decide +kernel)
theorem cv_83 : COKV 196726 rX3_counts 2 3 := cok_V (key := 196726) (n := 2) (ci := 3) (y := yX3_counts) (C := RX3) (T := TX3) (N := 25) rfl q1232 q1234 qs67 q110 q1235 (by decide +kernel)
theorem cv_84 : COKV 196729 rX3_on 1 3 := cok_V (key := 196729) (n := 1) (ci := 3) (y := yX3_on) (C := RX3) (T := TX3) (N := 25) rfl q1255 q1257 qs72 q110 q1258 (by decide +kernel)
theorem cv_85 : COKV 196732 rX3_waits 1 3 := cok_V (key := 196732) (n := 1) (ci := 3) (y := yX3_waits) (C := RX3) (T := TX3) (N := 25) rfl q1259 q1261 qs73 q110 q1262 (by decide +kernel)
theorem cv_86 : COKV 196735 rX3_goes 2 3 := cok_V (key := 196735) (n := 2) (ci := 3) (y := yX3_goes) (C := RX3) (T := TX3) (N := 25) rfl q1263 q1265 qs74 q110 q1266 (by decide +kernel)
theorem cv_87 : COKV 196738 rX3_mayExchange 3 3 := cok_V (key := 196738) (n := 3) (ci := 3) (y := yX3_mayExchange) (C := RX3) (T := TX3) (N := 25) rfl q1310 q1312 qs85 q110 q1313 (by decide +kernel)
theorem cv_88 : COKV 196741 rX3_steps 3 3 := cok_V (key := 196741) (n := 3) (ci := 3) (y := yX3_steps) (C := RX3) (T := TX3) (N := 25) rfl q1302 q1304 qs83 q110 q1305 (by decide +kernel)
theorem cv_89 : COKV 196744 rX3_exchanges 3 3 := cok_V (key := 196744) (n := 3) (ci := 3) (y := yX3_exchanges) (C := RX3) (T := TX3) (N := 25) rfl q1306 q1308 qs84 q110 q1309 (by decide +kernel)
theorem cv_90 : COKV 196747 rX3_stepsAside 1 3 := cok_V (key := 196747) (n := 1) (ci := 3) (y := yX3_stepsAside) (C := RX3) (T := TX3) (N := 25) rfl q1314 q1316 qs86 q110 q1317 (by decide +kernel)
theorem cv_91 : COKV 196750 rX3_leads 0 3 := cok_V (key := 196750) (n := 0) (ci := 3) (y := yX3_leads) (C := RX3) (T := TX3) (N := 25) rfl q1236 q1238 qs68 q110 q1239 (by decide +kernel)
theorem cv_92 : COKV 196753 rX3_acts 1 3 := cok_V (key := 196753) (n := 1) (ci := 3) (y := yX3_acts) (C := RX3) (T := TX3) (N := 25) rfl q1298 q1300 qs82 q110 q1301 (by decide +kernel)
theorem cv_93 : COKV 196756 rX3_round 0 3 := cok_V (key := 196756) (n := 0) (ci := 3) (y := yX3_round) (C := RX3) (T := TX3) (N := 25) rfl q1228 q1230 qs66 q110 q1231 (by decide +kernel)
theorem cv_94 : COKV 196759 rX3_keeps 0 3 := cok_V (key := 196759) (n := 0) (ci := 3) (y := yX3_keeps) (C := RX3) (T := TX3) (N := 25) rfl q1216 q1218 qs63 q110 q1219 (by decide +kernel)
theorem cv_95 : COKV 196762 rX3_makes 1 3 := cok_V (key := 196762) (n := 1) (ci := 3) (y := yX3_makes) (C := RX3) (T := TX3) (N := 25) rfl q1224 q1226 qs65 q110 q1227 (by decide +kernel)
theorem cv_96 : COKV 196765 rX3_members 0 3 := cok_V (key := 196765) (n := 0) (ci := 3) (y := yX3_members) (C := RX3) (T := TX3) (N := 25) rfl q1334 q1336 qs89 q110 q1337 (by decide +kernel)
theorem cv_97 : COKV 196768 rX3_opens 1 3 := cok_V (key := 196768) (n := 1) (ci := 3) (y := yX3_opens) (C := RX3) (T := TX3) (N := 25) rfl q1322 q1324 qs87 q110 q1325 (by decide +kernel)
theorem cv_98 : COKV 196771 rX3_goesLost 1 3 := cok_V (key := 196771) (n := 1) (ci := 3) (y := yX3_goesLost) (C := RX3) (T := TX3) (N := 25) rfl q1330 q1332 qs88 q110 q1333 (by decide +kernel)
theorem cv_99 : COKV 196777 rX3_turnsBlocked 1 3 := cok_V (key := 196777) (n := 1) (ci := 3) (y := yX3_turnsBlocked) (C := RX3) (T := TX3) (N := 25) rfl q1353 q1355 qs90 q110 q1356 (by decide +kernel)
theorem cv_100 : COKV 196789 rX3_here 0 3 := cok_V (key := 196789) (n := 0) (ci := 3) (y := yX3_here) (C := RX3) (T := TX3) (N := 25) rfl q1369 q1371 qs92 q110 q1372 (by decide +kernel)
theorem cv_101 : COKV 196792 rX3_readsShape 0 3 := cok_V (key := 196792) (n := 0) (ci := 3) (y := yX3_readsShape) (C := RX3) (T := TX3) (N := 25) rfl q1365 q1367 qs91 q110 q1368 (by decide +kernel)
theorem cv_102 : COKV 196798 rX3_number 0 3 := cok_V (key := 196798) (n := 0) (ci := 3) (y := yX3_number) (C := RX3) (T := TX3) (N := 25) rfl q1385 q1387 qs94 q110 q1388 (by decide +kernel)
theorem cv_103 : COKV 196801 rX3_order 0 3 := cok_V (key := 196801) (n := 0) (ci := 3) (y := yX3_order) (C := RX3) (T := TX3) (N := 25) rfl q1381 q1383 qs93 q110 q1384 (by decide +kernel)
theorem cv_104 : COKV 196804 rX3_refusal 3 3 := cok_V (key := 196804) (n := 3) (ci := 3) (y := yX3_refusal) (C := RX3) (T := TX3) (N := 25) rfl q1389 q1391 qs95 q110 q1392 (by decide +kernel)
theorem cv_105 : COKV 196814 rX3_carries 3 3 := cok_V (key := 196814) (n := 3) (ci := 3) (y := yX3_carries) (C := RX3) (T := TX3) (N := 25) rfl q1393 q1395 qs96 q110 q1396 (by decide +kernel)
theorem cv_106 : COKV 196817 rX3_isFormed 0 3 := cok_V (key := 196817) (n := 0) (ci := 3) (y := yX3_isFormed) (C := RX3) (T := TX3) (N := 25) rfl q1409 q1411 qs97 q110 q1412 (by decide +kernel)
theorem cv_107 : COKV 196821 rX3_slotAt 1 3 := cok_V (key := 196821) (n := 1) (ci := 3) (y := yX3_slotAt) (C := RX3) (T := TX3) (N := 25) rfl q1417 q1419 qs98 q110 q1420 (by decide +kernel)
theorem cv_108 : COKV 196824 rX3_distanceOf 2 3 := cok_V (key := 196824) (n := 2) (ci := 3) (y := yX3_distanceOf) (C := RX3) (T := TX3) (N := 25) rfl q1421 q1423 qs99 q110 q1424 (by decide +kernel)
theorem cv_109 : COKV 196833 rX3_turnsRound 3 3 := cok_V (key := 196833) (n := 3) (ci := 3) (y := yX3_turnsRound) (C := RX3) (T := TX3) (N := 25) rfl q1441 q1443 qs101 q110 q1444 (by decide +kernel)
theorem cv_110 : COKV 196836 rX3_isLike 3 3 := cok_V (key := 196836) (n := 3) (ci := 3) (y := yX3_isLike) (C := RX3) (T := TX3) (N := 25) rfl q1437 q1439 qs100 q110 q1440 (by decide +kernel)
theorem cv_111 : COKV 196839 rX3_forms 1 3 := cok_V (key := 196839) (n := 1) (ci := 3) (y := yX3_forms) (C := RX3) (T := TX3) (N := 25) rfl q1449 q1451 qs102 q110 q1452 (by decide +kernel)
theorem cv_112 : COKV 327721 rX5_sign 0 5 := cok_V (key := 327721) (n := 0) (ci := 5) (y := yX5_sign) (C := RX5) (T := TX5) (N := 6) rfl q544 q546 qs11 q118 q547 (by decide +kernel)
theorem cv_113 : COKV 327725 rX5_isSlot 0 5 := cok_V (key := 327725) (n := 0) (ci := 5) (y := yX5_isSlot) (C := RX5) (T := TX5) (N := 6) rfl q540 q542 qs10 q118 q543 (by decide +kernel)
theorem cv_114 : COKV 327729 rX5_need 1 5 := cok_V (key := 327729) (n := 1) (ci := 5) (y := yX5_need) (C := RX5) (T := TX5) (N := 6) rfl q548 q550 qs12 q118 q551 (by decide +kernel)
theorem cv_115 : COKV 327736 rX5_shapeRow 1 5 := cok_V (key := 327736) (n := 1) (ci := 5) (y := yX5_shapeRow) (C := RX5) (T := TX5) (N := 6) rfl q536 q538 qs9 q118 q539 (by decide +kernel)
theorem cv_116 : COKV 327748 rX5_number 0 5 := cok_V (key := 327748) (n := 0) (ci := 5) (y := yX5_number) (C := RX5) (T := TX5) (N := 6) rfl q920 q922 qs40 q118 q923 (by decide +kernel)
theorem cv_117 : COKV 327759 rX5_command 0 5 := cok_V (key := 327759) (n := 0) (ci := 5) (y := yX5_command) (C := RX5) (T := TX5) (N := 6) rfl q916 q918 qs39 q118 q919 (by decide +kernel)
theorem cv_118 : COKV 327763 rJ2_add 1 10 := cok_V (key := 327763) (n := 1) (ci := 10) (y := yJ2_add) (C := RJ2) (T := TJ2) (N := 3) rfl q944 q366 q367 q108 q368 (by decide +kernel)
theorem cv_119 : COKV 458777 rX7_size 0 7 := cok_V (key := 458777) (n := 0) (ci := 7) (y := yX7_size) (C := RX7) (T := TX7) (N := 3) rfl q1034 q638 q639 q122 q640 (by decide +kernel)
theorem cv_120 : COKV 458785 rX7_turnedColumn 2 7 := cok_V (key := 458785) (n := 2) (ci := 7) (y := yX7_turnedColumn) (C := RX7) (T := TX7) (N := 3) rfl q1048 q1050 qs53 q122 q1051 (by decide +kernel)
theorem cv_121 : COKV 458789 rX7_turnedRow 2 7 := cok_V (key := 458789) (n := 2) (ci := 7) (y := yX7_turnedRow) (C := RX7) (T := TX7) (N := 3) rfl q1052 q1054 qs54 q122 q1055 (by decide +kernel)
theorem cv_122 : COKV 524344 rX0_isGiveable 3 0 := cok_VN (key := 524344) (n := 3) (ci := 0) (y := yX0_isGiveable) (C := RX0) (T := TX0) (N := 21) rfl (nw_q q734 rfl) q736 qs24 q104 q737 (by decide +kernel)
theorem cv_123 : COKV 524348 rX8_with 2 8 := cok_V (key := 524348) (n := 2) (ci := 8) (y := yX8_with) (C := RX8) (T := TX8) (N := 4) rfl q738 q740 qs25 q123 q741 (by decide +kernel)
theorem cv_124 : COKV 524357 rX8_sum 1 8 := cok_V (key := 524357) (n := 1) (ci := 8) (y := yX8_sum) (C := RX8) (T := TX8) (N := 4) rfl q726 q728 qs23 q123 q729 (by decide +kernel)
theorem cv_125 : COKV 524364 rX8_gives 1 8 := cok_V (key := 524364) (n := 1) (ci := 8) (y := yX8_gives) (C := RX8) (T := TX8) (N := 4) rfl q743 q723 q724 q123 q725 (by decide +kernel)
theorem cv_126 : COKV 589853 rX0_againstAdding 2 0 := cok_VN (key := 589853) (n := 2) (ci := 0) (y := yX0_againstAdding) (C := RX0) (T := TX0) (N := 21) rfl (nw_q q954 rfl) q299 qs0 q104 q300 (by decide +kernel)
theorem cv_127 : COKV 589857 rX9_isThere 0 9 := cok_V (key := 589857) (n := 0) (ci := 9) (y := yX9_isThere) (C := RX9) (T := TX9) (N := 4) rfl q955 q957 qs42 q126 q958 (by decide +kernel)
theorem cv_128 : COKV 589871 rX9_cell 0 9 := cok_V (key := 589871) (n := 0) (ci := 9) (y := yX9_cell) (C := RX9) (T := TX9) (N := 4) rfl q960 q962 qs43 q126 q963 (by decide +kernel)
theorem cv_129 : COKV 589875 rX1_leads 0 1 := cok_V (key := 589875) (n := 0) (ci := 1) (y := yX1_leads) (C := RX1) (T := TX1) (N := 8) rfl q964 q472 q473 q105 q474 (by decide +kernel)
theorem cv_130 : COKV 589878 rX1_isMember 1 1 := cok_V (key := 589878) (n := 1) (ci := 1) (y := yX1_isMember) (C := RX1) (T := TX1) (N := 8) rfl q965 q452 q453 q105 q454 (by decide +kernel)
theorem cv_131 : COKV 589882 rX0_adds 2 0 := cok_VN (key := 589882) (n := 2) (ci := 0) (y := yX0_adds) (C := RX0) (T := TX0) (N := 21) rfl (nw_q q970 rfl) q443 qs7 q104 q444 (by decide +kernel)
theorem cv_132 : COKV 589885 rX0_turns 1 0 := cok_VN (key := 589885) (n := 1) (ci := 0) (y := yX0_turns) (C := RX0) (T := TX0) (N := 21) rfl (nw_q q971 rfl) q489 qs8 q104 q490 (by decide +kernel)
theorem cv_133 : COKV 589895 rX1_loses 1 1 := cok_V (key := 589895) (n := 1) (ci := 1) (y := yX1_loses) (C := RX1) (T := TX1) (N := 8) rfl q972 q457 q458 q105 q459 (by decide +kernel)
theorem cv_134 : COKV 589899 rX0_makes 1 0 := cok_VN (key := 589899) (n := 1) (ci := 0) (y := yX0_makes) (C := RX0) (T := TX0) (N := 21) rfl (nw_q q973 rfl) q655 qs15 q104 q656 (by decide +kernel)
theorem cv_135 : COKV 1310727 rJ11_size 0 11 := cok_U (key := 1310727) (n := 0) (ci := 11) (y := yJ11_size) (x := ⟨"java/util/AbstractCollection", "size", "()I"⟩) (owner := "java/util/AbstractCollection") (C := RJ11) (T := TJ11) (N := 4) rfl (nw_all q830 rfl) (nw_all q832 rfl) (nw_q q831 rfl) q835 q834 q125 q836 (by decide +kernel)
theorem cv_136 : COKV 1441861 rJ2_grow_2 1 10 := cok_V (key := 1441861) (n := 1) (ci := 10) (y := yJ2_grow_2) (C := RJ2) (T := TJ2) (N := 3) rfl q377 q379 qs5 q108 q380 (by decide +kernel)
theorem cv_137 : COKV 1441915 rJ2_elementData 1 10 := cok_V (key := 1441915) (n := 1) (ci := 10) (y := yJ2_elementData) (C := RJ2) (T := TJ2) (N := 3) rfl q858 q859 q860 q108 q861 (by decide +kernel)
theorem cv_138 : COKV 1441921 rJ2_grow 0 10 := cok_V (key := 1441921) (n := 0) (ci := 10) (y := yJ2_grow) (C := RJ2) (T := TJ2) (N := 3) rfl q373 q375 qs4 q108 q376 (by decide +kernel)
theorem cv_139 : COKV 1441923 rJ2_add_2 3 10 := cok_V (key := 1441923) (n := 3) (ci := 10) (y := yJ2_add_2) (C := RJ2) (T := TJ2) (N := 3) rfl q369 q371 qs3 q108 q372 (by decide +kernel)
theorem cv_140 : COKV 1441936 rJ2_fastRemove 2 10 := cok_V (key := 1441936) (n := 2) (ci := 10) (y := yJ2_fastRemove) (C := RJ2) (T := TJ2) (N := 3) rfl q436 q438 qs6 q108 q439 (by decide +kernel)
theorem cv_141 : COKV 1966100 rJ11_poll 0 11 := cok_P (key := 1966100) (n := 0) (ci := 11) (y := yJ11_poll) (x := ⟨"java/util/AbstractQueue", "poll", "()Ljava/lang/Object;"⟩) (owner := "java/util/Queue") (C := RJ11) (T := TJ11) (N := 4) rfl (List.mem_filter.mpr ⟨List.mem_append_right _ (List.mem_of_getElem? (i := 0) rfl), rfl⟩) (List.mem_filter.mpr ⟨List.mem_append_right _ (List.mem_of_getElem? (i := 1) rfl), rfl⟩) (nw_q q844 rfl) q846 q845 q125 q847 (by decide +kernel)
theorem cv_142 : COKV 2031705 rJ11_offer 1 11 := cok_V (key := 2031705) (n := 1) (ci := 11) (y := yJ11_offer) (C := RJ11) (T := TJ11) (N := 4) rfl q779 q780 q781 q125 q782 (by decide +kernel)
theorem cv_143 : COKV 2031712 rJ11_grow 1 11 := cok_V (key := 2031712) (n := 1) (ci := 11) (y := yJ11_grow) (C := RJ11) (T := TJ11) (N := 4) rfl q783 q785 qs28 q125 q786 (by decide +kernel)
theorem cv_144 : COKV 2031716 rJ11_siftUp 2 11 := cok_V (key := 2031716) (n := 2) (ci := 11) (y := yJ11_siftUp) (C := RJ11) (T := TJ11) (N := 4) rfl q789 q791 qs29 q125 q792 (by decide +kernel)
theorem cv_145 : COKV 2621453 rX0_add 2 0 := cok_V (key := 2621453) (n := 2) (ci := 0) (y := yX0_add) (C := RX0) (T := TX0) (N := 21) rfl q293 q294 q295 q104 q296 (by decide +kernel)
theorem cv_146 : COKV 2621457 rX3_add 2 3 := cok_V (key := 2621457) (n := 2) (ci := 3) (y := yX3_add) (C := RX3) (T := TX3) (N := 25) rfl q1318 q1319 q1320 q110 q1321 (by decide +kernel)
theorem cv_147 : COKV 2621458 rX0_lose 1 0 := cok_V (key := 2621458) (n := 1) (ci := 0) (y := yX0_lose) (C := RX0) (T := TX0) (N := 21) rfl q447 q448 q449 q104 q450 (by decide +kernel)
theorem cv_148 : COKV 2621462 rX3_lose 1 3 := cok_V (key := 2621462) (n := 1) (ci := 3) (y := yX3_lose) (C := RX3) (T := TX3) (N := 25) rfl q1326 q1327 q1328 q110 q1329 (by decide +kernel)
theorem cv_149 : COKV 2621463 rX0_lead 1 0 := cok_V (key := 2621463) (n := 1) (ci := 0) (y := yX0_lead) (C := RX0) (T := TX0) (N := 21) rfl q467 q468 q469 q104 q470 (by decide +kernel)
theorem cv_150 : COKV 2621466 rX3_lead 1 3 := cok_V (key := 2621466) (n := 1) (ci := 3) (y := yX3_lead) (C := RX3) (T := TX3) (N := 25) rfl q1338 q1339 q1340 q110 q1341 (by decide +kernel)
theorem cv_151 : COKV 2621467 rX0_target 1 0 := cok_V (key := 2621467) (n := 1) (ci := 0) (y := yX0_target) (C := RX0) (T := TX0) (N := 21) rfl q476 q477 q478 q104 q479 (by decide +kernel)
theorem cv_152 : COKV 2621470 rX3_target 1 3 := cok_V (key := 2621470) (n := 1) (ci := 3) (y := yX3_target) (C := RX3) (T := TX3) (N := 25) rfl q1342 q1343 q1344 q110 q1345 (by decide +kernel)
theorem cv_153 : COKV 2621471 rX0_obstacle 1 0 := cok_V (key := 2621471) (n := 1) (ci := 0) (y := yX0_obstacle) (C := RX0) (T := TX0) (N := 21) rfl q483 q484 q485 q104 q486 (by decide +kernel)
theorem cv_154 : COKV 2621474 rX3_obstacle 1 3 := cok_V (key := 2621474) (n := 1) (ci := 3) (y := yX3_obstacle) (C := RX3) (T := TX3) (N := 25) rfl q1346 q1347 q1348 q110 q1349 (by decide +kernel)
theorem cv_155 : COKV 2621475 rX0_feed 6 0 := cok_V (key := 2621475) (n := 6) (ci := 0) (y := yX0_feed) (C := RX0) (T := TX0) (N := 21) rfl q492 q493 q494 q104 q495 (by decide +kernel)
theorem cv_156 : COKV 2621479 rX3_feed 6 3 := cok_V (key := 2621479) (n := 6) (ci := 3) (y := yX3_feed) (C := RX3) (T := TX3) (N := 25) rfl q1357 q1358 q1359 q110 q1360 (by decide +kernel)
theorem cv_157 : COKV 2621480 rX0_shape 1 0 := cok_VW (key := 2621480) (n := 1) (ci := 0) (y := yX0_shape) (C := RX0) (T := TX0) (N := 21) rfl q502 q503 q504 q104 q505 (by decide +kernel)
theorem cv_158 : COKV 2621483 rX3_shape 1 3 := cok_V (key := 2621483) (n := 1) (ci := 3) (y := yX3_shape) (C := RX3) (T := TX3) (N := 25) rfl q1361 q1362 q1363 q110 q1364 (by decide +kernel)
theorem cv_159 : COKV 2621484 rX0_choose 1 0 := cok_V (key := 2621484) (n := 1) (ci := 0) (y := yX0_choose) (C := RX0) (T := TX0) (N := 21) rfl q641 q642 q643 q104 q644 (by decide +kernel)
theorem cv_160 : COKV 2621487 rX3_choose 1 3 := cok_V (key := 2621487) (n := 1) (ci := 3) (y := yX3_choose) (C := RX3) (T := TX3) (N := 25) rfl q1373 q1374 q1375 q110 q1376 (by decide +kernel)
theorem cv_161 : COKV 2621488 rX0_rounds 1 0 := cok_V (key := 2621488) (n := 1) (ci := 0) (y := yX0_rounds) (C := RX0) (T := TX0) (N := 21) rfl q645 q646 q647 q104 q648 (by decide +kernel)
theorem cv_162 : COKV 2621491 rX3_rounds 1 3 := cok_V (key := 2621491) (n := 1) (ci := 3) (y := yX3_rounds) (C := RX3) (T := TX3) (N := 25) rfl q1197 q1198 q1199 q110 q1200 (by decide +kernel)
theorem cv_163 : COKV 2621492 rX0_execute 0 0 := cok_VW (key := 2621492) (n := 0) (ci := 0) (y := yX0_execute) (C := RX0) (T := TX0) (N := 21) rfl q906 q907 q908 q104 q909 (by decide +kernel)
theorem cv_164 : COKV 2621496 rX3_execute 0 3 := cok_V (key := 2621496) (n := 0) (ci := 3) (y := yX3_execute) (C := RX3) (T := TX3) (N := 25) rfl q1377 q1378 q1379 q110 q1380 (by decide +kernel)
theorem cv_165 : COKV 2621497 rX0_refusal 1 0 := cok_V (key := 2621497) (n := 1) (ci := 0) (y := yX0_refusal) (C := RX0) (T := TX0) (N := 21) rfl q974 q975 q976 q104 q977 (by decide +kernel)
theorem cv_166 : COKV 2621500 rX3_refusal_2 1 3 := cok_V (key := 2621500) (n := 1) (ci := 3) (y := yX3_refusal_2) (C := RX3) (T := TX3) (N := 25) rfl q1397 q1398 q1399 q110 q1400 (by decide +kernel)
theorem cv_167 : COKV 2621501 rX0_member 2 0 := cok_V (key := 2621501) (n := 2) (ci := 0) (y := yX0_member) (C := RX0) (T := TX0) (N := 21) rfl q978 q979 q980 q104 q981 (by decide +kernel)
theorem cv_168 : COKV 2621504 rX3_member 2 3 := cok_V (key := 2621504) (n := 2) (ci := 3) (y := yX3_member) (C := RX3) (T := TX3) (N := 25) rfl q1401 q1402 q1403 q110 q1404 (by decide +kernel)
theorem cv_169 : COKV 2621505 rX0_swarm 1 0 := cok_V (key := 2621505) (n := 1) (ci := 0) (y := yX0_swarm) (C := RX0) (T := TX0) (N := 21) rfl q986 q987 q988 q104 q989 (by decide +kernel)
theorem cv_170 : COKV 2621508 rX3_swarm 1 3 := cok_V (key := 2621508) (n := 1) (ci := 3) (y := yX3_swarm) (C := RX3) (T := TX3) (N := 25) rfl q1405 q1406 q1407 q110 q1408 (by decide +kernel)
theorem cv_171 : COKV 2621509 rX0_cell 2 0 := cok_V (key := 2621509) (n := 2) (ci := 0) (y := yX0_cell) (C := RX0) (T := TX0) (N := 21) rfl q1002 q1003 q1004 q104 q1005 (by decide +kernel)
theorem cv_172 : COKV 2621512 rX3_cell 2 3 := cok_V (key := 2621512) (n := 2) (ci := 3) (y := yX3_cell) (C := RX3) (T := TX3) (N := 25) rfl q1413 q1414 q1415 q110 q1416 (by decide +kernel)
theorem cv_173 : COKV 2621513 rX0_distance 2 0 := cok_V (key := 2621513) (n := 2) (ci := 0) (y := yX0_distance) (C := RX0) (T := TX0) (N := 21) rfl q1018 q1019 q1020 q104 q1021 (by decide +kernel)
theorem cv_174 : COKV 2621516 rX3_distance 2 3 := cok_V (key := 2621516) (n := 2) (ci := 3) (y := yX3_distance) (C := RX3) (T := TX3) (N := 25) rfl q1425 q1426 q1427 q110 q1428 (by decide +kernel)
theorem cv_175 : COKV 2621517 rX0_slot 2 0 := cok_V (key := 2621517) (n := 2) (ci := 0) (y := yX0_slot) (C := RX0) (T := TX0) (N := 21) rfl q1022 q1023 q1024 q104 q1025 (by decide +kernel)
theorem cv_176 : COKV 2621520 rX3_slot 2 3 := cok_V (key := 2621520) (n := 2) (ci := 3) (y := yX3_slot) (C := RX3) (T := TX3) (N := 25) rfl q1429 q1430 q1431 q110 q1432 (by decide +kernel)
theorem cv_177 : COKV 2621521 rX0_recognized 1 0 := cok_V (key := 2621521) (n := 1) (ci := 0) (y := yX0_recognized) (C := RX0) (T := TX0) (N := 21) rfl q1036 q1037 q1038 q104 q1039 (by decide +kernel)
theorem cv_178 : COKV 2621524 rX3_recognized 1 3 := cok_V (key := 2621524) (n := 1) (ci := 3) (y := yX3_recognized) (C := RX3) (T := TX3) (N := 25) rfl q1433 q1434 q1435 q110 q1436 (by decide +kernel)
theorem cv_179 : COKV 2621525 rX0_healed 1 0 := cok_V (key := 2621525) (n := 1) (ci := 0) (y := yX0_healed) (C := RX0) (T := TX0) (N := 21) rfl q1057 q1058 q1059 q104 q1060 (by decide +kernel)
theorem cv_180 : COKV 2621528 rX3_healed 1 3 := cok_V (key := 2621528) (n := 1) (ci := 3) (y := yX3_healed) (C := RX3) (T := TX3) (N := 25) rfl q1445 q1446 q1447 q110 q1448 (by decide +kernel)
theorem cv_181 : COKV 2621529 rX0_healedWithout 2 0 := cok_V (key := 2621529) (n := 2) (ci := 0) (y := yX0_healedWithout) (C := RX0) (T := TX0) (N := 21) rfl q1069 q1070 q1071 q104 q1072 (by decide +kernel)
theorem cv_182 : COKV 2621532 rX3_healedWithout 2 3 := cok_V (key := 2621532) (n := 2) (ci := 3) (y := yX3_healedWithout) (C := RX3) (T := TX3) (N := 25) rfl q1453 q1454 q1455 q110 q1456 (by decide +kernel)
theorem cv_183 : COKV 2621533 rX0_again 0 0 := cok_V (key := 2621533) (n := 0) (ci := 0) (y := yX0_again) (C := RX0) (T := TX0) (N := 21) rfl q1073 q1074 q1075 q104 q1076 (by decide +kernel)
theorem cv_184 : COKV 2621536 rX3_again 0 3 := cok_V (key := 2621536) (n := 0) (ci := 3) (y := yX3_again) (C := RX3) (T := TX3) (N := 25) rfl q1457 q1458 q1459 q110 q1460 (by decide +kernel)
theorem cv_185 : COKV 2621537 rX0_account 1 0 := cok_V (key := 2621537) (n := 1) (ci := 0) (y := yX0_account) (C := RX0) (T := TX0) (N := 21) rfl q1087 q1088 q1089 q104 q1090 (by decide +kernel)
theorem cv_186 : COKV 2621540 rX3_account 1 3 := cok_V (key := 2621540) (n := 1) (ci := 3) (y := yX3_account) (C := RX3) (T := TX3) (N := 25) rfl q1461 q1462 q1463 q110 q1464 (by decide +kernel)
theorem cv_187 : COKV 2621541 rX0_back 0 0 := cok_V (key := 2621541) (n := 0) (ci := 0) (y := yX0_back) (C := RX0) (T := TX0) (N := 21) rfl q1091 q1092 q1093 q104 q1094 (by decide +kernel)
theorem cv_188 : COKV 2621544 rX3_back 0 3 := cok_V (key := 2621544) (n := 0) (ci := 3) (y := yX3_back) (C := RX3) (T := TX3) (N := 25) rfl q1465 q1466 q1467 q110 q1468 (by decide +kernel)
theorem cv_189 : COKV 2621545 rX0_image 0 0 := cok_V (key := 2621545) (n := 0) (ci := 0) (y := yX0_image) (C := RX0) (T := TX0) (N := 21) rfl q1099 q1100 q1101 q104 q1102 (by decide +kernel)
theorem cv_190 : COKV 2621548 rX3_image 0 3 := cok_V (key := 2621548) (n := 0) (ci := 3) (y := yX3_image) (C := RX3) (T := TX3) (N := 25) rfl q1469 q1470 q1471 q110 q1472 (by decide +kernel)
theorem cv_191 : COKV 2621549 rX0_undo 0 0 := cok_V (key := 2621549) (n := 0) (ci := 0) (y := yX0_undo) (C := RX0) (T := TX0) (N := 21) rfl q1103 q1104 q1105 q104 q1106 (by decide +kernel)
theorem cv_192 : COKV 2621552 rX3_undo 0 3 := cok_V (key := 2621552) (n := 0) (ci := 3) (y := yX3_undo) (C := RX3) (T := TX3) (N := 25) rfl q1473 q1474 q1475 q110 q1476 (by decide +kernel)
theorem cv_193 : COKV 2621553 rX0_count 1 0 := cok_V (key := 2621553) (n := 1) (ci := 0) (y := yX0_count) (C := RX0) (T := TX0) (N := 21) rfl q1107 q1108 q1109 q104 q1110 (by decide +kernel)
theorem cv_194 : COKV 2621556 rX3_count 1 3 := cok_V (key := 2621556) (n := 1) (ci := 3) (y := yX3_count) (C := RX3) (T := TX3) (N := 25) rfl q1477 q1478 q1479 q110 q1480 (by decide +kernel)
theorem tV_ok : ∀ q ∈ tV, COKV q.1 q.2.1 q.2.2.1 q.2.2.2 ∧ MOK q.2.1 ∧ q.2.2.1 + 1 ≤ rL q.2.1 := (fa ⟨cv_0, mok_X8_sum, by decide⟩ (fa ⟨cv_1, mok_X1_leads, by decide⟩ (fa ⟨cv_2, mok_X7_size, by decide⟩ (fa ⟨cv_3, mok_X0_lays, by decide⟩ (fa ⟨cv_4, mok_X0_laysPlaces, by decide⟩ (fa ⟨cv_5, mok_X8_gives, by decide⟩ (fa ⟨cv_6, mok_X0_distanceOf, by decide⟩ (fa ⟨cv_7, mok_X0_gives, by decide⟩ (fa ⟨cv_8, mok_X0_distances, by decide⟩ (fa ⟨cv_9, mok_X0_given, by decide⟩ (fa ⟨cv_10, mok_X1_moves, by decide⟩ (fa ⟨cv_11, mok_X0_steps, by decide⟩ (fa ⟨cv_12, mok_X0_waits, by decide⟩ (fa ⟨cv_13, mok_X0_isGood, by decide⟩ (fa ⟨cv_14, mok_X1_isFree, by decide⟩ (fa ⟨cv_15, mok_X0_gains, by decide⟩ (fa ⟨cv_16, mok_X0_asideOf, by decide⟩ (fa ⟨cv_17, mok_X0_freeFor, by decide⟩ (fa ⟨cv_18, mok_X0_partnerOf, by decide⟩ (fa ⟨cv_19, mok_X0_waitsOrGoes, by decide⟩ (fa ⟨cv_20, mok_X1_exchanges, by decide⟩ (fa ⟨cv_21, mok_X0_isExchanged, by decide⟩ (fa ⟨cv_22, mok_X0_leaderActs, by decide⟩ (fa ⟨cv_23, mok_X0_begins, by decide⟩ (fa ⟨cv_24, mok_J11_add, by decide⟩ (fa ⟨cv_25, mok_J2_clear, by decide⟩ (fa ⟨cv_26, mok_J0_isEmpty, by decide⟩ (fa ⟨cv_27, mok_J10_remove, by decide⟩ (fa ⟨cv_28, mok_J2_add, by decide⟩ (fa ⟨cv_29, mok_J2_size, by decide⟩ (fa ⟨cv_30, mok_J2_get, by decide⟩ (fa ⟨cv_31, mok_X0_acts, by decide⟩ (fa ⟨cv_32, mok_J2_remove, by decide⟩ (fa ⟨cv_33, mok_X0_added, by decide⟩ (fa ⟨cv_34, mok_X0_againstAdding, by decide⟩ (fa ⟨cv_35, mok_X0_changes, by decide⟩ (fa ⟨cv_36, mok_X0_adds, by decide⟩ (fa ⟨cv_37, mok_X1_isMember, by decide⟩ (fa ⟨cv_38, mok_X1_loses, by decide⟩ (fa ⟨cv_39, mok_X1_many, by decide⟩ (fa ⟨cv_40, mok_X0_turns, by decide⟩ (fa ⟨cv_41, mok_X5_shape, by decide⟩ (fa ⟨cv_42, mok_X0_round, by decide⟩ (fa ⟨cv_43, mok_X0_notesCells, by decide⟩ (fa ⟨cv_44, mok_X0_makes, by decide⟩ (fa ⟨cv_45, mok_X0_elsewhere, by decide⟩ (fa ⟨cv_46, mok_X9_against, by decide⟩ (fa ⟨cv_47, mok_X9_does, by decide⟩ (fa ⟨cv_48, mok_X5_commands, by decide⟩ (fa ⟨cv_49, mok_X0_carriesOut, by decide⟩ (fa ⟨cv_50, mok_X0_placeOf, by decide⟩ (fa ⟨cv_51, mok_X0_isFormed, by decide⟩ (fa ⟨cv_52, mok_X0_slotAt, by decide⟩ (fa ⟨cv_53, mok_X0_wayOf, by decide⟩ (fa ⟨cv_54, mok_X0_openAround, by decide⟩ (fa ⟨cv_55, mok_X0_isShape, by decide⟩ (fa ⟨cv_56, mok_X7_told, by decide⟩ (fa ⟨cv_57, mok_X7_lies, by decide⟩ (fa ⟨cv_58, mok_X0_isSeen, by decide⟩ (fa ⟨cv_59, mok_X0_formsWithin, by decide⟩ (fa ⟨cv_60, mok_X0_thinks, by decide⟩ (fa ⟨cv_61, mok_X0_givesTo, by decide⟩ (fa ⟨cv_62, mok_X0_goesOn, by decide⟩ (fa ⟨cv_63, mok_J2_isEmpty, by decide⟩ (fa ⟨cv_64, mok_X0_shapes, by decide⟩ (fa ⟨cv_65, mok_X1_becomes, by decide⟩ (fa ⟨cv_66, mok_X1_isMember, by decide⟩ (fa ⟨cv_67, mok_X0_distanceOf, by decide⟩ (fa ⟨cv_68, mok_X2_compare_2, by decide⟩ (fa ⟨cv_69, mok_X3_copies, by decide⟩ (fa ⟨cv_70, mok_X3_of, by decide⟩ (fa ⟨cv_71, mok_X3_isMember, by decide⟩ (fa ⟨cv_72, mok_X3_isBlocked, by decide⟩ (fa ⟨cv_73, mok_X3_floods, by decide⟩ (fa ⟨cv_74, mok_X3_anchor, by decide⟩ (fa ⟨cv_75, mok_X3_leader, by decide⟩ (fa ⟨cv_76, mok_X3_column, by decide⟩ (fa ⟨cv_77, mok_X3_rowOf, by decide⟩ (fa ⟨cv_78, mok_X3_slots, by decide⟩ (fa ⟨cv_79, mok_X3_placeOf, by decide⟩ (fa ⟨cv_80, mok_X3_reckons, by decide⟩ (fa ⟨cv_81, mok_X3_gives, by decide⟩ (fa ⟨cv_82, mok_X3_lays, by decide⟩ (fa ⟨cv_83, mok_X3_counts, by decide⟩ (fa ⟨cv_84, mok_X3_on, by decide⟩ (fa ⟨cv_85, mok_X3_waits, by decide⟩ (fa ⟨cv_86, mok_X3_goes, by decide⟩ (fa ⟨cv_87, mok_X3_mayExchange, by decide⟩ (fa ⟨cv_88, mok_X3_steps, by decide⟩ (fa ⟨cv_89, mok_X3_exchanges, by decide⟩ (fa ⟨cv_90, mok_X3_stepsAside, by decide⟩ (fa ⟨cv_91, mok_X3_leads, by decide⟩ (fa ⟨cv_92, mok_X3_acts, by decide⟩ (fa ⟨cv_93, mok_X3_round, by decide⟩ (fa ⟨cv_94, mok_X3_keeps, by decide⟩ (fa ⟨cv_95, mok_X3_makes, by decide⟩ (fa ⟨cv_96, mok_X3_members, by decide⟩ (fa ⟨cv_97, mok_X3_opens, by decide⟩ (fa ⟨cv_98, mok_X3_goesLost, by decide⟩ (fa ⟨cv_99, mok_X3_turnsBlocked, by decide⟩ (fa ⟨cv_100, mok_X3_here, by decide⟩ (fa ⟨cv_101, mok_X3_readsShape, by decide⟩ (fa ⟨cv_102, mok_X3_number, by decide⟩ (fa ⟨cv_103, mok_X3_order, by decide⟩ (fa ⟨cv_104, mok_X3_refusal, by decide⟩ (fa ⟨cv_105, mok_X3_carries, by decide⟩ (fa ⟨cv_106, mok_X3_isFormed, by decide⟩ (fa ⟨cv_107, mok_X3_slotAt, by decide⟩ (fa ⟨cv_108, mok_X3_distanceOf, by decide⟩ (fa ⟨cv_109, mok_X3_turnsRound, by decide⟩ (fa ⟨cv_110, mok_X3_isLike, by decide⟩ (fa ⟨cv_111, mok_X3_forms, by decide⟩ (fa ⟨cv_112, mok_X5_sign, by decide⟩ (fa ⟨cv_113, mok_X5_isSlot, by decide⟩ (fa ⟨cv_114, mok_X5_need, by decide⟩ (fa ⟨cv_115, mok_X5_shapeRow, by decide⟩ (fa ⟨cv_116, mok_X5_number, by decide⟩ (fa ⟨cv_117, mok_X5_command, by decide⟩ (fa ⟨cv_118, mok_J2_add, by decide⟩ (fa ⟨cv_119, mok_X7_size, by decide⟩ (fa ⟨cv_120, mok_X7_turnedColumn, by decide⟩ (fa ⟨cv_121, mok_X7_turnedRow, by decide⟩ (fa ⟨cv_122, mok_X0_isGiveable, by decide⟩ (fa ⟨cv_123, mok_X8_with, by decide⟩ (fa ⟨cv_124, mok_X8_sum, by decide⟩ (fa ⟨cv_125, mok_X8_gives, by decide⟩ (fa ⟨cv_126, mok_X0_againstAdding, by decide⟩ (fa ⟨cv_127, mok_X9_isThere, by decide⟩ (fa ⟨cv_128, mok_X9_cell, by decide⟩ (fa ⟨cv_129, mok_X1_leads, by decide⟩ (fa ⟨cv_130, mok_X1_isMember, by decide⟩ (fa ⟨cv_131, mok_X0_adds, by decide⟩ (fa ⟨cv_132, mok_X0_turns, by decide⟩ (fa ⟨cv_133, mok_X1_loses, by decide⟩ (fa ⟨cv_134, mok_X0_makes, by decide⟩ (fa ⟨cv_135, mok_J11_size, by decide⟩ (fa ⟨cv_136, mok_J2_grow_2, by decide⟩ (fa ⟨cv_137, mok_J2_elementData, by decide⟩ (fa ⟨cv_138, mok_J2_grow, by decide⟩ (fa ⟨cv_139, mok_J2_add_2, by decide⟩ (fa ⟨cv_140, mok_J2_fastRemove, by decide⟩ (fa ⟨cv_141, mok_J11_poll, by decide⟩ (fa ⟨cv_142, mok_J11_offer, by decide⟩ (fa ⟨cv_143, mok_J11_grow, by decide⟩ (fa ⟨cv_144, mok_J11_siftUp, by decide⟩ (fa ⟨cv_145, mok_X0_add, by decide⟩ (fa ⟨cv_146, mok_X3_add, by decide⟩ (fa ⟨cv_147, mok_X0_lose, by decide⟩ (fa ⟨cv_148, mok_X3_lose, by decide⟩ (fa ⟨cv_149, mok_X0_lead, by decide⟩ (fa ⟨cv_150, mok_X3_lead, by decide⟩ (fa ⟨cv_151, mok_X0_target, by decide⟩ (fa ⟨cv_152, mok_X3_target, by decide⟩ (fa ⟨cv_153, mok_X0_obstacle, by decide⟩ (fa ⟨cv_154, mok_X3_obstacle, by decide⟩ (fa ⟨cv_155, mok_X0_feed, by decide⟩ (fa ⟨cv_156, mok_X3_feed, by decide⟩ (fa ⟨cv_157, mok_X0_shape, by decide⟩ (fa ⟨cv_158, mok_X3_shape, by decide⟩ (fa ⟨cv_159, mok_X0_choose, by decide⟩ (fa ⟨cv_160, mok_X3_choose, by decide⟩ (fa ⟨cv_161, mok_X0_rounds, by decide⟩ (fa ⟨cv_162, mok_X3_rounds, by decide⟩ (fa ⟨cv_163, mok_X0_execute, by decide⟩ (fa ⟨cv_164, mok_X3_execute, by decide⟩ (fa ⟨cv_165, mok_X0_refusal, by decide⟩ (fa ⟨cv_166, mok_X3_refusal_2, by decide⟩ (fa ⟨cv_167, mok_X0_member, by decide⟩ (fa ⟨cv_168, mok_X3_member, by decide⟩ (fa ⟨cv_169, mok_X0_swarm, by decide⟩ (fa ⟨cv_170, mok_X3_swarm, by decide⟩ (fa ⟨cv_171, mok_X0_cell, by decide⟩ (fa ⟨cv_172, mok_X3_cell, by decide⟩ (fa ⟨cv_173, mok_X0_distance, by decide⟩ (fa ⟨cv_174, mok_X3_distance, by decide⟩ (fa ⟨cv_175, mok_X0_slot, by decide⟩ (fa ⟨cv_176, mok_X3_slot, by decide⟩ (fa ⟨cv_177, mok_X0_recognized, by decide⟩ (fa ⟨cv_178, mok_X3_recognized, by decide⟩ (fa ⟨cv_179, mok_X0_healed, by decide⟩ (fa ⟨cv_180, mok_X3_healed, by decide⟩ (fa ⟨cv_181, mok_X0_healedWithout, by decide⟩ (fa ⟨cv_182, mok_X3_healedWithout, by decide⟩ (fa ⟨cv_183, mok_X0_again, by decide⟩ (fa ⟨cv_184, mok_X3_again, by decide⟩ (fa ⟨cv_185, mok_X0_account, by decide⟩ (fa ⟨cv_186, mok_X3_account, by decide⟩ (fa ⟨cv_187, mok_X0_back, by decide⟩ (fa ⟨cv_188, mok_X3_back, by decide⟩ (fa ⟨cv_189, mok_X0_image, by decide⟩ (fa ⟨cv_190, mok_X3_image, by decide⟩ (fa ⟨cv_191, mok_X0_undo, by decide⟩ (fa ⟨cv_192, mok_X3_undo, by decide⟩ (fa ⟨cv_193, mok_X0_count, by decide⟩ (fa ⟨cv_194, mok_X3_count, by decide⟩ fnil)))))))))))))))))))))))))))))))))))))))))))))))))))))))))))))))))))))))))))))))))))))))))))))))))))))))))))))))))))))))))))))))))))))))))))))))))))))))))))))))))))))))))))))))))))))))))))))))))))
theorem cf_0 : COKF 2031765 rX2_compare 2 2 := cok_F (key := 2031765) q797 q803 q801 q109 q805
theorem tF5_ok : ∀ q ∈ tF5, COKF q.1 q.2.1 q.2.2.1 q.2.2.2 ∧ MOK q.2.1 ∧ q.2.2.1 + 1 ≤ rL q.2.1 := (fa ⟨cf_0, mok_X2_compare, by decide⟩ fnil)
theorem cI_0 : COKI 101 rX8_init 3 := cok_I (key := 101) (n := 3) (y := yX8_init) q702 q703 q123 q704 rfl (by decide +kernel)
theorem cI_1 : COKI 205 rJ11_init 2 := cok_I (key := 205) (n := 2) (y := yJ11_init) q746 q747 q125 q748 rfl (by decide +kernel)
theorem cI_2 : COKI 245 rX1_init 0 := cok_I (key := 245) (n := 0) (y := yX1_init) q137 q138 q105 q139 rfl (by decide +kernel)
theorem cI_3 : COKI 253 rJ2_init 0 := cok_I (key := 253) (n := 0) (y := yJ2_init) q187 q188 q108 q189 rfl (by decide +kernel)
theorem cI_4 : COKI 256 rX2_init 1 := cok_IN (key := 256) (n := 1) (y := yX2_init) (nw_q q213 rfl) q214 q109 q215 rfl (by decide +kernel)
theorem cI_5 : COKI 281 rX1_init_2 1 := cok_I (key := 281) (n := 1) (y := yX1_init_2) q312 q313 q105 q314 rfl (by decide +kernel)
theorem cI_6 : COKI 289 rX4_init_2 2 := cok_I (key := 289) (n := 2) (y := yX4_init_2) q446 q328 q112 q329 rfl (by decide +kernel)
theorem cI_7 : COKI 331 rX5_init 1 := cok_IN (key := 331) (n := 1) (y := yX5_init) (nw_q q509 rfl) q510 q118 q511 rfl (by decide +kernel)
theorem cI_8 : COKI 65577 rX1_init 0 := cok_I (key := 65577) (n := 0) (y := yX1_init) q315 q138 q105 q139 rfl (by decide +kernel)
theorem cI_9 : COKI 65588 rX4_init 1 := cok_I (key := 65588) (n := 1) (y := yX4_init) q324 q325 q112 q326 rfl (by decide +kernel)
theorem cI_10 : COKI 262165 rX4_init_2 2 := cok_I (key := 262165) (n := 2) (y := yX4_init_2) q327 q328 q112 q329 rfl (by decide +kernel)
theorem cI_11 : COKI 327718 rX6_init 1 := cok_I (key := 327718) (n := 1) (y := yX6_init) q589 q590 q121 q591 rfl (by decide +kernel)
theorem cI_12 : COKI 327741 rX7_init 4 := cok_I (key := 327741) (n := 4) (y := yX7_init) q617 q618 q122 q619 rfl (by decide +kernel)
theorem cI_13 : COKI 327753 rX9_init 4 := cok_I (key := 327753) (n := 4) (y := yX9_init) q927 q928 q126 q929 rfl (by decide +kernel)
theorem cI_14 : COKI 327758 rJ2_init 0 := cok_I (key := 327758) (n := 0) (y := yJ2_init) q915 q188 q108 q189 rfl (by decide +kernel)
theorem cI_15 : COKI 393217 rJ9_init 4 := cok_I (key := 393217) (n := 4) (y := yJ9_init) q592 q593 q120 q594 rfl (by decide +kernel)
theorem cI_16 : COKI 458774 rX7_init_2 3 := cok_I (key := 458774) (n := 3) (y := yX7_init_2) q620 q621 q122 q622 rfl (by decide +kernel)
theorem cI_17 : COKI 1376257 rJ0_init 0 := cok_I (key := 1376257) (n := 0) (y := yJ0_init) q193 q194 q106 q195 rfl (by decide +kernel)
theorem cI_18 : COKI 1441793 rJ1_init 0 := cok_I (key := 1441793) (n := 0) (y := yJ1_init) q190 q191 q107 q192 rfl (by decide +kernel)
theorem cI_19 : COKI 1900560 rJ8_init_2 4 := cok_I (key := 1900560) (n := 4) (y := yJ8_init_2) q595 q596 q119 q597 rfl (by decide +kernel)
theorem cI_20 : COKI 1966081 rJ0_init 0 := cok_I (key := 1966081) (n := 0) (y := yJ0_init) q752 q194 q106 q195 rfl (by decide +kernel)
theorem cI_21 : COKI 2031623 rJ10_init 0 := cok_I (key := 2031623) (n := 0) (y := yJ10_init) q749 q750 q124 q751 rfl (by decide +kernel)
theorem cI_22 : COKI 2621449 rX0_init 0 := cok_I (key := 2621449) (n := 0) (y := yX0_init) q129 q130 q104 q131 rfl (by decide +kernel)
theorem cI_23 : COKI 2621452 rX3_init 0 := cok_I (key := 2621452) (n := 0) (y := yX3_init) q1117 q1118 q110 q1119 rfl (by decide +kernel)
theorem tI_ok : ∀ q ∈ tI, COKI q.1 q.2.1 q.2.2 ∧ MOK q.2.1 ∧ q.2.2 + 1 ≤ rL q.2.1 := (fa ⟨cI_0, mok_X8_init, by decide⟩ (fa ⟨cI_1, mok_J11_init, by decide⟩ (fa ⟨cI_2, mok_X1_init, by decide⟩ (fa ⟨cI_3, mok_J2_init, by decide⟩ (fa ⟨cI_4, mok_X2_init, by decide⟩ (fa ⟨cI_5, mok_X1_init_2, by decide⟩ (fa ⟨cI_6, mok_X4_init_2, by decide⟩ (fa ⟨cI_7, mok_X5_init, by decide⟩ (fa ⟨cI_8, mok_X1_init, by decide⟩ (fa ⟨cI_9, mok_X4_init, by decide⟩ (fa ⟨cI_10, mok_X4_init_2, by decide⟩ (fa ⟨cI_11, mok_X6_init, by decide⟩ (fa ⟨cI_12, mok_X7_init, by decide⟩ (fa ⟨cI_13, mok_X9_init, by decide⟩ (fa ⟨cI_14, mok_J2_init, by decide⟩ (fa ⟨cI_15, mok_J9_init, by decide⟩ (fa ⟨cI_16, mok_X7_init_2, by decide⟩ (fa ⟨cI_17, mok_J0_init, by decide⟩ (fa ⟨cI_18, mok_J1_init, by decide⟩ (fa ⟨cI_19, mok_J8_init_2, by decide⟩ (fa ⟨cI_20, mok_J0_init, by decide⟩ (fa ⟨cI_21, mok_J10_init, by decide⟩ (fa ⟨cI_22, mok_X0_init, by decide⟩ (fa ⟨cI_23, mok_X3_init, by decide⟩ fnil))))))))))))))))))))))))
theorem cs_0 : COKS 3 rX0_in 3 := cok_S (key := 3) (n := 3) (y := yX0_in) q301 q302 q104 q303 (by decide +kernel)
theorem cs_1 : COKS 14 rX0_shifted 3 := cok_S (key := 14) (n := 3) (y := yX0_shifted) q677 q678 q104 q679 (by decide +kernel)
theorem cs_2 : COKS 32 rX0_neighbor 2 := cok_S (key := 32) (n := 2) (y := yX0_neighbor) q670 q671 q104 q672 (by decide +kernel)
theorem cs_3 : COKS 112 rX0_bit 1 := cok_S (key := 112) (n := 1) (y := yX0_bit) q491 q465 q104 q466 (by decide +kernel)
theorem cs_4 : COKS 313 rX0_isCell 1 := cok_S (key := 313) (n := 1) (y := yX0_isCell) q480 q481 q104 q482 (by decide +kernel)
theorem cs_5 : COKS 318 rX0_areSigns 1 := cok_S (key := 318) (n := 1) (y := yX0_areSigns) q496 q497 q104 q498 (by decide +kernel)
theorem cs_6 : COKS 325 rX0_row 1 := cok_S (key := 325) (n := 1) (y := yX0_row) q499 q500 q104 q501 (by decide +kernel)
theorem cs_7 : COKS 65594 rX0_in 3 := cok_SN (key := 65594) (n := 3) (y := yX0_in) (nw_q q455 rfl) q302 q104 q303 (by decide +kernel)
theorem cs_8 : COKS 65598 rX0_bit 1 := cok_SN (key := 65598) (n := 1) (y := yX0_bit) (nw_q q464 rfl) q465 q104 q466 (by decide +kernel)
theorem cs_9 : COKS 196665 rX3_in 3 := cok_S (key := 196665) (n := 3) (y := yX3_in) q1201 q1202 q110 q1203 (by decide +kernel)
theorem cs_10 : COKS 196680 rX3_beside 2 := cok_S (key := 196680) (n := 2) (y := yX3_beside) q1252 q1253 q110 q1254 (by decide +kernel)
theorem cs_11 : COKS 196686 rX3_shapeAt 1 := cok_S (key := 196686) (n := 1) (y := yX3_shapeAt) q1275 q1276 q110 q1277 (by decide +kernel)
theorem cs_12 : COKS 196774 rX3_isCell 1 := cok_S (key := 196774) (n := 1) (y := yX3_isCell) q1350 q1351 q110 q1352 (by decide +kernel)
theorem cs_13 : COKS 327744 rX0_in 3 := cok_SN (key := 327744) (n := 3) (y := yX0_in) (nw_q q924 rfl) q302 q104 q303 (by decide +kernel)
theorem cs_14 : COKS 458781 rX0_in 3 := cok_SN (key := 458781) (n := 3) (y := yX0_in) (nw_q q1035 rfl) q302 q104 q303 (by decide +kernel)
theorem cs_15 : COKS 458792 rX0_shifted 3 := cok_SN (key := 458792) (n := 3) (y := yX0_shifted) (nw_q q1056 rfl) q678 q104 q679 (by decide +kernel)
theorem cs_16 : COKS 524325 rJ5_fill 2 := cok_S (key := 524325) (n := 2) (y := yJ5_fill) q706 q707 q115 q708 (by decide +kernel)
theorem cs_17 : COKS 524337 rX0_best 2 := cok_SN (key := 524337) (n := 2) (y := yX0_best) (nw_q q730 rfl) q731 q104 q732 (by decide +kernel)
theorem cs_18 : COKS 589849 rX0_in 3 := cok_SN (key := 589849) (n := 3) (y := yX0_in) (nw_q q959 rfl) q302 q104 q303 (by decide +kernel)
theorem cs_19 : COKS 1441858 rJ5_copyOf 2 := cok_S (key := 1441858) (n := 2) (y := yJ5_copyOf) q391 q392 q115 q393 (by decide +kernel)
theorem cs_20 : COKS 1441865 rJ3_newLength 3 := cok_S (key := 1441865) (n := 3) (y := yJ3_newLength) q381 q382 q113 q383 (by decide +kernel)
theorem cs_21 : COKS 1441910 rJ6_checkIndex 2 := cok_S (key := 1441910) (n := 2) (y := yJ6_checkIndex) q430 q431 q116 q432 (by decide +kernel)
theorem cs_22 : COKS 1507529 rJ3_hugeLength 2 := cok_S (key := 1507529) (n := 2) (y := yJ3_hugeLength) q388 q389 q113 q390 (by decide +kernel)
theorem cs_23 : COKS 1638700 rJ5_copyOf_2 3 := cok_S (key := 1638700) (n := 3) (y := yJ5_copyOf_2) q410 q411 q115 q412 (by decide +kernel)
theorem cs_24 : COKS 1704041 rJ7_checkIndex 3 := cok_S (key := 1704041) (n := 3) (y := yJ7_checkIndex) q433 q434 q117 q435 (by decide +kernel)
theorem cs_25 : COKS 2031696 rJ3_newLength 3 := cok_S (key := 2031696) (n := 3) (y := yJ3_newLength) q787 q382 q113 q383 (by decide +kernel)
theorem cs_26 : COKS 2031702 rJ5_copyOf 2 := cok_S (key := 2031702) (n := 2) (y := yJ5_copyOf) q788 q392 q115 q393 (by decide +kernel)
theorem cs_27 : COKS 2031741 rJ11_siftDownComparable 4 := cok_S (key := 2031741) (n := 4) (y := yJ11_siftDownComparable) q848 q849 q125 q850 (by decide +kernel)
theorem cs_28 : COKS 2031745 rJ11_siftDownUsingComparator 5 := cok_S (key := 2031745) (n := 5) (y := yJ11_siftDownUsingComparator) q851 q852 q125 q853 (by decide +kernel)
theorem cs_29 : COKS 2031752 rJ11_siftUpUsingComparator 4 := cok_S (key := 2031752) (n := 4) (y := yJ11_siftUpUsingComparator) q793 q794 q125 q795 (by decide +kernel)
theorem cs_30 : COKS 2031756 rJ11_siftUpComparable 3 := cok_S (key := 2031756) (n := 3) (y := yJ11_siftUpComparable) q812 q813 q125 q814 (by decide +kernel)
theorem tSt_ok : ∀ q ∈ tSt, COKS q.1 q.2.1 q.2.2 ∧ MOK q.2.1 ∧ q.2.2 ≤ rL q.2.1 := (fa ⟨cs_0, mok_X0_in, by decide⟩ (fa ⟨cs_1, mok_X0_shifted, by decide⟩ (fa ⟨cs_2, mok_X0_neighbor, by decide⟩ (fa ⟨cs_3, mok_X0_bit, by decide⟩ (fa ⟨cs_4, mok_X0_isCell, by decide⟩ (fa ⟨cs_5, mok_X0_areSigns, by decide⟩ (fa ⟨cs_6, mok_X0_row, by decide⟩ (fa ⟨cs_7, mok_X0_in, by decide⟩ (fa ⟨cs_8, mok_X0_bit, by decide⟩ (fa ⟨cs_9, mok_X3_in, by decide⟩ (fa ⟨cs_10, mok_X3_beside, by decide⟩ (fa ⟨cs_11, mok_X3_shapeAt, by decide⟩ (fa ⟨cs_12, mok_X3_isCell, by decide⟩ (fa ⟨cs_13, mok_X0_in, by decide⟩ (fa ⟨cs_14, mok_X0_in, by decide⟩ (fa ⟨cs_15, mok_X0_shifted, by decide⟩ (fa ⟨cs_16, mok_J5_fill, by decide⟩ (fa ⟨cs_17, mok_X0_best, by decide⟩ (fa ⟨cs_18, mok_X0_in, by decide⟩ (fa ⟨cs_19, mok_J5_copyOf, by decide⟩ (fa ⟨cs_20, mok_J3_newLength, by decide⟩ (fa ⟨cs_21, mok_J6_checkIndex, by decide⟩ (fa ⟨cs_22, mok_J3_hugeLength, by decide⟩ (fa ⟨cs_23, mok_J5_copyOf_2, by decide⟩ (fa ⟨cs_24, mok_J7_checkIndex, by decide⟩ (fa ⟨cs_25, mok_J3_newLength, by decide⟩ (fa ⟨cs_26, mok_J5_copyOf, by decide⟩ (fa ⟨cs_27, mok_J11_siftDownComparable, by decide⟩ (fa ⟨cs_28, mok_J11_siftDownUsingComparator, by decide⟩ (fa ⟨cs_29, mok_J11_siftUpUsingComparator, by decide⟩ (fa ⟨cs_30, mok_J11_siftUpComparable, by decide⟩ fnil)))))))))))))))))))))))))))))))
theorem calls_ok : CALLS := ⟨tV_ok, tF5_ok, tI_ok, tSt_ok⟩
theorem snd_run {B : Nat} {sv : Nat → Option Nat} (n : Nat) : Snd B sv n := snd_all tok calls_ok n
