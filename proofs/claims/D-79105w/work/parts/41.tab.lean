/-! METHODS AS RECORDS, CONSTANT POOLS AS TABLES (written by gen/gen_tab.py). A key: 65536 times the number of the pool, and the place in it. -/
set_option maxRecDepth 100000
def tLk {α : Type} : List (Nat × α) → Nat → Option α
  | [], _ => none
  | (k, v) :: r, x => if x = k then some v else tLk r x
abbrev rX0_account : MRec := (yX0_account, cX0_account, 2, (Option.some Jvm.ClassFile.FieldType.int), [], 0)
abbrev rX0_acts : MRec := (yX0_acts, cX0_acts, 4, (Option.none : Option Jvm.ClassFile.FieldType), [], 0)
abbrev rX0_add : MRec := (yX0_add, cX0_add, 4, (Option.some Jvm.ClassFile.FieldType.int), [], 0)
abbrev rX0_added : MRec := (yX0_added, cX0_added, 1, (Option.some Jvm.ClassFile.FieldType.int), [], 0)
abbrev rX0_adds : MRec := (yX0_adds, cX0_adds, 4, (Option.some Jvm.ClassFile.FieldType.int), [], 0)
abbrev rX0_again : MRec := (yX0_again, cX0_again, 6, (Option.some Jvm.ClassFile.FieldType.int), [], 0)
abbrev rX0_againstAdding : MRec := (yX0_againstAdding, cX0_againstAdding, 4, (Option.some Jvm.ClassFile.FieldType.int), [], 0)
abbrev rX0_areSigns : MRec := (yX0_areSigns, cX0_areSigns, 5, (Option.some Jvm.ClassFile.FieldType.boolean), [], 0)
abbrev rX0_asideOf : MRec := (yX0_asideOf, cX0_asideOf, 4, (Option.some Jvm.ClassFile.FieldType.int), [], 0)
abbrev rX0_back : MRec := (yX0_back, cX0_back, 1, (Option.some Jvm.ClassFile.FieldType.int), [], 0)
abbrev rX0_begins : MRec := (yX0_begins, cX0_begins, 3, (Option.none : Option Jvm.ClassFile.FieldType), [], 0)
abbrev rX0_best : MRec := (yX0_best, cX0_best, 2, (Option.some Jvm.ClassFile.FieldType.int), [], 0)
abbrev rX0_bit : MRec := (yX0_bit, cX0_bit, 1, (Option.some Jvm.ClassFile.FieldType.int), [], 0)
abbrev rX0_carriesOut : MRec := (yX0_carriesOut, cX0_carriesOut, 5, (Option.some Jvm.ClassFile.FieldType.int), [], 0)
abbrev rX0_cell : MRec := (yX0_cell, cX0_cell, 3, (Option.some Jvm.ClassFile.FieldType.int), [], 0)
abbrev rX0_changes : MRec := (yX0_changes, cX0_changes, 2, (Option.none : Option Jvm.ClassFile.FieldType), [], 0)
abbrev rX0_choose : MRec := (yX0_choose, cX0_choose, 3, (Option.some Jvm.ClassFile.FieldType.int), [], 0)
abbrev rX0_count : MRec := (yX0_count, cX0_count, 2, (Option.some Jvm.ClassFile.FieldType.int), [], 0)
abbrev rX0_distance : MRec := (yX0_distance, cX0_distance, 3, (Option.some Jvm.ClassFile.FieldType.int), [], 0)
abbrev rX0_distanceOf : MRec := (yX0_distanceOf, cX0_distanceOf, 2, (Option.some Jvm.ClassFile.FieldType.int), [], 0)
abbrev rX0_distances : MRec := (yX0_distances, cX0_distances, 3, (Option.some Jvm.ClassFile.FieldType.int), [], 0)
abbrev rX0_elsewhere : MRec := (yX0_elsewhere, cX0_elsewhere, 3, (Option.some Jvm.ClassFile.FieldType.int), [], 0)
abbrev rX0_execute : MRec := (yX0_execute, cX0_execute, 4, (Option.some Jvm.ClassFile.FieldType.int), [((0 : Nat), (16 : Nat), (23 : Nat), (335 : Nat)), ((0 : Nat), (16 : Nat), (39 : Nat), (0 : Nat)), ((23 : Nat), (32 : Nat), (39 : Nat), (0 : Nat))], 0)
abbrev rX0_feed : MRec := (yX0_feed, cX0_feed, 9, (Option.some Jvm.ClassFile.FieldType.int), [], 0)
abbrev rX0_formsWithin : MRec := (yX0_formsWithin, cX0_formsWithin, 3, (Option.some Jvm.ClassFile.FieldType.int), [], 0)
abbrev rX0_freeFor : MRec := (yX0_freeFor, cX0_freeFor, 4, (Option.some Jvm.ClassFile.FieldType.int), [], 0)
abbrev rX0_gains : MRec := (yX0_gains, cX0_gains, 3, (Option.some Jvm.ClassFile.FieldType.boolean), [], 0)
abbrev rX0_given : MRec := (yX0_given, cX0_given, 3, (Option.some Jvm.ClassFile.FieldType.int), [], 0)
abbrev rX0_gives : MRec := (yX0_gives, cX0_gives, 4, (Option.none : Option Jvm.ClassFile.FieldType), [], 0)
abbrev rX0_givesTo : MRec := (yX0_givesTo, cX0_givesTo, 5, (Option.none : Option Jvm.ClassFile.FieldType), [], 0)
abbrev rX0_goesOn : MRec := (yX0_goesOn, cX0_goesOn, 3, (Option.none : Option Jvm.ClassFile.FieldType), [], 0)
abbrev rX0_healed : MRec := (yX0_healed, cX0_healed, 2, (Option.some Jvm.ClassFile.FieldType.int), [], 0)
abbrev rX0_healedWithout : MRec := (yX0_healedWithout, cX0_healedWithout, 3, (Option.some Jvm.ClassFile.FieldType.int), [], 0)
abbrev rX0_image : MRec := (yX0_image, cX0_image, 1, (Option.some Jvm.ClassFile.FieldType.int), [], 0)
abbrev rX0_in : MRec := (yX0_in, cX0_in, 3, (Option.some Jvm.ClassFile.FieldType.boolean), [], 0)
abbrev rX0_init : MRec := (yX0_init, cX0_init, 1, (Option.none : Option Jvm.ClassFile.FieldType), [], 0)
abbrev rX0_isCell : MRec := (yX0_isCell, cX0_isCell, 1, (Option.some Jvm.ClassFile.FieldType.boolean), [], 0)
abbrev rX0_isExchanged : MRec := (yX0_isExchanged, cX0_isExchanged, 2, (Option.none : Option Jvm.ClassFile.FieldType), [], 0)
abbrev rX0_isFormed : MRec := (yX0_isFormed, cX0_isFormed, 2, (Option.some Jvm.ClassFile.FieldType.boolean), [], 0)
abbrev rX0_isGiveable : MRec := (yX0_isGiveable, cX0_isGiveable, 4, (Option.some Jvm.ClassFile.FieldType.boolean), [], 0)
abbrev rX0_isGood : MRec := (yX0_isGood, cX0_isGood, 3, (Option.some Jvm.ClassFile.FieldType.boolean), [], 0)
abbrev rX0_isSeen : MRec := (yX0_isSeen, cX0_isSeen, 5, (Option.some Jvm.ClassFile.FieldType.boolean), [], 0)
abbrev rX0_isShape : MRec := (yX0_isShape, cX0_isShape, 2, (Option.some Jvm.ClassFile.FieldType.boolean), [], 0)
abbrev rX0_lays : MRec := (yX0_lays, cX0_lays, 7, (Option.none : Option Jvm.ClassFile.FieldType), [], 0)
abbrev rX0_laysPlaces : MRec := (yX0_laysPlaces, cX0_laysPlaces, 5, (Option.none : Option Jvm.ClassFile.FieldType), [], 0)
abbrev rX0_lead : MRec := (yX0_lead, cX0_lead, 3, (Option.some Jvm.ClassFile.FieldType.int), [], 0)
abbrev rX0_leaderActs : MRec := (yX0_leaderActs, cX0_leaderActs, 4, (Option.some Jvm.ClassFile.FieldType.int), [], 0)
abbrev rX0_lose : MRec := (yX0_lose, cX0_lose, 2, (Option.some Jvm.ClassFile.FieldType.int), [], 0)
abbrev rX0_makes : MRec := (yX0_makes, cX0_makes, 3, (Option.none : Option Jvm.ClassFile.FieldType), [], 0)
abbrev rX0_member : MRec := (yX0_member, cX0_member, 4, (Option.some Jvm.ClassFile.FieldType.int), [], 0)
abbrev rX0_neighbor : MRec := (yX0_neighbor, cX0_neighbor, 2, (Option.some Jvm.ClassFile.FieldType.int), [], 0)
abbrev rX0_notesCells : MRec := (yX0_notesCells, cX0_notesCells, 2, (Option.none : Option Jvm.ClassFile.FieldType), [], 0)
abbrev rX0_obstacle : MRec := (yX0_obstacle, cX0_obstacle, 2, (Option.some Jvm.ClassFile.FieldType.int), [], 0)
abbrev rX0_openAround : MRec := (yX0_openAround, cX0_openAround, 5, (Option.some Jvm.ClassFile.FieldType.int), [], 0)
abbrev rX0_partnerOf : MRec := (yX0_partnerOf, cX0_partnerOf, 4, (Option.some (Jvm.ClassFile.FieldType.object "SwarmPlanner$Member")), [], 0)
abbrev rX0_placeOf : MRec := (yX0_placeOf, cX0_placeOf, 2, (Option.some Jvm.ClassFile.FieldType.int), [], 0)
abbrev rX0_recognized : MRec := (yX0_recognized, cX0_recognized, 4, (Option.some Jvm.ClassFile.FieldType.int), [], 0)
abbrev rX0_refusal : MRec := (yX0_refusal, cX0_refusal, 2, (Option.some Jvm.ClassFile.FieldType.int), [], 0)
abbrev rX0_round : MRec := (yX0_round, cX0_round, 8, (Option.none : Option Jvm.ClassFile.FieldType), [], 0)
abbrev rX0_rounds : MRec := (yX0_rounds, cX0_rounds, 2, (Option.some Jvm.ClassFile.FieldType.int), [], 0)
abbrev rX0_row : MRec := (yX0_row, cX0_row, 1, (Option.some (Jvm.ClassFile.FieldType.array Jvm.ClassFile.FieldType.int)), [], 0)
abbrev rX0_shape : MRec := (yX0_shape, cX0_shape, 5, (Option.some Jvm.ClassFile.FieldType.int), [((11 : Nat), (42 : Nat), (49 : Nat), (335 : Nat)), ((11 : Nat), (42 : Nat), (65 : Nat), (0 : Nat)), ((49 : Nat), (58 : Nat), (65 : Nat), (0 : Nat)), ((65 : Nat), (67 : Nat), (65 : Nat), (0 : Nat))], 0)
abbrev rX0_shapes : MRec := (yX0_shapes, cX0_shapes, 3, (Option.some Jvm.ClassFile.FieldType.int), [], 0)
abbrev rX0_shifted : MRec := (yX0_shifted, cX0_shifted, 5, (Option.some Jvm.ClassFile.FieldType.int), [], 0)
abbrev rX0_slot : MRec := (yX0_slot, cX0_slot, 3, (Option.some Jvm.ClassFile.FieldType.int), [], 0)
abbrev rX0_slotAt : MRec := (yX0_slotAt, cX0_slotAt, 5, (Option.some Jvm.ClassFile.FieldType.int), [], 0)
abbrev rX0_steps : MRec := (yX0_steps, cX0_steps, 3, (Option.none : Option Jvm.ClassFile.FieldType), [], 0)
abbrev rX0_swarm : MRec := (yX0_swarm, cX0_swarm, 2, (Option.some Jvm.ClassFile.FieldType.int), [], 0)
abbrev rX0_target : MRec := (yX0_target, cX0_target, 3, (Option.some Jvm.ClassFile.FieldType.int), [], 0)
abbrev rX0_thinks : MRec := (yX0_thinks, cX0_thinks, 6, (Option.some Jvm.ClassFile.FieldType.int), [((17 : Nat), (45 : Nat), (53 : Nat), (0 : Nat)), ((53 : Nat), (55 : Nat), (53 : Nat), (0 : Nat))], 0)
abbrev rX0_turns : MRec := (yX0_turns, cX0_turns, 2, (Option.some Jvm.ClassFile.FieldType.int), [], 0)
abbrev rX0_undo : MRec := (yX0_undo, cX0_undo, 1, (Option.some Jvm.ClassFile.FieldType.int), [], 0)
abbrev rX0_waits : MRec := (yX0_waits, cX0_waits, 2, (Option.none : Option Jvm.ClassFile.FieldType), [], 0)
abbrev rX0_waitsOrGoes : MRec := (yX0_waitsOrGoes, cX0_waitsOrGoes, 3, (Option.some Jvm.ClassFile.FieldType.int), [], 0)
abbrev rX0_wayOf : MRec := (yX0_wayOf, cX0_wayOf, 3, (Option.some Jvm.ClassFile.FieldType.int), [], 0)
abbrev rX1_becomes : MRec := (yX1_becomes, cX1_becomes, 3, (Option.none : Option Jvm.ClassFile.FieldType), [], 1)
abbrev rX1_exchanges : MRec := (yX1_exchanges, cX1_exchanges, 4, (Option.none : Option Jvm.ClassFile.FieldType), [], 1)
abbrev rX1_init : MRec := (yX1_init, cX1_init, 2, (Option.none : Option Jvm.ClassFile.FieldType), [], 1)
abbrev rX1_init_2 : MRec := (yX1_init_2, cX1_init_2, 2, (Option.none : Option Jvm.ClassFile.FieldType), [], 1)
abbrev rX1_isFree : MRec := (yX1_isFree, cX1_isFree, 2, (Option.some Jvm.ClassFile.FieldType.boolean), [], 1)
abbrev rX1_isMember : MRec := (yX1_isMember, cX1_isMember, 2, (Option.some Jvm.ClassFile.FieldType.boolean), [], 1)
abbrev rX1_leads : MRec := (yX1_leads, cX1_leads, 2, (Option.some Jvm.ClassFile.FieldType.int), [], 1)
abbrev rX1_loses : MRec := (yX1_loses, cX1_loses, 2, (Option.none : Option Jvm.ClassFile.FieldType), [], 1)
abbrev rX1_many : MRec := (yX1_many, cX1_many, 6, (Option.some Jvm.ClassFile.FieldType.int), [], 1)
abbrev rX1_moves : MRec := (yX1_moves, cX1_moves, 3, (Option.none : Option Jvm.ClassFile.FieldType), [], 1)
abbrev rX2_compare : MRec := (yX2_compare, cX2_compare, 3, (Option.some Jvm.ClassFile.FieldType.int), [], 2)
abbrev rX2_compare_2 : MRec := (yX2_compare_2, cX2_compare_2, 3, (Option.some Jvm.ClassFile.FieldType.int), [], 2)
abbrev rX2_init : MRec := (yX2_init, cX2_init, 2, (Option.none : Option Jvm.ClassFile.FieldType), [], 2)
abbrev rX3_account : MRec := (yX3_account, cX3_account, 4, (Option.some Jvm.ClassFile.FieldType.int), [], 3)
abbrev rX3_acts : MRec := (yX3_acts, cX3_acts, 4, (Option.none : Option Jvm.ClassFile.FieldType), [], 3)
abbrev rX3_add : MRec := (yX3_add, cX3_add, 4, (Option.some Jvm.ClassFile.FieldType.int), [], 3)
abbrev rX3_again : MRec := (yX3_again, cX3_again, 1, (Option.some Jvm.ClassFile.FieldType.int), [], 3)
abbrev rX3_anchor : MRec := (yX3_anchor, cX3_anchor, 2, (Option.some Jvm.ClassFile.FieldType.int), [], 3)
abbrev rX3_back : MRec := (yX3_back, cX3_back, 1, (Option.some Jvm.ClassFile.FieldType.int), [], 3)
abbrev rX3_beside : MRec := (yX3_beside, cX3_beside, 4, (Option.some Jvm.ClassFile.FieldType.int), [], 3)
abbrev rX3_carries : MRec := (yX3_carries, cX3_carries, 6, (Option.none : Option Jvm.ClassFile.FieldType), [], 3)
abbrev rX3_cell : MRec := (yX3_cell, cX3_cell, 5, (Option.some Jvm.ClassFile.FieldType.int), [], 3)
abbrev rX3_choose : MRec := (yX3_choose, cX3_choose, 3, (Option.some Jvm.ClassFile.FieldType.int), [], 3)
abbrev rX3_column : MRec := (yX3_column, cX3_column, 3, (Option.some Jvm.ClassFile.FieldType.int), [], 3)
abbrev rX3_copies : MRec := (yX3_copies, cX3_copies, 4, (Option.none : Option Jvm.ClassFile.FieldType), [], 3)
abbrev rX3_count : MRec := (yX3_count, cX3_count, 4, (Option.some Jvm.ClassFile.FieldType.int), [], 3)
abbrev rX3_counts : MRec := (yX3_counts, cX3_counts, 3, (Option.none : Option Jvm.ClassFile.FieldType), [], 3)
abbrev rX3_distance : MRec := (yX3_distance, cX3_distance, 4, (Option.some Jvm.ClassFile.FieldType.int), [], 3)
abbrev rX3_distanceOf : MRec := (yX3_distanceOf, cX3_distanceOf, 3, (Option.some Jvm.ClassFile.FieldType.int), [], 3)
abbrev rX3_exchanges : MRec := (yX3_exchanges, cX3_exchanges, 8, (Option.some Jvm.ClassFile.FieldType.boolean), [], 3)
abbrev rX3_execute : MRec := (yX3_execute, cX3_execute, 3, (Option.some Jvm.ClassFile.FieldType.int), [], 3)
abbrev rX3_feed : MRec := (yX3_feed, cX3_feed, 8, (Option.some Jvm.ClassFile.FieldType.int), [], 3)
abbrev rX3_floods : MRec := (yX3_floods, cX3_floods, 9, (Option.none : Option Jvm.ClassFile.FieldType), [], 3)
abbrev rX3_forms : MRec := (yX3_forms, cX3_forms, 3, (Option.some Jvm.ClassFile.FieldType.int), [], 3)
abbrev rX3_gives : MRec := (yX3_gives, cX3_gives, 9, (Option.none : Option Jvm.ClassFile.FieldType), [], 3)
abbrev rX3_goes : MRec := (yX3_goes, cX3_goes, 3, (Option.none : Option Jvm.ClassFile.FieldType), [], 3)
abbrev rX3_goesLost : MRec := (yX3_goesLost, cX3_goesLost, 2, (Option.some Jvm.ClassFile.FieldType.int), [], 3)
abbrev rX3_healed : MRec := (yX3_healed, cX3_healed, 3, (Option.some Jvm.ClassFile.FieldType.int), [], 3)
abbrev rX3_healedWithout : MRec := (yX3_healedWithout, cX3_healedWithout, 4, (Option.some Jvm.ClassFile.FieldType.int), [], 3)
abbrev rX3_here : MRec := (yX3_here, cX3_here, 1, (Option.some Jvm.ClassFile.FieldType.int), [], 3)
abbrev rX3_image : MRec := (yX3_image, cX3_image, 1, (Option.some Jvm.ClassFile.FieldType.int), [], 3)
abbrev rX3_in : MRec := (yX3_in, cX3_in, 3, (Option.some Jvm.ClassFile.FieldType.boolean), [], 3)
abbrev rX3_init : MRec := (yX3_init, cX3_init, 1, (Option.none : Option Jvm.ClassFile.FieldType), [], 3)
abbrev rX3_isBlocked : MRec := (yX3_isBlocked, cX3_isBlocked, 2, (Option.some Jvm.ClassFile.FieldType.boolean), [], 3)
abbrev rX3_isCell : MRec := (yX3_isCell, cX3_isCell, 1, (Option.some Jvm.ClassFile.FieldType.boolean), [], 3)
abbrev rX3_isFormed : MRec := (yX3_isFormed, cX3_isFormed, 3, (Option.some Jvm.ClassFile.FieldType.boolean), [], 3)
abbrev rX3_isLike : MRec := (yX3_isLike, cX3_isLike, 9, (Option.some Jvm.ClassFile.FieldType.boolean), [], 3)
abbrev rX3_isMember : MRec := (yX3_isMember, cX3_isMember, 2, (Option.some Jvm.ClassFile.FieldType.boolean), [], 3)
abbrev rX3_keeps : MRec := (yX3_keeps, cX3_keeps, 2, (Option.none : Option Jvm.ClassFile.FieldType), [], 3)
abbrev rX3_lays : MRec := (yX3_lays, cX3_lays, 4, (Option.none : Option Jvm.ClassFile.FieldType), [], 3)
abbrev rX3_lead : MRec := (yX3_lead, cX3_lead, 3, (Option.some Jvm.ClassFile.FieldType.int), [], 3)
abbrev rX3_leader : MRec := (yX3_leader, cX3_leader, 2, (Option.some Jvm.ClassFile.FieldType.int), [], 3)
abbrev rX3_leads : MRec := (yX3_leads, cX3_leads, 6, (Option.none : Option Jvm.ClassFile.FieldType), [], 3)
abbrev rX3_lose : MRec := (yX3_lose, cX3_lose, 2, (Option.some Jvm.ClassFile.FieldType.int), [], 3)
abbrev rX3_makes : MRec := (yX3_makes, cX3_makes, 4, (Option.some Jvm.ClassFile.FieldType.int), [], 3)
abbrev rX3_mayExchange : MRec := (yX3_mayExchange, cX3_mayExchange, 4, (Option.some Jvm.ClassFile.FieldType.boolean), [], 3)
abbrev rX3_member : MRec := (yX3_member, cX3_member, 4, (Option.some Jvm.ClassFile.FieldType.int), [], 3)
abbrev rX3_members : MRec := (yX3_members, cX3_members, 3, (Option.some Jvm.ClassFile.FieldType.int), [], 3)
abbrev rX3_number : MRec := (yX3_number, cX3_number, 3, (Option.some Jvm.ClassFile.FieldType.int), [], 3)
abbrev rX3_obstacle : MRec := (yX3_obstacle, cX3_obstacle, 2, (Option.some Jvm.ClassFile.FieldType.int), [], 3)
abbrev rX3_of : MRec := (yX3_of, cX3_of, 3, (Option.some Jvm.ClassFile.FieldType.int), [], 3)
abbrev rX3_on : MRec := (yX3_on, cX3_on, 3, (Option.some Jvm.ClassFile.FieldType.int), [], 3)
abbrev rX3_opens : MRec := (yX3_opens, cX3_opens, 4, (Option.some Jvm.ClassFile.FieldType.int), [], 3)
abbrev rX3_order : MRec := (yX3_order, cX3_order, 3, (Option.none : Option Jvm.ClassFile.FieldType), [], 3)
abbrev rX3_placeOf : MRec := (yX3_placeOf, cX3_placeOf, 5, (Option.some Jvm.ClassFile.FieldType.int), [], 3)
abbrev rX3_readsShape : MRec := (yX3_readsShape, cX3_readsShape, 5, (Option.none : Option Jvm.ClassFile.FieldType), [], 3)
abbrev rX3_reckons : MRec := (yX3_reckons, cX3_reckons, 6, (Option.none : Option Jvm.ClassFile.FieldType), [], 3)
abbrev rX3_recognized : MRec := (yX3_recognized, cX3_recognized, 4, (Option.some Jvm.ClassFile.FieldType.int), [], 3)
abbrev rX3_refusal : MRec := (yX3_refusal, cX3_refusal, 5, (Option.some Jvm.ClassFile.FieldType.int), [], 3)
abbrev rX3_refusal_2 : MRec := (yX3_refusal_2, cX3_refusal_2, 2, (Option.some Jvm.ClassFile.FieldType.int), [], 3)
abbrev rX3_round : MRec := (yX3_round, cX3_round, 5, (Option.none : Option Jvm.ClassFile.FieldType), [], 3)
abbrev rX3_rounds : MRec := (yX3_rounds, cX3_rounds, 2, (Option.some Jvm.ClassFile.FieldType.int), [], 3)
abbrev rX3_rowOf : MRec := (yX3_rowOf, cX3_rowOf, 3, (Option.some Jvm.ClassFile.FieldType.int), [], 3)
abbrev rX3_shape : MRec := (yX3_shape, cX3_shape, 3, (Option.some Jvm.ClassFile.FieldType.int), [], 3)
abbrev rX3_shapeAt : MRec := (yX3_shapeAt, cX3_shapeAt, 1, (Option.some Jvm.ClassFile.FieldType.int), [], 3)
abbrev rX3_slot : MRec := (yX3_slot, cX3_slot, 4, (Option.some Jvm.ClassFile.FieldType.int), [], 3)
abbrev rX3_slotAt : MRec := (yX3_slotAt, cX3_slotAt, 3, (Option.some Jvm.ClassFile.FieldType.int), [], 3)
abbrev rX3_slots : MRec := (yX3_slots, cX3_slots, 2, (Option.some Jvm.ClassFile.FieldType.int), [], 3)
abbrev rX3_steps : MRec := (yX3_steps, cX3_steps, 6, (Option.some Jvm.ClassFile.FieldType.boolean), [], 3)
abbrev rX3_stepsAside : MRec := (yX3_stepsAside, cX3_stepsAside, 4, (Option.some Jvm.ClassFile.FieldType.boolean), [], 3)
abbrev rX3_swarm : MRec := (yX3_swarm, cX3_swarm, 5, (Option.some Jvm.ClassFile.FieldType.int), [], 3)
abbrev rX3_target : MRec := (yX3_target, cX3_target, 3, (Option.some Jvm.ClassFile.FieldType.int), [], 3)
abbrev rX3_turnsBlocked : MRec := (yX3_turnsBlocked, cX3_turnsBlocked, 2, (Option.some Jvm.ClassFile.FieldType.int), [], 3)
abbrev rX3_turnsRound : MRec := (yX3_turnsRound, cX3_turnsRound, 6, (Option.none : Option Jvm.ClassFile.FieldType), [], 3)
abbrev rX3_undo : MRec := (yX3_undo, cX3_undo, 1, (Option.some Jvm.ClassFile.FieldType.int), [], 3)
abbrev rX3_waits : MRec := (yX3_waits, cX3_waits, 2, (Option.none : Option Jvm.ClassFile.FieldType), [], 3)
abbrev rX4_init : MRec := (yX4_init, cX4_init, 2, (Option.none : Option Jvm.ClassFile.FieldType), [], 4)
abbrev rX4_init_2 : MRec := (yX4_init_2, cX4_init_2, 3, (Option.none : Option Jvm.ClassFile.FieldType), [], 4)
abbrev rX5_command : MRec := (yX5_command, cX5_command, 5, (Option.some (Jvm.ClassFile.FieldType.object "SwarmPlanner$Command")), [], 5)
abbrev rX5_commands : MRec := (yX5_commands, cX5_commands, 2, (Option.some (Jvm.ClassFile.FieldType.object "java/util/ArrayList")), [], 5)
abbrev rX5_init : MRec := (yX5_init, cX5_init, 2, (Option.none : Option Jvm.ClassFile.FieldType), [], 5)
abbrev rX5_isSlot : MRec := (yX5_isSlot, cX5_isSlot, 1, (Option.some Jvm.ClassFile.FieldType.boolean), [], 5)
abbrev rX5_need : MRec := (yX5_need, cX5_need, 2, (Option.none : Option Jvm.ClassFile.FieldType), [], 5)
abbrev rX5_number : MRec := (yX5_number, cX5_number, 2, (Option.some Jvm.ClassFile.FieldType.int), [], 5)
abbrev rX5_shape : MRec := (yX5_shape, cX5_shape, 2, (Option.some (Jvm.ClassFile.FieldType.object "SwarmPlanner$Shape")), [], 5)
abbrev rX5_shapeRow : MRec := (yX5_shapeRow, cX5_shapeRow, 3, (Option.none : Option Jvm.ClassFile.FieldType), [], 5)
abbrev rX5_sign : MRec := (yX5_sign, cX5_sign, 1, (Option.some Jvm.ClassFile.FieldType.int), [], 5)
abbrev rX6_init : MRec := (yX6_init, cX6_init, 2, (Option.none : Option Jvm.ClassFile.FieldType), [], 6)
abbrev rX7_init : MRec := (yX7_init, cX7_init, 6, (Option.none : Option Jvm.ClassFile.FieldType), [], 7)
abbrev rX7_init_2 : MRec := (yX7_init_2, cX7_init_2, 4, (Option.none : Option Jvm.ClassFile.FieldType), [], 7)
abbrev rX7_lies : MRec := (yX7_lies, cX7_lies, 7, (Option.some Jvm.ClassFile.FieldType.boolean), [], 7)
abbrev rX7_size : MRec := (yX7_size, cX7_size, 1, (Option.some Jvm.ClassFile.FieldType.int), [], 7)
abbrev rX7_told : MRec := (yX7_told, cX7_told, 2, (Option.some Jvm.ClassFile.FieldType.int), [], 7)
abbrev rX7_turnedColumn : MRec := (yX7_turnedColumn, cX7_turnedColumn, 5, (Option.some Jvm.ClassFile.FieldType.int), [], 7)
abbrev rX7_turnedRow : MRec := (yX7_turnedRow, cX7_turnedRow, 5, (Option.some Jvm.ClassFile.FieldType.int), [], 7)
abbrev rX8_gives : MRec := (yX8_gives, cX8_gives, 5, (Option.none : Option Jvm.ClassFile.FieldType), [], 8)
abbrev rX8_init : MRec := (yX8_init, cX8_init, 4, (Option.none : Option Jvm.ClassFile.FieldType), [], 8)
abbrev rX8_sum : MRec := (yX8_sum, cX8_sum, 4, (Option.some Jvm.ClassFile.FieldType.int), [], 8)
abbrev rX8_with : MRec := (yX8_with, cX8_with, 3, (Option.some Jvm.ClassFile.FieldType.int), [], 8)
abbrev rX9_against : MRec := (yX9_against, cX9_against, 1, (Option.some Jvm.ClassFile.FieldType.int), [], 9)
abbrev rX9_cell : MRec := (yX9_cell, cX9_cell, 1, (Option.some Jvm.ClassFile.FieldType.int), [], 9)
abbrev rX9_does : MRec := (yX9_does, cX9_does, 2, (Option.none : Option Jvm.ClassFile.FieldType), [], 9)
abbrev rX9_init : MRec := (yX9_init, cX9_init, 5, (Option.none : Option Jvm.ClassFile.FieldType), [], 9)
abbrev rX9_isThere : MRec := (yX9_isThere, cX9_isThere, 1, (Option.some Jvm.ClassFile.FieldType.boolean), [], 9)
abbrev rJ0_init : MRec := (yJ0_init, cJ0_init, 1, (Option.none : Option Jvm.ClassFile.FieldType), [], 20)
abbrev rJ0_isEmpty : MRec := (yJ0_isEmpty, cJ0_isEmpty, 1, (Option.some Jvm.ClassFile.FieldType.boolean), [], 20)
abbrev rJ1_init : MRec := (yJ1_init, cJ1_init, 1, (Option.none : Option Jvm.ClassFile.FieldType), [], 21)
abbrev rJ2_add : MRec := (yJ2_add, cJ2_add, 2, (Option.some Jvm.ClassFile.FieldType.boolean), [], 22)
abbrev rJ2_add_2 : MRec := (yJ2_add_2, cJ2_add_2, 4, (Option.none : Option Jvm.ClassFile.FieldType), [], 22)
abbrev rJ2_clear : MRec := (yJ2_clear, cJ2_clear, 4, (Option.none : Option Jvm.ClassFile.FieldType), [], 22)
abbrev rJ2_elementData : MRec := (yJ2_elementData, cJ2_elementData, 2, (Option.some (Jvm.ClassFile.FieldType.object "java/lang/Object")), [], 22)
abbrev rJ2_fastRemove : MRec := (yJ2_fastRemove, cJ2_fastRemove, 4, (Option.none : Option Jvm.ClassFile.FieldType), [], 22)
abbrev rJ2_get : MRec := (yJ2_get, cJ2_get, 2, (Option.some (Jvm.ClassFile.FieldType.object "java/lang/Object")), [], 22)
abbrev rJ2_grow : MRec := (yJ2_grow, cJ2_grow, 1, (Option.some (Jvm.ClassFile.FieldType.array (Jvm.ClassFile.FieldType.object "java/lang/Object"))), [], 22)
abbrev rJ2_grow_2 : MRec := (yJ2_grow_2, cJ2_grow_2, 4, (Option.some (Jvm.ClassFile.FieldType.array (Jvm.ClassFile.FieldType.object "java/lang/Object"))), [], 22)
abbrev rJ2_init : MRec := (yJ2_init, cJ2_init, 1, (Option.none : Option Jvm.ClassFile.FieldType), [], 22)
abbrev rJ2_isEmpty : MRec := (yJ2_isEmpty, cJ2_isEmpty, 1, (Option.some Jvm.ClassFile.FieldType.boolean), [], 22)
abbrev rJ2_remove : MRec := (yJ2_remove, cJ2_remove, 4, (Option.some (Jvm.ClassFile.FieldType.object "java/lang/Object")), [], 22)
abbrev rJ2_size : MRec := (yJ2_size, cJ2_size, 1, (Option.some Jvm.ClassFile.FieldType.int), [], 22)
abbrev rJ3_hugeLength : MRec := (yJ3_hugeLength, cJ3_hugeLength, 3, (Option.some Jvm.ClassFile.FieldType.int), [], 23)
abbrev rJ3_newLength : MRec := (yJ3_newLength, cJ3_newLength, 4, (Option.some Jvm.ClassFile.FieldType.int), [], 23)
abbrev rJ4_max : MRec := (yJ4_max, cJ4_max, 2, (Option.some Jvm.ClassFile.FieldType.int), [], 24)
abbrev rJ4_min : MRec := (yJ4_min, cJ4_min, 2, (Option.some Jvm.ClassFile.FieldType.int), [], 24)
abbrev rJ5_copyOf : MRec := (yJ5_copyOf, cJ5_copyOf, 2, (Option.some (Jvm.ClassFile.FieldType.array (Jvm.ClassFile.FieldType.object "java/lang/Object"))), [], 25)
abbrev rJ5_copyOf_2 : MRec := (yJ5_copyOf_2, cJ5_copyOf_2, 4, (Option.some (Jvm.ClassFile.FieldType.array (Jvm.ClassFile.FieldType.object "java/lang/Object"))), [], 25)
abbrev rJ5_fill : MRec := (yJ5_fill, cJ5_fill, 4, (Option.none : Option Jvm.ClassFile.FieldType), [], 25)
abbrev rJ6_checkIndex : MRec := (yJ6_checkIndex, cJ6_checkIndex, 2, (Option.some Jvm.ClassFile.FieldType.int), [], 26)
abbrev rJ7_checkIndex : MRec := (yJ7_checkIndex, cJ7_checkIndex, 3, (Option.some Jvm.ClassFile.FieldType.int), [], 27)
abbrev rJ8_init : MRec := (yJ8_init, cJ8_init, 1, (Option.none : Option Jvm.ClassFile.FieldType), [], 28)
abbrev rJ8_init_2 : MRec := (yJ8_init_2, cJ8_init_2, 5, (Option.none : Option Jvm.ClassFile.FieldType), [], 28)
abbrev rJ9_init : MRec := (yJ9_init, cJ9_init, 5, (Option.none : Option Jvm.ClassFile.FieldType), [], 29)
abbrev rJ10_init : MRec := (yJ10_init, cJ10_init, 1, (Option.none : Option Jvm.ClassFile.FieldType), [], 30)
abbrev rJ10_remove : MRec := (yJ10_remove, cJ10_remove, 2, (Option.some (Jvm.ClassFile.FieldType.object "java/lang/Object")), [], 30)
abbrev rJ11_add : MRec := (yJ11_add, cJ11_add, 2, (Option.some Jvm.ClassFile.FieldType.boolean), [], 31)
abbrev rJ11_grow : MRec := (yJ11_grow, cJ11_grow, 4, (Option.none : Option Jvm.ClassFile.FieldType), [], 31)
abbrev rJ11_init : MRec := (yJ11_init, cJ11_init, 3, (Option.none : Option Jvm.ClassFile.FieldType), [], 31)
abbrev rJ11_offer : MRec := (yJ11_offer, cJ11_offer, 3, (Option.some Jvm.ClassFile.FieldType.boolean), [], 31)
abbrev rJ11_poll : MRec := (yJ11_poll, cJ11_poll, 6, (Option.some (Jvm.ClassFile.FieldType.object "java/lang/Object")), [], 31)
abbrev rJ11_siftDownComparable : MRec := (yJ11_siftDownComparable, cJ11_siftDownComparable, 9, (Option.none : Option Jvm.ClassFile.FieldType), [], 31)
abbrev rJ11_siftDownUsingComparator : MRec := (yJ11_siftDownUsingComparator, cJ11_siftDownUsingComparator, 9, (Option.none : Option Jvm.ClassFile.FieldType), [], 31)
abbrev rJ11_siftUp : MRec := (yJ11_siftUp, cJ11_siftUp, 3, (Option.none : Option Jvm.ClassFile.FieldType), [], 31)
abbrev rJ11_siftUpComparable : MRec := (yJ11_siftUpComparable, cJ11_siftUpComparable, 6, (Option.none : Option Jvm.ClassFile.FieldType), [], 31)
abbrev rJ11_siftUpUsingComparator : MRec := (yJ11_siftUpUsingComparator, cJ11_siftUpUsingComparator, 6, (Option.none : Option Jvm.ClassFile.FieldType), [], 31)
abbrev rJ11_size : MRec := (yJ11_size, cJ11_size, 1, (Option.some Jvm.ClassFile.FieldType.int), [], 31)
abbrev rJ12_init : MRec := (yJ12_init, cJ12_init, 1, (Option.none : Option Jvm.ClassFile.FieldType), [], 32)
abbrev rL_law : MRec := (x, code, maxLocals, ret, [], 40)
/-- fields: class, place, type, final -/
def tF : List (Nat × (Nat × Nat × FieldType × Bool)) := [(19, (0, 1, .object "SwarmPlanner$World", false)),
  (23, (1, 0, .array .boolean, true)),
  (29, (0, 0, .array .int, true)),
  (42, (0, 3, .array .int, true)),
  (45, (0, 4, .array (.array .int), true)),
  (49, (4, 1, .int, false)),
  (59, (1, 3, .array (.object "SwarmPlanner$Shape"), true)),
  (63, (1, 7, .int, false)),
  (71, (0, 6, .int, false)),
  (74, (0, 7, .int, false)),
  (77, (7, 2, .int, true)),
  (80, (1, 2, .array (.object "SwarmPlanner$Member"), true)),
  (84, (7, 0, .array .int, true)),
  (87, (7, 1, .array .int, true)),
  (98, (0, 5, .array .int, true)),
  (109, (4, 0, .int, true)),
  (132, (4, 4, .int, false)),
  (135, (4, 3, .int, false)),
  (138, (4, 5, .int, false)),
  (141, (1, 4, .array .int, true)),
  (144, (1, 6, .int, false)),
  (147, (0, 8, .array .int, true)),
  (150, (1, 1, .array .int, true)),
  (170, (4, 2, .int, false)),
  (193, (4, 6, .int, false)),
  (201, (0, 11, .object "java/util/Comparator", true)),
  (215, (0, 10, .object "java/util/ArrayList", true)),
  (247, (0, 2, .array (.array .int), true)),
  (250, (0, 9, .array .boolean, true)),
  (259, (0, 12, .object "java/util/ArrayList", true)),
  (262, (0, 13, .array .byte, true)),
  (266, (0, 15, .array .int, true)),
  (269, (0, 16, .int, false)),
  (272, (0, 17, .int, false)),
  (275, (0, 18, .array .int, true)),
  (278, (0, 19, .array .int, true)),
  (310, (1, 5, .int, false)),
  (322, (0, 14, .int, false)),
  (337, (6, 6, .int, true)),
  (421, (0, 20, .object "SwarmPlanner$World", false)),
  (65545, (1, 0, .array .boolean, true)),
  (65551, (1, 1, .array .int, true)),
  (65557, (1, 2, .array (.object "SwarmPlanner$Member"), true)),
  (65563, (1, 3, .array (.object "SwarmPlanner$Shape"), true)),
  (65567, (1, 4, .array .int, true)),
  (65570, (1, 5, .int, false)),
  (65574, (1, 6, .int, false)),
  (65591, (1, 7, .int, false)),
  (65606, (4, 1, .int, false)),
  (65609, (4, 0, .int, true)),
  (131073, (2, 0, .object "SwarmPlanner", true)),
  (131091, (4, 0, .int, true)),
  (196617, (3, 0, .array .int, true)),
  (196621, (3, 3, .array .int, true)),
  (196624, (3, 4, .array .int, true)),
  (196627, (3, 5, .array .int, true)),
  (196630, (3, 6, .array .int, true)),
  (196633, (3, 7, .array .int, true)),
  (196636, (3, 10, .array .int, true)),
  (196639, (3, 11, .array .int, true)),
  (196642, (3, 12, .array .int, true)),
  (196645, (3, 13, .array .int, true)),
  (196648, (3, 14, .array .int, true)),
  (196651, (3, 18, .array .int, true)),
  (196654, (3, 19, .array .int, true)),
  (196657, (3, 1, .int, false)),
  (196703, (3, 8, .int, false)),
  (196706, (3, 9, .int, false)),
  (196780, (3, 15, .int, false)),
  (196783, (3, 16, .int, false)),
  (196786, (3, 17, .int, false)),
  (196795, (3, 20, .int, false)),
  (196808, (3, 21, .int, false)),
  (196811, (3, 22, .int, false)),
  (196827, (3, 23, .int, false)),
  (196830, (3, 24, .int, false)),
  (196842, (3, 2, .boolean, false)),
  (262153, (4, 2, .int, false)),
  (262159, (4, 0, .int, true)),
  (262162, (4, 1, .int, false)),
  (262168, (4, 3, .int, false)),
  (262171, (4, 4, .int, false)),
  (262174, (4, 5, .int, false)),
  (262177, (4, 6, .int, false)),
  (327683, (5, 5, .object "SwarmPlanner", true)),
  (327695, (5, 0, .array .int, true)),
  (327699, (5, 1, .array .int, true)),
  (327702, (5, 3, .int, false)),
  (327706, (5, 4, .int, false)),
  (327709, (0, 14, .int, false)),
  (327712, (0, 13, .array .byte, true)),
  (327733, (5, 2, .int, false)),
  (393223, (6, 6, .int, true)),
  (458761, (7, 0, .array .int, true)),
  (458767, (7, 1, .array .int, true)),
  (458770, (7, 2, .int, true)),
  (524291, (8, 3, .object "SwarmPlanner", true)),
  (524303, (8, 0, .object "SwarmPlanner$Member", true)),
  (524307, (8, 1, .object "SwarmPlanner$Chain", true)),
  (524311, (0, 2, .array (.array .int), true)),
  (524315, (4, 0, .int, true)),
  (524321, (8, 2, .array .int, true)),
  (524331, (0, 4, .array (.array .int), true)),
  (524334, (4, 1, .int, false)),
  (524341, (0, 6, .int, false)),
  (524361, (0, 5, .array .int, true)),
  (589827, (9, 3, .object "SwarmPlanner", true)),
  (589839, (9, 0, .int, true)),
  (589843, (9, 1, .int, true)),
  (589846, (9, 2, .int, true)),
  (589861, (0, 1, .object "SwarmPlanner$World", false)),
  (589865, (1, 1, .array .int, true)),
  (589889, (1, 6, .int, false)),
  (589892, (1, 5, .int, false)),
  (1376263, (10, 0, .int, false)),
  (1441801, (10, 1, .array (.object "java/lang/Object"), false)),
  (1441840, (10, 2, .int, false)),
  (1441855, (10, 0, .int, false)),
  (1835015, (6, 0, .object "java/lang/Throwable", false)),
  (1835025, (6, 1, .array (.object "java/lang/StackTraceElement"), false)),
  (1835032, (6, 2, .object "java/util/List", false)),
  (1835039, (6, 3, .object "java/lang/String", false)),
  (2031633, (11, 0, .array (.object "java/lang/Object"), false)),
  (2031637, (11, 2, .object "java/util/Comparator", true)),
  (2031674, (11, 1, .int, false)),
  (2031709, (11, 3, .int, false))]
/-- statics -/
def tS : List (Nat × Nat) := [(7, 0),
  (11, 1),
  (1441831, 2),
  (1835021, 3),
  (1835028, 4)]
/-- int constants -/
def tK : List (Nat × Int32) := [(18, 16777216),
  (1507528, 2147483639)]
/-- new: class, fields at first -/
def tN : List (Nat × (Nat × List MV)) := [(24, (1, [.inr none, .inr none, .inr none, .inr none, .inr none, .inl 0, .inl 0, .inl 0])),
  (37, (8, [.inr none, .inr none, .inr none, .inr none])),
  (50, (4, [.inl 0, .inl 0, .inl 0, .inl 0, .inl 0, .inl 0, .inl 0])),
  (199, (11, [.inr none, .inl 0, .inr none, .inl 0])),
  (220, (10, [.inl 0, .inr none, .inl 0])),
  (254, (2, [.inr none])),
  (329, (5, [.inr none, .inr none, .inl 0, .inl 0, .inl 0, .inr none])),
  (65555, (4, [.inl 0, .inl 0, .inl 0, .inl 0, .inl 0, .inl 0, .inl 0])),
  (327716, (6, [.inr none, .inr none, .inr none, .inr none, .inr none, .inl 0, .inl 0])),
  (327739, (7, [.inr none, .inr none, .inl 0])),
  (327751, (9, [.inl 0, .inl 0, .inl 0, .inr none])),
  (327756, (10, [.inl 0, .inr none, .inl 0])),
  (2621447, (0, [.inr none, .inr none, .inr none, .inr none, .inr none, .inr none, .inl 0, .inl 0, .inr none, .inr none, .inr none, .inr none, .inr none, .inr none, .inl 0, .inr none, .inl 0, .inl 0, .inr none, .inr none, .inr none])),
  (2621450, (3, [.inr none, .inl 0, .inl 0, .inr none, .inr none, .inr none, .inr none, .inr none, .inl 0, .inl 0, .inr none, .inr none, .inr none, .inr none, .inr none, .inl 0, .inl 0, .inl 0, .inr none, .inr none, .inl 0, .inl 0, .inl 0, .inl 0, .inl 0]))]
/-- anewarray: tag -/
def tA : List (Nat × Nat) := [(65555, 1),
  (65561, 2),
  (1441799, 0),
  (1638402, 0),
  (2031631, 0)]
/-- checkcast: class -/
def tX : List (Nat × Nat) := [(24, 1),
  (50, 4),
  (352, 9),
  (131092, 4)]
/-- invokevirtual: method, arguments, class of the receiver -/
def tV : List (Nat × (MRec × Nat × Nat)) := [(36, (rX8_sum, 1, 8)),
  (55, (rX1_leads, 0, 1)),
  (66, (rX7_size, 0, 7)),
  (90, (rX0_lays, 2, 0)),
  (94, (rX0_laysPlaces, 0, 0)),
  (105, (rX8_gives, 1, 8)),
  (116, (rX0_distanceOf, 1, 0)),
  (120, (rX0_gives, 0, 0)),
  (122, (rX0_distances, 0, 0)),
  (125, (rX0_given, 0, 0)),
  (128, (rX1_moves, 2, 1)),
  (153, (rX0_steps, 2, 0)),
  (155, (rX0_waits, 1, 0)),
  (158, (rX0_isGood, 2, 0)),
  (162, (rX1_isFree, 1, 1)),
  (166, (rX0_gains, 2, 0)),
  (173, (rX0_asideOf, 1, 0)),
  (176, (rX0_freeFor, 1, 0)),
  (179, (rX0_partnerOf, 1, 0)),
  (183, (rX0_waitsOrGoes, 1, 0)),
  (186, (rX1_exchanges, 2, 1)),
  (190, (rX0_isExchanged, 1, 0)),
  (196, (rX0_leaderActs, 1, 0)),
  (208, (rX0_begins, 2, 0)),
  (211, (rJ11_add, 1, 11)),
  (219, (rJ2_clear, 0, 10)),
  (224, (rJ0_isEmpty, 0, 11)),
  (228, (rJ10_remove, 0, 11)),
  (232, (rJ2_add, 1, 10)),
  (233, (rJ2_size, 0, 10)),
  (234, (rJ2_get, 1, 10)),
  (238, (rX0_acts, 1, 0)),
  (284, (rJ2_remove, 1, 10)),
  (286, (rX0_added, 0, 0)),
  (292, (rX0_againstAdding, 2, 0)),
  (295, (rX0_changes, 0, 0)),
  (298, (rX0_adds, 2, 0)),
  (301, (rX1_isMember, 1, 1)),
  (304, (rX1_loses, 1, 1)),
  (307, (rX1_many, 0, 1)),
  (316, (rX0_turns, 1, 0)),
  (332, (rX5_shape, 0, 5)),
  (340, (rX0_round, 0, 0)),
  (343, (rX0_notesCells, 0, 0)),
  (346, (rX0_makes, 1, 0)),
  (349, (rX0_elsewhere, 0, 0)),
  (354, (rX9_against, 0, 9)),
  (357, (rX9_does, 0, 9)),
  (360, (rX5_commands, 0, 5)),
  (364, (rX0_carriesOut, 1, 0)),
  (368, (rX0_placeOf, 1, 0)),
  (371, (rX0_isFormed, 0, 0)),
  (374, (rX0_slotAt, 1, 0)),
  (377, (rX0_wayOf, 2, 0)),
  (380, (rX0_openAround, 1, 0)),
  (383, (rX0_isShape, 1, 0)),
  (386, (rX7_told, 1, 7)),
  (389, (rX7_lies, 4, 7)),
  (393, (rX0_isSeen, 2, 0)),
  (397, (rX0_formsWithin, 1, 0)),
  (400, (rX0_thinks, 2, 0)),
  (408, (rX0_givesTo, 2, 0)),
  (417, (rX0_goesOn, 1, 0)),
  (420, (rJ2_isEmpty, 0, 10)),
  (424, (rX0_shapes, 0, 0)),
  (65578, (rX1_becomes, 1, 1)),
  (65602, (rX1_isMember, 1, 1)),
  (131085, (rX0_distanceOf, 1, 0)),
  (131097, (rX2_compare_2, 2, 2)),
  (196661, (rX3_copies, 2, 3)),
  (196669, (rX3_of, 2, 3)),
  (196673, (rX3_isMember, 1, 3)),
  (196677, (rX3_isBlocked, 1, 3)),
  (196683, (rX3_floods, 2, 3)),
  (196690, (rX3_anchor, 1, 3)),
  (196693, (rX3_leader, 0, 3)),
  (196697, (rX3_column, 2, 3)),
  (196700, (rX3_rowOf, 2, 3)),
  (196709, (rX3_slots, 1, 3)),
  (196712, (rX3_placeOf, 1, 3)),
  (196715, (rX3_reckons, 1, 3)),
  (196719, (rX3_gives, 0, 3)),
  (196722, (rX3_lays, 3, 3)),
  (196726, (rX3_counts, 2, 3)),
  (196729, (rX3_on, 1, 3)),
  (196732, (rX3_waits, 1, 3)),
  (196735, (rX3_goes, 2, 3)),
  (196738, (rX3_mayExchange, 3, 3)),
  (196741, (rX3_steps, 3, 3)),
  (196744, (rX3_exchanges, 3, 3)),
  (196747, (rX3_stepsAside, 1, 3)),
  (196750, (rX3_leads, 0, 3)),
  (196753, (rX3_acts, 1, 3)),
  (196756, (rX3_round, 0, 3)),
  (196759, (rX3_keeps, 0, 3)),
  (196762, (rX3_makes, 1, 3)),
  (196765, (rX3_members, 0, 3)),
  (196768, (rX3_opens, 1, 3)),
  (196771, (rX3_goesLost, 1, 3)),
  (196777, (rX3_turnsBlocked, 1, 3)),
  (196789, (rX3_here, 0, 3)),
  (196792, (rX3_readsShape, 0, 3)),
  (196798, (rX3_number, 0, 3)),
  (196801, (rX3_order, 0, 3)),
  (196804, (rX3_refusal, 3, 3)),
  (196814, (rX3_carries, 3, 3)),
  (196817, (rX3_isFormed, 0, 3)),
  (196821, (rX3_slotAt, 1, 3)),
  (196824, (rX3_distanceOf, 2, 3)),
  (196833, (rX3_turnsRound, 3, 3)),
  (196836, (rX3_isLike, 3, 3)),
  (196839, (rX3_forms, 1, 3)),
  (327721, (rX5_sign, 0, 5)),
  (327725, (rX5_isSlot, 0, 5)),
  (327729, (rX5_need, 1, 5)),
  (327736, (rX5_shapeRow, 1, 5)),
  (327748, (rX5_number, 0, 5)),
  (327759, (rX5_command, 0, 5)),
  (327763, (rJ2_add, 1, 10)),
  (458777, (rX7_size, 0, 7)),
  (458785, (rX7_turnedColumn, 2, 7)),
  (458789, (rX7_turnedRow, 2, 7)),
  (524344, (rX0_isGiveable, 3, 0)),
  (524348, (rX8_with, 2, 8)),
  (524357, (rX8_sum, 1, 8)),
  (524364, (rX8_gives, 1, 8)),
  (589853, (rX0_againstAdding, 2, 0)),
  (589857, (rX9_isThere, 0, 9)),
  (589871, (rX9_cell, 0, 9)),
  (589875, (rX1_leads, 0, 1)),
  (589878, (rX1_isMember, 1, 1)),
  (589882, (rX0_adds, 2, 0)),
  (589885, (rX0_turns, 1, 0)),
  (589895, (rX1_loses, 1, 1)),
  (589899, (rX0_makes, 1, 0)),
  (1310727, (rJ11_size, 0, 11)),
  (1441861, (rJ2_grow_2, 1, 10)),
  (1441915, (rJ2_elementData, 1, 10)),
  (1441921, (rJ2_grow, 0, 10)),
  (1441923, (rJ2_add_2, 3, 10)),
  (1441936, (rJ2_fastRemove, 2, 10)),
  (1966100, (rJ11_poll, 0, 11)),
  (2031705, (rJ11_offer, 1, 11)),
  (2031712, (rJ11_grow, 1, 11)),
  (2031716, (rJ11_siftUp, 2, 11)),
  (2621453, (rX0_add, 2, 0)),
  (2621457, (rX3_add, 2, 3)),
  (2621458, (rX0_lose, 1, 0)),
  (2621462, (rX3_lose, 1, 3)),
  (2621463, (rX0_lead, 1, 0)),
  (2621466, (rX3_lead, 1, 3)),
  (2621467, (rX0_target, 1, 0)),
  (2621470, (rX3_target, 1, 3)),
  (2621471, (rX0_obstacle, 1, 0)),
  (2621474, (rX3_obstacle, 1, 3)),
  (2621475, (rX0_feed, 6, 0)),
  (2621479, (rX3_feed, 6, 3)),
  (2621480, (rX0_shape, 1, 0)),
  (2621483, (rX3_shape, 1, 3)),
  (2621484, (rX0_choose, 1, 0)),
  (2621487, (rX3_choose, 1, 3)),
  (2621488, (rX0_rounds, 1, 0)),
  (2621491, (rX3_rounds, 1, 3)),
  (2621492, (rX0_execute, 0, 0)),
  (2621496, (rX3_execute, 0, 3)),
  (2621497, (rX0_refusal, 1, 0)),
  (2621500, (rX3_refusal_2, 1, 3)),
  (2621501, (rX0_member, 2, 0)),
  (2621504, (rX3_member, 2, 3)),
  (2621505, (rX0_swarm, 1, 0)),
  (2621508, (rX3_swarm, 1, 3)),
  (2621509, (rX0_cell, 2, 0)),
  (2621512, (rX3_cell, 2, 3)),
  (2621513, (rX0_distance, 2, 0)),
  (2621516, (rX3_distance, 2, 3)),
  (2621517, (rX0_slot, 2, 0)),
  (2621520, (rX3_slot, 2, 3)),
  (2621521, (rX0_recognized, 1, 0)),
  (2621524, (rX3_recognized, 1, 3)),
  (2621525, (rX0_healed, 1, 0)),
  (2621528, (rX3_healed, 1, 3)),
  (2621529, (rX0_healedWithout, 2, 0)),
  (2621532, (rX3_healedWithout, 2, 3)),
  (2621533, (rX0_again, 0, 0)),
  (2621536, (rX3_again, 0, 3)),
  (2621537, (rX0_account, 1, 0)),
  (2621540, (rX3_account, 1, 3)),
  (2621541, (rX0_back, 0, 0)),
  (2621544, (rX3_back, 0, 3)),
  (2621545, (rX0_image, 0, 0)),
  (2621548, (rX3_image, 0, 3)),
  (2621549, (rX0_undo, 0, 0)),
  (2621552, (rX3_undo, 0, 3)),
  (2621553, (rX0_count, 1, 0)),
  (2621556, (rX3_count, 1, 3))]
/-- invokeinterface -/
def tF5 : List (Nat × (MRec × Nat × Nat)) := [(2031765, (rX2_compare, 2, 2))]
/-- invokespecial -/
def tI : List (Nat × (MRec × Nat)) := [(101, (rX8_init, 3)),
  (205, (rJ11_init, 2)),
  (245, (rX1_init, 0)),
  (253, (rJ2_init, 0)),
  (256, (rX2_init, 1)),
  (281, (rX1_init_2, 1)),
  (289, (rX4_init_2, 2)),
  (331, (rX5_init, 1)),
  (65577, (rX1_init, 0)),
  (65588, (rX4_init, 1)),
  (262165, (rX4_init_2, 2)),
  (327718, (rX6_init, 1)),
  (327741, (rX7_init, 4)),
  (327753, (rX9_init, 4)),
  (327758, (rJ2_init, 0)),
  (393217, (rJ9_init, 4)),
  (458774, (rX7_init_2, 3)),
  (1376257, (rJ0_init, 0)),
  (1441793, (rJ1_init, 0)),
  (1900560, (rJ8_init_2, 4)),
  (1966081, (rJ0_init, 0)),
  (2031623, (rJ10_init, 0)),
  (2621449, (rX0_init, 0)),
  (2621452, (rX3_init, 0))]
/-- invokestatic -/
def tSt : List (Nat × (MRec × Nat)) := [(3, (rX0_in, 3)),
  (14, (rX0_shifted, 3)),
  (32, (rX0_neighbor, 2)),
  (112, (rX0_bit, 1)),
  (313, (rX0_isCell, 1)),
  (318, (rX0_areSigns, 1)),
  (325, (rX0_row, 1)),
  (65594, (rX0_in, 3)),
  (65598, (rX0_bit, 1)),
  (196665, (rX3_in, 3)),
  (196680, (rX3_beside, 2)),
  (196686, (rX3_shapeAt, 1)),
  (196774, (rX3_isCell, 1)),
  (327744, (rX0_in, 3)),
  (458781, (rX0_in, 3)),
  (458792, (rX0_shifted, 3)),
  (524325, (rJ5_fill, 2)),
  (524337, (rX0_best, 2)),
  (589849, (rX0_in, 3)),
  (1441858, (rJ5_copyOf, 2)),
  (1441865, (rJ3_newLength, 3)),
  (1441910, (rJ6_checkIndex, 2)),
  (1507529, (rJ3_hugeLength, 2)),
  (1638700, (rJ5_copyOf_2, 3)),
  (1704041, (rJ7_checkIndex, 3)),
  (2031696, (rJ3_newLength, 3)),
  (2031702, (rJ5_copyOf, 2)),
  (2031741, (rJ11_siftDownComparable, 4)),
  (2031745, (rJ11_siftDownUsingComparator, 5)),
  (2031752, (rJ11_siftUpUsingComparator, 4)),
  (2031756, (rJ11_siftUpComparable, 3))]
/-- System.arraycopy -/
def tCopy : List (Nat × Unit) := [(411, ()),
  (65582, ()),
  (1441904, ()),
  (1638550, ())]
/-- Object.<init> -/
def tObj : List (Nat × Unit) := [(241, ()),
  (65539, ()),
  (131079, ()),
  (196611, ()),
  (262147, ()),
  (327689, ()),
  (458755, ()),
  (524297, ()),
  (589833, ()),
  (1310721, ()),
  (1835009, ())]
/-- Math.min: true, Math.max: false -/
def tMath : List (Nat × Bool) := [(403, true),
  (524352, true),
  (1441871, false),
  (1507522, false),
  (1638704, true)]
/-- multianewarray of int[][] -/
def tMulti : List (Nat × Unit) := [(246, ())]
